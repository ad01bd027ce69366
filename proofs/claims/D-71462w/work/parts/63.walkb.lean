set_option maxHeartbeats 4000000 in
set_option maxRecDepth 100000 in
theorem ct_X8_init {l : Launch} {D : va_G} {E : Ety} {a : Nat} {isImage : Int32} {taped : Int32} {above : Int32} {below : Int32} {fallen : Int32} {torn : Int32} {at_ : Int32} {start : Int32} {number : Int32}  (hf : f_X8_init  = some ()) : Ct l yX8_init cX8_init 2 none 1 20 12 1930 D E [.ref a] [(a, .inr (8, [.null, .int isImage, .null, .int taped, .null, .null, .null, .null, .null, .int above, .int below, .null, .int fallen, .int torn, .int at_, .int start, .int number, .null, .null, .null, .null]))] (fun v w => ∃ q1 q2 q3 q4 q5 q6 q7 q8 q9 q10 q11 q12 : Nat, v = none ∧ w = [(a, .inr (8, [.ref q1, .int isImage, .ref q2, .int taped, .ref q3, .ref q4, .ref q5, .ref q6, .ref q7, .int above, .int below, .ref q8, .int fallen, .int torn, .int at_, .int start, .int number, .ref q9, .ref q10, .ref q11, .ref q12])), (q1, .inl (E 1, 1142, .inl (upd (upd (upd (fun _ => 0) (1 : Int32).toNatClampNeg 20) (2 : Int32).toNatClampNeg 8) (3 : Int32).toNatClampNeg 1))), (q2, .inl (E 1, 90, .inl (fun _ => 0))), (q3, .inl (E 1, 4, .inl (upd (upd (upd (upd (fun _ => 0) (0 : Int32).toNatClampNeg (-1)) (1 : Int32).toNatClampNeg (-1)) (2 : Int32).toNatClampNeg (-1)) (3 : Int32).toNatClampNeg (-1)))), (q4, .inl (E 1, 4, .inl (fun _ => 0))), (q5, .inl (E 2, 96, .inr (.inl (fun _ => 0)))), (q6, .inl (E 1, 8, .inl (fun _ => 0))), (q7, .inl (E 1, 8, .inl (fun _ => 0))), (q8, .inl (E 1, 8, .inl (fun _ => 0))), (q9, .inl (E 1, 60, .inl (fun _ => 0))), (q10, .inl (E 1, 243, .inl (fun _ => 0))), (q11, .inl (E 1, 243, .inl (fun _ => 0))), (q12, .inl (E 2, 24, .inr (.inl (fun _ => 0))))]) := by
  refine ct_of (own := RX8) (plainFor_of_name (by decide)) rfl (fle rfl) rfl ?_
  intro X hl hD hE hnL hXF h hR hF hnm
  subst hl; subst hD; subst hE
  have hL : ∀ i, i < 2 → i < X.nL := fun i hi => by rw [hnL]; exact hi
  unfold f_X8_init at hf
  refine g_aload_n h 0 dX8_init_0 rfl rfl ?_
  refine g_objInit h hR q1165 q255 q256 (fle rfl) (fle rfl) dX8_init_1 ?_
  refine g_aload_n h 0 dX8_init_4 rfl rfl ?_
  refine g_sipush (v := 1142) h dX8_init_5 ksipush_1142 ?_
  refine g_newa (at0 := .int) (ty := .int) (n := 1142) (N := 1142) (t0 := 1) (a0 := (1142, .inl (fun _ => 0))) h hR q605 rfl rfl rfl (fun _ => rfl) (by decide) (by decide) (by decide) (fle rfl) (fle rfl) dX8_init_8 (fun q1 => ?_)
  refine G.sub (ws' := [(a, .inr (8, [.null, .int isImage, .null, .int taped, .null, .null, .null, .null, .null, .int above, .int below, .null, .int fallen, .int torn, .int at_, .int start, .int number, .null, .null, .null, .null])), (q1, .inl (X.E 1, 1142, .inl (fun _ => 0)))]) [0, 1] rfl rfl ?_
  refine g_putF (ci := 8) (ty := tyX8 0) (ws' := [(a, .inr (8, [.ref q1, .int isImage, .null, .int taped, .null, .null, .null, .null, .null, .int above, .int below, .null, .int fallen, .int torn, .int at_, .int start, .int number, .null, .null, .null, .null])), (q1, .inl (X.E 1, 1142, .inl (fun _ => 0)))]) h in_X8 tyX8 tyX8_ok nmX8 hnm 0 0 rfl rfl (fle rfl) ⟨rfl, rfl, rfl⟩ q1166 rfl rfl rfl (fle rfl) rfl dX8_init_10 ?_
  refine g_aload_n h 0 dX8_init_13 rfl rfl ?_
  refine g_bipush (v := 90) h dX8_init_14 kbipush_90 ?_
  refine g_newa (at0 := .int) (ty := .int) (n := 90) (N := 90) (t0 := 1) (a0 := (90, .inl (fun _ => 0))) h hR q605 rfl rfl rfl (fun _ => rfl) (by decide) (by decide) (by decide) (fle rfl) (fle rfl) dX8_init_16 (fun q2 => ?_)
  refine G.sub (ws' := [(a, .inr (8, [.ref q1, .int isImage, .null, .int taped, .null, .null, .null, .null, .null, .int above, .int below, .null, .int fallen, .int torn, .int at_, .int start, .int number, .null, .null, .null, .null])), (q1, .inl (X.E 1, 1142, .inl (fun _ => 0))), (q2, .inl (X.E 1, 90, .inl (fun _ => 0)))]) [0, 1, 2] rfl rfl ?_
  refine g_putF (ci := 8) (ty := tyX8 2) (ws' := [(a, .inr (8, [.ref q1, .int isImage, .ref q2, .int taped, .null, .null, .null, .null, .null, .int above, .int below, .null, .int fallen, .int torn, .int at_, .int start, .int number, .null, .null, .null, .null])), (q1, .inl (X.E 1, 1142, .inl (fun _ => 0))), (q2, .inl (X.E 1, 90, .inl (fun _ => 0)))]) h in_X8 tyX8 tyX8_ok nmX8 hnm 0 2 rfl rfl (fle rfl) ⟨rfl, rfl, rfl⟩ q1168 rfl rfl rfl (fle rfl) rfl dX8_init_18 ?_
  refine g_aload_n h 0 dX8_init_21 rfl rfl ?_
  refine g_iconst (v := 4) h dX8_init_22 kiconst_4 ?_
  refine g_newa (at0 := .int) (ty := .int) (n := 4) (N := 4) (t0 := 1) (a0 := (4, .inl (fun _ => 0))) h hR q605 rfl rfl rfl (fun _ => rfl) (by decide) (by decide) (by decide) (fle rfl) (fle rfl) dX8_init_23 (fun q3 => ?_)
  refine G.sub (ws' := [(a, .inr (8, [.ref q1, .int isImage, .ref q2, .int taped, .null, .null, .null, .null, .null, .int above, .int below, .null, .int fallen, .int torn, .int at_, .int start, .int number, .null, .null, .null, .null])), (q1, .inl (X.E 1, 1142, .inl (fun _ => 0))), (q2, .inl (X.E 1, 90, .inl (fun _ => 0))), (q3, .inl (X.E 1, 4, .inl (fun _ => 0)))]) [0, 1, 2, 3] rfl rfl ?_
  refine g_putF (ci := 8) (ty := tyX8 4) (ws' := [(a, .inr (8, [.ref q1, .int isImage, .ref q2, .int taped, .ref q3, .null, .null, .null, .null, .int above, .int below, .null, .int fallen, .int torn, .int at_, .int start, .int number, .null, .null, .null, .null])), (q1, .inl (X.E 1, 1142, .inl (fun _ => 0))), (q2, .inl (X.E 1, 90, .inl (fun _ => 0))), (q3, .inl (X.E 1, 4, .inl (fun _ => 0)))]) h in_X8 tyX8 tyX8_ok nmX8 hnm 0 4 rfl rfl (fle rfl) ⟨rfl, rfl, rfl⟩ q1170 rfl rfl rfl (fle rfl) rfl dX8_init_25 ?_
  refine g_aload_n h 0 dX8_init_28 rfl rfl ?_
  refine g_iconst (v := 4) h dX8_init_29 kiconst_4 ?_
  refine g_newa (at0 := .int) (ty := .int) (n := 4) (N := 4) (t0 := 1) (a0 := (4, .inl (fun _ => 0))) h hR q605 rfl rfl rfl (fun _ => rfl) (by decide) (by decide) (by decide) (fle rfl) (fle rfl) dX8_init_30 (fun q4 => ?_)
  refine G.sub (ws' := [(a, .inr (8, [.ref q1, .int isImage, .ref q2, .int taped, .ref q3, .null, .null, .null, .null, .int above, .int below, .null, .int fallen, .int torn, .int at_, .int start, .int number, .null, .null, .null, .null])), (q1, .inl (X.E 1, 1142, .inl (fun _ => 0))), (q2, .inl (X.E 1, 90, .inl (fun _ => 0))), (q3, .inl (X.E 1, 4, .inl (fun _ => 0))), (q4, .inl (X.E 1, 4, .inl (fun _ => 0)))]) [0, 1, 2, 3, 4] rfl rfl ?_
  refine g_putF (ci := 8) (ty := tyX8 5) (ws' := [(a, .inr (8, [.ref q1, .int isImage, .ref q2, .int taped, .ref q3, .ref q4, .null, .null, .null, .int above, .int below, .null, .int fallen, .int torn, .int at_, .int start, .int number, .null, .null, .null, .null])), (q1, .inl (X.E 1, 1142, .inl (fun _ => 0))), (q2, .inl (X.E 1, 90, .inl (fun _ => 0))), (q3, .inl (X.E 1, 4, .inl (fun _ => 0))), (q4, .inl (X.E 1, 4, .inl (fun _ => 0)))]) h in_X8 tyX8 tyX8_ok nmX8 hnm 0 5 rfl rfl (fle rfl) ⟨rfl, rfl, rfl⟩ q1171 rfl rfl rfl (fle rfl) rfl dX8_init_32 ?_
  refine g_aload_n h 0 dX8_init_35 rfl rfl ?_
  refine g_bipush (v := 96) h dX8_init_36 kbipush_96 ?_
  refine g_newa (at0 := .long) (ty := .long) (n := 96) (N := 96) (t0 := 2) (a0 := (96, .inr (.inl (fun _ => 0)))) h hR q925 rfl rfl rfl (fun _ => rfl) (by decide) (by decide) (by decide) (fle rfl) (fle rfl) dX8_init_38 (fun q5 => ?_)
  refine G.sub (ws' := [(a, .inr (8, [.ref q1, .int isImage, .ref q2, .int taped, .ref q3, .ref q4, .null, .null, .null, .int above, .int below, .null, .int fallen, .int torn, .int at_, .int start, .int number, .null, .null, .null, .null])), (q1, .inl (X.E 1, 1142, .inl (fun _ => 0))), (q2, .inl (X.E 1, 90, .inl (fun _ => 0))), (q3, .inl (X.E 1, 4, .inl (fun _ => 0))), (q4, .inl (X.E 1, 4, .inl (fun _ => 0))), (q5, .inl (X.E 2, 96, .inr (.inl (fun _ => 0))))]) [0, 1, 2, 3, 4, 5] rfl rfl ?_
  refine g_putF (ci := 8) (ty := tyX8 6) (ws' := [(a, .inr (8, [.ref q1, .int isImage, .ref q2, .int taped, .ref q3, .ref q4, .ref q5, .null, .null, .int above, .int below, .null, .int fallen, .int torn, .int at_, .int start, .int number, .null, .null, .null, .null])), (q1, .inl (X.E 1, 1142, .inl (fun _ => 0))), (q2, .inl (X.E 1, 90, .inl (fun _ => 0))), (q3, .inl (X.E 1, 4, .inl (fun _ => 0))), (q4, .inl (X.E 1, 4, .inl (fun _ => 0))), (q5, .inl (X.E 2, 96, .inr (.inl (fun _ => 0))))]) h in_X8 tyX8 tyX8_ok nmX8 hnm 0 6 rfl rfl (fle rfl) ⟨rfl, rfl, rfl⟩ q1172 rfl rfl rfl (fle rfl) rfl dX8_init_40 ?_
  refine g_aload_n h 0 dX8_init_43 rfl rfl ?_
  refine g_bipush (v := 8) h dX8_init_44 kbipush_8 ?_
  refine g_newa (at0 := .int) (ty := .int) (n := 8) (N := 8) (t0 := 1) (a0 := (8, .inl (fun _ => 0))) h hR q605 rfl rfl rfl (fun _ => rfl) (by decide) (by decide) (by decide) (fle rfl) (fle rfl) dX8_init_46 (fun q6 => ?_)
  refine G.sub (ws' := [(a, .inr (8, [.ref q1, .int isImage, .ref q2, .int taped, .ref q3, .ref q4, .ref q5, .null, .null, .int above, .int below, .null, .int fallen, .int torn, .int at_, .int start, .int number, .null, .null, .null, .null])), (q1, .inl (X.E 1, 1142, .inl (fun _ => 0))), (q2, .inl (X.E 1, 90, .inl (fun _ => 0))), (q3, .inl (X.E 1, 4, .inl (fun _ => 0))), (q4, .inl (X.E 1, 4, .inl (fun _ => 0))), (q5, .inl (X.E 2, 96, .inr (.inl (fun _ => 0)))), (q6, .inl (X.E 1, 8, .inl (fun _ => 0)))]) [0, 1, 2, 3, 4, 5, 6] rfl rfl ?_
  refine g_putF (ci := 8) (ty := tyX8 7) (ws' := [(a, .inr (8, [.ref q1, .int isImage, .ref q2, .int taped, .ref q3, .ref q4, .ref q5, .ref q6, .null, .int above, .int below, .null, .int fallen, .int torn, .int at_, .int start, .int number, .null, .null, .null, .null])), (q1, .inl (X.E 1, 1142, .inl (fun _ => 0))), (q2, .inl (X.E 1, 90, .inl (fun _ => 0))), (q3, .inl (X.E 1, 4, .inl (fun _ => 0))), (q4, .inl (X.E 1, 4, .inl (fun _ => 0))), (q5, .inl (X.E 2, 96, .inr (.inl (fun _ => 0)))), (q6, .inl (X.E 1, 8, .inl (fun _ => 0)))]) h in_X8 tyX8 tyX8_ok nmX8 hnm 0 7 rfl rfl (fle rfl) ⟨rfl, rfl, rfl⟩ q1173 rfl rfl rfl (fle rfl) rfl dX8_init_48 ?_
  refine g_aload_n h 0 dX8_init_51 rfl rfl ?_
  refine g_bipush (v := 8) h dX8_init_52 kbipush_8 ?_
  refine g_newa (at0 := .int) (ty := .int) (n := 8) (N := 8) (t0 := 1) (a0 := (8, .inl (fun _ => 0))) h hR q605 rfl rfl rfl (fun _ => rfl) (by decide) (by decide) (by decide) (fle rfl) (fle rfl) dX8_init_54 (fun q7 => ?_)
  refine G.sub (ws' := [(a, .inr (8, [.ref q1, .int isImage, .ref q2, .int taped, .ref q3, .ref q4, .ref q5, .ref q6, .null, .int above, .int below, .null, .int fallen, .int torn, .int at_, .int start, .int number, .null, .null, .null, .null])), (q1, .inl (X.E 1, 1142, .inl (fun _ => 0))), (q2, .inl (X.E 1, 90, .inl (fun _ => 0))), (q3, .inl (X.E 1, 4, .inl (fun _ => 0))), (q4, .inl (X.E 1, 4, .inl (fun _ => 0))), (q5, .inl (X.E 2, 96, .inr (.inl (fun _ => 0)))), (q6, .inl (X.E 1, 8, .inl (fun _ => 0))), (q7, .inl (X.E 1, 8, .inl (fun _ => 0)))]) [0, 1, 2, 3, 4, 5, 6, 7] rfl rfl ?_
  refine g_putF (ci := 8) (ty := tyX8 8) (ws' := [(a, .inr (8, [.ref q1, .int isImage, .ref q2, .int taped, .ref q3, .ref q4, .ref q5, .ref q6, .ref q7, .int above, .int below, .null, .int fallen, .int torn, .int at_, .int start, .int number, .null, .null, .null, .null])), (q1, .inl (X.E 1, 1142, .inl (fun _ => 0))), (q2, .inl (X.E 1, 90, .inl (fun _ => 0))), (q3, .inl (X.E 1, 4, .inl (fun _ => 0))), (q4, .inl (X.E 1, 4, .inl (fun _ => 0))), (q5, .inl (X.E 2, 96, .inr (.inl (fun _ => 0)))), (q6, .inl (X.E 1, 8, .inl (fun _ => 0))), (q7, .inl (X.E 1, 8, .inl (fun _ => 0)))]) h in_X8 tyX8 tyX8_ok nmX8 hnm 0 8 rfl rfl (fle rfl) ⟨rfl, rfl, rfl⟩ q1174 rfl rfl rfl (fle rfl) rfl dX8_init_56 ?_
  refine g_aload_n h 0 dX8_init_59 rfl rfl ?_
  refine g_bipush (v := 8) h dX8_init_60 kbipush_8 ?_
  refine g_newa (at0 := .int) (ty := .int) (n := 8) (N := 8) (t0 := 1) (a0 := (8, .inl (fun _ => 0))) h hR q605 rfl rfl rfl (fun _ => rfl) (by decide) (by decide) (by decide) (fle rfl) (fle rfl) dX8_init_62 (fun q8 => ?_)
  refine G.sub (ws' := [(a, .inr (8, [.ref q1, .int isImage, .ref q2, .int taped, .ref q3, .ref q4, .ref q5, .ref q6, .ref q7, .int above, .int below, .null, .int fallen, .int torn, .int at_, .int start, .int number, .null, .null, .null, .null])), (q1, .inl (X.E 1, 1142, .inl (fun _ => 0))), (q2, .inl (X.E 1, 90, .inl (fun _ => 0))), (q3, .inl (X.E 1, 4, .inl (fun _ => 0))), (q4, .inl (X.E 1, 4, .inl (fun _ => 0))), (q5, .inl (X.E 2, 96, .inr (.inl (fun _ => 0)))), (q6, .inl (X.E 1, 8, .inl (fun _ => 0))), (q7, .inl (X.E 1, 8, .inl (fun _ => 0))), (q8, .inl (X.E 1, 8, .inl (fun _ => 0)))]) [0, 1, 2, 3, 4, 5, 6, 7, 8] rfl rfl ?_
  refine g_putF (ci := 8) (ty := tyX8 11) (ws' := [(a, .inr (8, [.ref q1, .int isImage, .ref q2, .int taped, .ref q3, .ref q4, .ref q5, .ref q6, .ref q7, .int above, .int below, .ref q8, .int fallen, .int torn, .int at_, .int start, .int number, .null, .null, .null, .null])), (q1, .inl (X.E 1, 1142, .inl (fun _ => 0))), (q2, .inl (X.E 1, 90, .inl (fun _ => 0))), (q3, .inl (X.E 1, 4, .inl (fun _ => 0))), (q4, .inl (X.E 1, 4, .inl (fun _ => 0))), (q5, .inl (X.E 2, 96, .inr (.inl (fun _ => 0)))), (q6, .inl (X.E 1, 8, .inl (fun _ => 0))), (q7, .inl (X.E 1, 8, .inl (fun _ => 0))), (q8, .inl (X.E 1, 8, .inl (fun _ => 0)))]) h in_X8 tyX8 tyX8_ok nmX8 hnm 0 11 rfl rfl (fle rfl) ⟨rfl, rfl, rfl⟩ q1177 rfl rfl rfl (fle rfl) rfl dX8_init_64 ?_
  refine g_aload_n h 0 dX8_init_67 rfl rfl ?_
  refine g_bipush (v := 60) h dX8_init_68 kbipush_60 ?_
  refine g_newa (at0 := .int) (ty := .int) (n := 60) (N := 60) (t0 := 1) (a0 := (60, .inl (fun _ => 0))) h hR q605 rfl rfl rfl (fun _ => rfl) (by decide) (by decide) (by decide) (fle rfl) (fle rfl) dX8_init_70 (fun q9 => ?_)
  refine G.sub (ws' := [(a, .inr (8, [.ref q1, .int isImage, .ref q2, .int taped, .ref q3, .ref q4, .ref q5, .ref q6, .ref q7, .int above, .int below, .ref q8, .int fallen, .int torn, .int at_, .int start, .int number, .null, .null, .null, .null])), (q1, .inl (X.E 1, 1142, .inl (fun _ => 0))), (q2, .inl (X.E 1, 90, .inl (fun _ => 0))), (q3, .inl (X.E 1, 4, .inl (fun _ => 0))), (q4, .inl (X.E 1, 4, .inl (fun _ => 0))), (q5, .inl (X.E 2, 96, .inr (.inl (fun _ => 0)))), (q6, .inl (X.E 1, 8, .inl (fun _ => 0))), (q7, .inl (X.E 1, 8, .inl (fun _ => 0))), (q8, .inl (X.E 1, 8, .inl (fun _ => 0))), (q9, .inl (X.E 1, 60, .inl (fun _ => 0)))]) [0, 1, 2, 3, 4, 5, 6, 7, 8, 9] rfl rfl ?_
  refine g_putF (ci := 8) (ty := tyX8 17) (ws' := [(a, .inr (8, [.ref q1, .int isImage, .ref q2, .int taped, .ref q3, .ref q4, .ref q5, .ref q6, .ref q7, .int above, .int below, .ref q8, .int fallen, .int torn, .int at_, .int start, .int number, .ref q9, .null, .null, .null])), (q1, .inl (X.E 1, 1142, .inl (fun _ => 0))), (q2, .inl (X.E 1, 90, .inl (fun _ => 0))), (q3, .inl (X.E 1, 4, .inl (fun _ => 0))), (q4, .inl (X.E 1, 4, .inl (fun _ => 0))), (q5, .inl (X.E 2, 96, .inr (.inl (fun _ => 0)))), (q6, .inl (X.E 1, 8, .inl (fun _ => 0))), (q7, .inl (X.E 1, 8, .inl (fun _ => 0))), (q8, .inl (X.E 1, 8, .inl (fun _ => 0))), (q9, .inl (X.E 1, 60, .inl (fun _ => 0)))]) h in_X8 tyX8 tyX8_ok nmX8 hnm 0 17 rfl rfl (fle rfl) ⟨rfl, rfl, rfl⟩ q1183 rfl rfl rfl (fle rfl) rfl dX8_init_72 ?_
  refine g_aload_n h 0 dX8_init_75 rfl rfl ?_
  refine g_sipush (v := 243) h dX8_init_76 ksipush_243 ?_
  refine g_newa (at0 := .int) (ty := .int) (n := 243) (N := 243) (t0 := 1) (a0 := (243, .inl (fun _ => 0))) h hR q605 rfl rfl rfl (fun _ => rfl) (by decide) (by decide) (by decide) (fle rfl) (fle rfl) dX8_init_79 (fun q10 => ?_)
  refine G.sub (ws' := [(a, .inr (8, [.ref q1, .int isImage, .ref q2, .int taped, .ref q3, .ref q4, .ref q5, .ref q6, .ref q7, .int above, .int below, .ref q8, .int fallen, .int torn, .int at_, .int start, .int number, .ref q9, .null, .null, .null])), (q1, .inl (X.E 1, 1142, .inl (fun _ => 0))), (q2, .inl (X.E 1, 90, .inl (fun _ => 0))), (q3, .inl (X.E 1, 4, .inl (fun _ => 0))), (q4, .inl (X.E 1, 4, .inl (fun _ => 0))), (q5, .inl (X.E 2, 96, .inr (.inl (fun _ => 0)))), (q6, .inl (X.E 1, 8, .inl (fun _ => 0))), (q7, .inl (X.E 1, 8, .inl (fun _ => 0))), (q8, .inl (X.E 1, 8, .inl (fun _ => 0))), (q9, .inl (X.E 1, 60, .inl (fun _ => 0))), (q10, .inl (X.E 1, 243, .inl (fun _ => 0)))]) [0, 1, 2, 3, 4, 5, 6, 7, 8, 9, 10] rfl rfl ?_
  refine g_putF (ci := 8) (ty := tyX8 18) (ws' := [(a, .inr (8, [.ref q1, .int isImage, .ref q2, .int taped, .ref q3, .ref q4, .ref q5, .ref q6, .ref q7, .int above, .int below, .ref q8, .int fallen, .int torn, .int at_, .int start, .int number, .ref q9, .ref q10, .null, .null])), (q1, .inl (X.E 1, 1142, .inl (fun _ => 0))), (q2, .inl (X.E 1, 90, .inl (fun _ => 0))), (q3, .inl (X.E 1, 4, .inl (fun _ => 0))), (q4, .inl (X.E 1, 4, .inl (fun _ => 0))), (q5, .inl (X.E 2, 96, .inr (.inl (fun _ => 0)))), (q6, .inl (X.E 1, 8, .inl (fun _ => 0))), (q7, .inl (X.E 1, 8, .inl (fun _ => 0))), (q8, .inl (X.E 1, 8, .inl (fun _ => 0))), (q9, .inl (X.E 1, 60, .inl (fun _ => 0))), (q10, .inl (X.E 1, 243, .inl (fun _ => 0)))]) h in_X8 tyX8 tyX8_ok nmX8 hnm 0 18 rfl rfl (fle rfl) ⟨rfl, rfl, rfl⟩ q1184 rfl rfl rfl (fle rfl) rfl dX8_init_81 ?_
  refine g_aload_n h 0 dX8_init_84 rfl rfl ?_
  refine g_sipush (v := 243) h dX8_init_85 ksipush_243 ?_
  refine g_newa (at0 := .int) (ty := .int) (n := 243) (N := 243) (t0 := 1) (a0 := (243, .inl (fun _ => 0))) h hR q605 rfl rfl rfl (fun _ => rfl) (by decide) (by decide) (by decide) (fle rfl) (fle rfl) dX8_init_88 (fun q11 => ?_)
  refine G.sub (ws' := [(a, .inr (8, [.ref q1, .int isImage, .ref q2, .int taped, .ref q3, .ref q4, .ref q5, .ref q6, .ref q7, .int above, .int below, .ref q8, .int fallen, .int torn, .int at_, .int start, .int number, .ref q9, .ref q10, .null, .null])), (q1, .inl (X.E 1, 1142, .inl (fun _ => 0))), (q2, .inl (X.E 1, 90, .inl (fun _ => 0))), (q3, .inl (X.E 1, 4, .inl (fun _ => 0))), (q4, .inl (X.E 1, 4, .inl (fun _ => 0))), (q5, .inl (X.E 2, 96, .inr (.inl (fun _ => 0)))), (q6, .inl (X.E 1, 8, .inl (fun _ => 0))), (q7, .inl (X.E 1, 8, .inl (fun _ => 0))), (q8, .inl (X.E 1, 8, .inl (fun _ => 0))), (q9, .inl (X.E 1, 60, .inl (fun _ => 0))), (q10, .inl (X.E 1, 243, .inl (fun _ => 0))), (q11, .inl (X.E 1, 243, .inl (fun _ => 0)))]) [0, 1, 2, 3, 4, 5, 6, 7, 8, 9, 10, 11] rfl rfl ?_
  refine g_putF (ci := 8) (ty := tyX8 19) (ws' := [(a, .inr (8, [.ref q1, .int isImage, .ref q2, .int taped, .ref q3, .ref q4, .ref q5, .ref q6, .ref q7, .int above, .int below, .ref q8, .int fallen, .int torn, .int at_, .int start, .int number, .ref q9, .ref q10, .ref q11, .null])), (q1, .inl (X.E 1, 1142, .inl (fun _ => 0))), (q2, .inl (X.E 1, 90, .inl (fun _ => 0))), (q3, .inl (X.E 1, 4, .inl (fun _ => 0))), (q4, .inl (X.E 1, 4, .inl (fun _ => 0))), (q5, .inl (X.E 2, 96, .inr (.inl (fun _ => 0)))), (q6, .inl (X.E 1, 8, .inl (fun _ => 0))), (q7, .inl (X.E 1, 8, .inl (fun _ => 0))), (q8, .inl (X.E 1, 8, .inl (fun _ => 0))), (q9, .inl (X.E 1, 60, .inl (fun _ => 0))), (q10, .inl (X.E 1, 243, .inl (fun _ => 0))), (q11, .inl (X.E 1, 243, .inl (fun _ => 0)))]) h in_X8 tyX8 tyX8_ok nmX8 hnm 0 19 rfl rfl (fle rfl) ⟨rfl, rfl, rfl⟩ q1185 rfl rfl rfl (fle rfl) rfl dX8_init_90 ?_
  refine g_aload_n h 0 dX8_init_93 rfl rfl ?_
  refine g_bipush (v := 24) h dX8_init_94 kbipush_24 ?_
  refine g_newa (at0 := .long) (ty := .long) (n := 24) (N := 24) (t0 := 2) (a0 := (24, .inr (.inl (fun _ => 0)))) h hR q925 rfl rfl rfl (fun _ => rfl) (by decide) (by decide) (by decide) (fle rfl) (fle rfl) dX8_init_96 (fun q12 => ?_)
  refine G.sub (ws' := [(a, .inr (8, [.ref q1, .int isImage, .ref q2, .int taped, .ref q3, .ref q4, .ref q5, .ref q6, .ref q7, .int above, .int below, .ref q8, .int fallen, .int torn, .int at_, .int start, .int number, .ref q9, .ref q10, .ref q11, .null])), (q1, .inl (X.E 1, 1142, .inl (fun _ => 0))), (q2, .inl (X.E 1, 90, .inl (fun _ => 0))), (q3, .inl (X.E 1, 4, .inl (fun _ => 0))), (q4, .inl (X.E 1, 4, .inl (fun _ => 0))), (q5, .inl (X.E 2, 96, .inr (.inl (fun _ => 0)))), (q6, .inl (X.E 1, 8, .inl (fun _ => 0))), (q7, .inl (X.E 1, 8, .inl (fun _ => 0))), (q8, .inl (X.E 1, 8, .inl (fun _ => 0))), (q9, .inl (X.E 1, 60, .inl (fun _ => 0))), (q10, .inl (X.E 1, 243, .inl (fun _ => 0))), (q11, .inl (X.E 1, 243, .inl (fun _ => 0))), (q12, .inl (X.E 2, 24, .inr (.inl (fun _ => 0))))]) [0, 1, 2, 3, 4, 5, 6, 7, 8, 9, 10, 11, 12] rfl rfl ?_
  refine g_putF (ci := 8) (ty := tyX8 20) (ws' := [(a, .inr (8, [.ref q1, .int isImage, .ref q2, .int taped, .ref q3, .ref q4, .ref q5, .ref q6, .ref q7, .int above, .int below, .ref q8, .int fallen, .int torn, .int at_, .int start, .int number, .ref q9, .ref q10, .ref q11, .ref q12])), (q1, .inl (X.E 1, 1142, .inl (fun _ => 0))), (q2, .inl (X.E 1, 90, .inl (fun _ => 0))), (q3, .inl (X.E 1, 4, .inl (fun _ => 0))), (q4, .inl (X.E 1, 4, .inl (fun _ => 0))), (q5, .inl (X.E 2, 96, .inr (.inl (fun _ => 0)))), (q6, .inl (X.E 1, 8, .inl (fun _ => 0))), (q7, .inl (X.E 1, 8, .inl (fun _ => 0))), (q8, .inl (X.E 1, 8, .inl (fun _ => 0))), (q9, .inl (X.E 1, 60, .inl (fun _ => 0))), (q10, .inl (X.E 1, 243, .inl (fun _ => 0))), (q11, .inl (X.E 1, 243, .inl (fun _ => 0))), (q12, .inl (X.E 2, 24, .inr (.inl (fun _ => 0))))]) h in_X8 tyX8 tyX8_ok nmX8 hnm 0 20 rfl rfl (fle rfl) ⟨rfl, rfl, rfl⟩ q1186 rfl rfl rfl (fle rfl) rfl dX8_init_98 ?_
  refine g_aload_n h 0 dX8_init_101 rfl rfl ?_
  refine g_get (ci := 8) (v := .ref q1) h in_X8 0 0 rfl rfl (fle rfl) rfl q1166 rfl dX8_init_102 ?_
  refine g_iconst (v := 1) h dX8_init_105 kiconst_1 ?_
  refine g_bipush (v := 20) h dX8_init_106 kbipush_20 ?_
  refine g_iastore (ws' := [(a, .inr (8, [.ref q1, .int isImage, .ref q2, .int taped, .ref q3, .ref q4, .ref q5, .ref q6, .ref q7, .int above, .int below, .ref q8, .int fallen, .int torn, .int at_, .int start, .int number, .ref q9, .ref q10, .ref q11, .ref q12])), (q1, .inl (X.E 1, 1142, .inl (upd (fun _ => 0) (1 : Int32).toNatClampNeg 20))), (q2, .inl (X.E 1, 90, .inl (fun _ => 0))), (q3, .inl (X.E 1, 4, .inl (fun _ => 0))), (q4, .inl (X.E 1, 4, .inl (fun _ => 0))), (q5, .inl (X.E 2, 96, .inr (.inl (fun _ => 0)))), (q6, .inl (X.E 1, 8, .inl (fun _ => 0))), (q7, .inl (X.E 1, 8, .inl (fun _ => 0))), (q8, .inl (X.E 1, 8, .inl (fun _ => 0))), (q9, .inl (X.E 1, 60, .inl (fun _ => 0))), (q10, .inl (X.E 1, 243, .inl (fun _ => 0))), (q11, .inl (X.E 1, 243, .inl (fun _ => 0))), (q12, .inl (X.E 2, 24, .inr (.inl (fun _ => 0))))]) h 1 rfl (by decide) rfl dX8_init_108 ?_
  refine g_aload_n h 0 dX8_init_109 rfl rfl ?_
  refine g_get (ci := 8) (v := .ref q1) h in_X8 0 0 rfl rfl (fle rfl) rfl q1166 rfl dX8_init_110 ?_
  refine g_iconst (v := 2) h dX8_init_113 kiconst_2 ?_
  refine g_bipush (v := 8) h dX8_init_114 kbipush_8 ?_
  refine g_iastore (ws' := [(a, .inr (8, [.ref q1, .int isImage, .ref q2, .int taped, .ref q3, .ref q4, .ref q5, .ref q6, .ref q7, .int above, .int below, .ref q8, .int fallen, .int torn, .int at_, .int start, .int number, .ref q9, .ref q10, .ref q11, .ref q12])), (q1, .inl (X.E 1, 1142, .inl (upd (upd (fun _ => 0) (1 : Int32).toNatClampNeg 20) (2 : Int32).toNatClampNeg 8))), (q2, .inl (X.E 1, 90, .inl (fun _ => 0))), (q3, .inl (X.E 1, 4, .inl (fun _ => 0))), (q4, .inl (X.E 1, 4, .inl (fun _ => 0))), (q5, .inl (X.E 2, 96, .inr (.inl (fun _ => 0)))), (q6, .inl (X.E 1, 8, .inl (fun _ => 0))), (q7, .inl (X.E 1, 8, .inl (fun _ => 0))), (q8, .inl (X.E 1, 8, .inl (fun _ => 0))), (q9, .inl (X.E 1, 60, .inl (fun _ => 0))), (q10, .inl (X.E 1, 243, .inl (fun _ => 0))), (q11, .inl (X.E 1, 243, .inl (fun _ => 0))), (q12, .inl (X.E 2, 24, .inr (.inl (fun _ => 0))))]) h 1 rfl (by decide) rfl dX8_init_116 ?_
  refine g_aload_n h 0 dX8_init_117 rfl rfl ?_
  refine g_get (ci := 8) (v := .ref q1) h in_X8 0 0 rfl rfl (fle rfl) rfl q1166 rfl dX8_init_118 ?_
  refine g_iconst (v := 3) h dX8_init_121 kiconst_3 ?_
  refine g_iconst (v := 1) h dX8_init_122 kiconst_1 ?_
  refine g_iastore (ws' := [(a, .inr (8, [.ref q1, .int isImage, .ref q2, .int taped, .ref q3, .ref q4, .ref q5, .ref q6, .ref q7, .int above, .int below, .ref q8, .int fallen, .int torn, .int at_, .int start, .int number, .ref q9, .ref q10, .ref q11, .ref q12])), (q1, .inl (X.E 1, 1142, .inl (upd (upd (upd (fun _ => 0) (1 : Int32).toNatClampNeg 20) (2 : Int32).toNatClampNeg 8) (3 : Int32).toNatClampNeg 1))), (q2, .inl (X.E 1, 90, .inl (fun _ => 0))), (q3, .inl (X.E 1, 4, .inl (fun _ => 0))), (q4, .inl (X.E 1, 4, .inl (fun _ => 0))), (q5, .inl (X.E 2, 96, .inr (.inl (fun _ => 0)))), (q6, .inl (X.E 1, 8, .inl (fun _ => 0))), (q7, .inl (X.E 1, 8, .inl (fun _ => 0))), (q8, .inl (X.E 1, 8, .inl (fun _ => 0))), (q9, .inl (X.E 1, 60, .inl (fun _ => 0))), (q10, .inl (X.E 1, 243, .inl (fun _ => 0))), (q11, .inl (X.E 1, 243, .inl (fun _ => 0))), (q12, .inl (X.E 2, 24, .inr (.inl (fun _ => 0))))]) h 1 rfl (by decide) rfl dX8_init_123 ?_
  refine g_iconst (v := 0) h dX8_init_124 kiconst_0 ?_
  refine g_istore_n (lv' := [(1, .int 0), (0, .ref a)]) h dX8_init_125 rfl (hL 1 (fle rfl)) rfl ?_
  refine g_iload_n h 0 dX8_init_126 rfl rfl ?_
  refine g_iconst (v := 4) h dX8_init_127 kiconst_4 ?_
  refine b_icmp_ge (tgt := 144) h dX8_init_128 rfl (fun c0 => absurd c0 (by decide)) (fun _ => ?_)
  refine g_aload_n h 1 dX8_init_131 rfl rfl ?_
  refine g_get (ci := 8) (v := .ref q3) h in_X8 0 4 rfl rfl (fle rfl) rfl q1170 rfl dX8_init_132 ?_
  refine g_iload_n h 0 dX8_init_135 rfl rfl ?_
  refine g_iconst (v := (-1)) h dX8_init_136 kiconst_m1 ?_
  refine g_iastore (ws' := [(a, .inr (8, [.ref q1, .int isImage, .ref q2, .int taped, .ref q3, .ref q4, .ref q5, .ref q6, .ref q7, .int above, .int below, .ref q8, .int fallen, .int torn, .int at_, .int start, .int number, .ref q9, .ref q10, .ref q11, .ref q12])), (q1, .inl (X.E 1, 1142, .inl (upd (upd (upd (fun _ => 0) (1 : Int32).toNatClampNeg 20) (2 : Int32).toNatClampNeg 8) (3 : Int32).toNatClampNeg 1))), (q2, .inl (X.E 1, 90, .inl (fun _ => 0))), (q3, .inl (X.E 1, 4, .inl (upd (fun _ => 0) (0 : Int32).toNatClampNeg (-1)))), (q4, .inl (X.E 1, 4, .inl (fun _ => 0))), (q5, .inl (X.E 2, 96, .inr (.inl (fun _ => 0)))), (q6, .inl (X.E 1, 8, .inl (fun _ => 0))), (q7, .inl (X.E 1, 8, .inl (fun _ => 0))), (q8, .inl (X.E 1, 8, .inl (fun _ => 0))), (q9, .inl (X.E 1, 60, .inl (fun _ => 0))), (q10, .inl (X.E 1, 243, .inl (fun _ => 0))), (q11, .inl (X.E 1, 243, .inl (fun _ => 0))), (q12, .inl (X.E 2, 24, .inr (.inl (fun _ => 0))))]) h 3 rfl (by decide) rfl dX8_init_137 ?_
  refine g_iinc (j := 0) (v := 1) (lv' := [(1, .int 1), (0, .ref a)]) h dX8_init_138 rfl (by decide) (hL 1 (fle rfl)) rfl ?_
  refine g_goto (tgt := 126) h dX8_init_141 rfl ?_
  refine g_iload_n h 0 dX8_init_126 rfl rfl ?_
  refine g_iconst (v := 4) h dX8_init_127 kiconst_4 ?_
  refine b_icmp_ge (tgt := 144) h dX8_init_128 rfl (fun c0 => absurd c0 (by decide)) (fun _ => ?_)
  refine g_aload_n h 1 dX8_init_131 rfl rfl ?_
  refine g_get (ci := 8) (v := .ref q3) h in_X8 0 4 rfl rfl (fle rfl) rfl q1170 rfl dX8_init_132 ?_
  refine g_iload_n h 0 dX8_init_135 rfl rfl ?_
  refine g_iconst (v := (-1)) h dX8_init_136 kiconst_m1 ?_
  refine g_iastore (ws' := [(a, .inr (8, [.ref q1, .int isImage, .ref q2, .int taped, .ref q3, .ref q4, .ref q5, .ref q6, .ref q7, .int above, .int below, .ref q8, .int fallen, .int torn, .int at_, .int start, .int number, .ref q9, .ref q10, .ref q11, .ref q12])), (q1, .inl (X.E 1, 1142, .inl (upd (upd (upd (fun _ => 0) (1 : Int32).toNatClampNeg 20) (2 : Int32).toNatClampNeg 8) (3 : Int32).toNatClampNeg 1))), (q2, .inl (X.E 1, 90, .inl (fun _ => 0))), (q3, .inl (X.E 1, 4, .inl (upd (upd (fun _ => 0) (0 : Int32).toNatClampNeg (-1)) (1 : Int32).toNatClampNeg (-1)))), (q4, .inl (X.E 1, 4, .inl (fun _ => 0))), (q5, .inl (X.E 2, 96, .inr (.inl (fun _ => 0)))), (q6, .inl (X.E 1, 8, .inl (fun _ => 0))), (q7, .inl (X.E 1, 8, .inl (fun _ => 0))), (q8, .inl (X.E 1, 8, .inl (fun _ => 0))), (q9, .inl (X.E 1, 60, .inl (fun _ => 0))), (q10, .inl (X.E 1, 243, .inl (fun _ => 0))), (q11, .inl (X.E 1, 243, .inl (fun _ => 0))), (q12, .inl (X.E 2, 24, .inr (.inl (fun _ => 0))))]) h 3 rfl (by decide) rfl dX8_init_137 ?_
  refine g_iinc (j := 0) (v := 2) (lv' := [(1, .int 2), (0, .ref a)]) h dX8_init_138 rfl (by decide) (hL 1 (fle rfl)) rfl ?_
  refine g_goto (tgt := 126) h dX8_init_141 rfl ?_
  refine g_iload_n h 0 dX8_init_126 rfl rfl ?_
  refine g_iconst (v := 4) h dX8_init_127 kiconst_4 ?_
  refine b_icmp_ge (tgt := 144) h dX8_init_128 rfl (fun c0 => absurd c0 (by decide)) (fun _ => ?_)
  refine g_aload_n h 1 dX8_init_131 rfl rfl ?_
  refine g_get (ci := 8) (v := .ref q3) h in_X8 0 4 rfl rfl (fle rfl) rfl q1170 rfl dX8_init_132 ?_
  refine g_iload_n h 0 dX8_init_135 rfl rfl ?_
  refine g_iconst (v := (-1)) h dX8_init_136 kiconst_m1 ?_
  refine g_iastore (ws' := [(a, .inr (8, [.ref q1, .int isImage, .ref q2, .int taped, .ref q3, .ref q4, .ref q5, .ref q6, .ref q7, .int above, .int below, .ref q8, .int fallen, .int torn, .int at_, .int start, .int number, .ref q9, .ref q10, .ref q11, .ref q12])), (q1, .inl (X.E 1, 1142, .inl (upd (upd (upd (fun _ => 0) (1 : Int32).toNatClampNeg 20) (2 : Int32).toNatClampNeg 8) (3 : Int32).toNatClampNeg 1))), (q2, .inl (X.E 1, 90, .inl (fun _ => 0))), (q3, .inl (X.E 1, 4, .inl (upd (upd (upd (fun _ => 0) (0 : Int32).toNatClampNeg (-1)) (1 : Int32).toNatClampNeg (-1)) (2 : Int32).toNatClampNeg (-1)))), (q4, .inl (X.E 1, 4, .inl (fun _ => 0))), (q5, .inl (X.E 2, 96, .inr (.inl (fun _ => 0)))), (q6, .inl (X.E 1, 8, .inl (fun _ => 0))), (q7, .inl (X.E 1, 8, .inl (fun _ => 0))), (q8, .inl (X.E 1, 8, .inl (fun _ => 0))), (q9, .inl (X.E 1, 60, .inl (fun _ => 0))), (q10, .inl (X.E 1, 243, .inl (fun _ => 0))), (q11, .inl (X.E 1, 243, .inl (fun _ => 0))), (q12, .inl (X.E 2, 24, .inr (.inl (fun _ => 0))))]) h 3 rfl (by decide) rfl dX8_init_137 ?_
  refine g_iinc (j := 0) (v := 3) (lv' := [(1, .int 3), (0, .ref a)]) h dX8_init_138 rfl (by decide) (hL 1 (fle rfl)) rfl ?_
  refine g_goto (tgt := 126) h dX8_init_141 rfl ?_
  refine g_iload_n h 0 dX8_init_126 rfl rfl ?_
  refine g_iconst (v := 4) h dX8_init_127 kiconst_4 ?_
  refine b_icmp_ge (tgt := 144) h dX8_init_128 rfl (fun c0 => absurd c0 (by decide)) (fun _ => ?_)
  refine g_aload_n h 1 dX8_init_131 rfl rfl ?_
  refine g_get (ci := 8) (v := .ref q3) h in_X8 0 4 rfl rfl (fle rfl) rfl q1170 rfl dX8_init_132 ?_
  refine g_iload_n h 0 dX8_init_135 rfl rfl ?_
  refine g_iconst (v := (-1)) h dX8_init_136 kiconst_m1 ?_
  refine g_iastore (ws' := [(a, .inr (8, [.ref q1, .int isImage, .ref q2, .int taped, .ref q3, .ref q4, .ref q5, .ref q6, .ref q7, .int above, .int below, .ref q8, .int fallen, .int torn, .int at_, .int start, .int number, .ref q9, .ref q10, .ref q11, .ref q12])), (q1, .inl (X.E 1, 1142, .inl (upd (upd (upd (fun _ => 0) (1 : Int32).toNatClampNeg 20) (2 : Int32).toNatClampNeg 8) (3 : Int32).toNatClampNeg 1))), (q2, .inl (X.E 1, 90, .inl (fun _ => 0))), (q3, .inl (X.E 1, 4, .inl (upd (upd (upd (upd (fun _ => 0) (0 : Int32).toNatClampNeg (-1)) (1 : Int32).toNatClampNeg (-1)) (2 : Int32).toNatClampNeg (-1)) (3 : Int32).toNatClampNeg (-1)))), (q4, .inl (X.E 1, 4, .inl (fun _ => 0))), (q5, .inl (X.E 2, 96, .inr (.inl (fun _ => 0)))), (q6, .inl (X.E 1, 8, .inl (fun _ => 0))), (q7, .inl (X.E 1, 8, .inl (fun _ => 0))), (q8, .inl (X.E 1, 8, .inl (fun _ => 0))), (q9, .inl (X.E 1, 60, .inl (fun _ => 0))), (q10, .inl (X.E 1, 243, .inl (fun _ => 0))), (q11, .inl (X.E 1, 243, .inl (fun _ => 0))), (q12, .inl (X.E 2, 24, .inr (.inl (fun _ => 0))))]) h 3 rfl (by decide) rfl dX8_init_137 ?_
  refine g_iinc (j := 0) (v := 4) (lv' := [(1, .int 4), (0, .ref a)]) h dX8_init_138 rfl (by decide) (hL 1 (fle rfl)) rfl ?_
  refine g_goto (tgt := 126) h dX8_init_141 rfl ?_
  refine g_iload_n h 0 dX8_init_126 rfl rfl ?_
  refine g_iconst (v := 4) h dX8_init_127 kiconst_4 ?_
  refine b_icmp_ge (tgt := 144) h dX8_init_128 rfl (fun _ => ?_) (fun c0 => absurd (by decide) c0)
  exact g_vret h hF [0, 1, 2, 3, 4, 5, 6, 7, 8, 9, 10, 11, 12] rfl rfl ⟨_, _, _, _, _, _, _, _, _, _, _, _, rfl, rfl⟩ (fle rfl) (fle rfl) dX8_init_144
set_option maxHeartbeats 4000000 in
set_option maxRecDepth 100000 in
theorem ct_X8_in {l : Launch} {D : va_G} {E : Ety}  {x0 : Int64} {x2 : Int64} {x4 : Int64} {r_ : Int32} (hf : f_X8_in x0 x2 x4 = some r_) : Ct l yX8_in cX8_in 6 (some .boolean) 0 0 0 0 D E [.long x0, .long x2, .long x4] [] (Pn (some (.int r_)) []) := by
  refine ct_of (own := RX8) (plainFor_of_name (by decide)) rfl (fle rfl) rfl ?_
  intro X hl hD hE hnL hXF h hR hF hnm
  subst hl; subst hD; subst hE
  have hL : ∀ i, i < 6 → i < X.nL := fun i hi => by rw [hnL]; exact hi
  unfold f_X8_in at hf
  refine g_lload_n h 0 dX8_in_0 rfl rfl ?_
  refine g_lload_n h 1 dX8_in_1 rfl rfl ?_
  refine g_lcmp h dX8_in_2 ?_
  refine g_if_lt (tgt := 17) h dX8_in_3 rfl hf (fun c1 hf => ?_) (fun c1 hf => ?_)
  · refine g_iconst (v := 0) h dX8_in_17 kiconst_0 ?_
    obtain rfl := sj1 hf
    exact g_zret h hF rfl [] rfl rfl ⟨rfl, rfl⟩ (fle rfl) (fle rfl) dX8_in_18
  · refine g_lload_n h 0 dX8_in_6 rfl rfl ?_
    refine g_lload h 2 dX8_in_7 rfl ?_
    refine g_lcmp h dX8_in_9 ?_
    refine g_if_gt (tgt := 17) h dX8_in_10 rfl hf (fun c2 hf => ?_) (fun c2 hf => ?_)
    · refine g_iconst (v := 0) h dX8_in_17 kiconst_0 ?_
      obtain rfl := sj1 hf
      exact g_zret h hF rfl [] rfl rfl ⟨rfl, rfl⟩ (fle rfl) (fle rfl) dX8_in_18
    · refine g_iconst (v := 1) h dX8_in_13 kiconst_1 ?_
      refine g_goto (tgt := 18) h dX8_in_14 rfl ?_
      obtain rfl := sj1 hf
      exact g_zret h hF rfl [] rfl rfl ⟨rfl, rfl⟩ (fle rfl) (fle rfl) dX8_in_18
set_option maxHeartbeats 4000000 in
set_option maxRecDepth 100000 in
theorem ct_X8_type {l : Launch} {D : va_G} {E : Ety} {a a_w a_tape a_lane a_size a_items a_up a_down a_fell a_read a_comesUp a_comesDown a_held : Nat} {x1 : Int32} {isImage : Int32} {taped : Int32} {above : Int32} {below : Int32} {fallen : Int32} {torn : Int32} {at_ : Int32} {start : Int32} {number : Int32} {tape : Nat → Int32} {r_ : Int32} {o_taped : Int32} {o_tape : Nat → Int32} (hf : f_X8_type x1 taped tape = some (r_, o_taped, o_tape)) : Ct l yX8_type cX8_type 2 (some .int) 1 25 0 0 D E [.ref a, .int x1] [(a, .inr (8, [.ref a_w, .int isImage, .ref a_tape, .int taped, .ref a_lane, .ref a_size, .ref a_items, .ref a_up, .ref a_down, .int above, .int below, .ref a_fell, .int fallen, .int torn, .int at_, .int start, .int number, .ref a_read, .ref a_comesUp, .ref a_comesDown, .ref a_held])), (a_tape, .inl (E 1, 90, .inl tape))] (Pn (some (.int r_)) [(a, .inr (8, [.ref a_w, .int isImage, .ref a_tape, .int o_taped, .ref a_lane, .ref a_size, .ref a_items, .ref a_up, .ref a_down, .int above, .int below, .ref a_fell, .int fallen, .int torn, .int at_, .int start, .int number, .ref a_read, .ref a_comesUp, .ref a_comesDown, .ref a_held])), (a_tape, .inl (E 1, 90, .inl o_tape))]) := by
  refine ct_of (own := RX8) (plainFor_of_name (by decide)) rfl (fle rfl) rfl ?_
  intro X hl hD hE hnL hXF h hR hF hnm
  subst hl; subst hD; subst hE
  have hL : ∀ i, i < 2 → i < X.nL := fun i hi => by rw [hnL]; exact hi
  unfold f_X8_type at hf
  refine g_iload_n h 1 dX8_type_0 rfl rfl ?_
  refine g_i2l h dX8_type_1 ?_
  refine g_ldc2 h q1234 dX8_type_2 ?_
  refine g_ldc2 h q1235 dX8_type_5 ?_
  obtain ⟨r_1, hv, hf⟩ := ob1 hf
  refine g_callS (n := 3) (As := [.long x1.toInt64, .long 32, .long 126]) (st := []) (wr := [(a, .inr (8, [.ref a_w, .int isImage, .ref a_tape, .int taped, .ref a_lane, .ref a_size, .ref a_items, .ref a_up, .ref a_down, .int above, .int below, .ref a_fell, .int fallen, .int torn, .int at_, .int start, .int number, .ref a_read, .ref a_comesUp, .ref a_comesDown, .ref a_held])), (a_tape, .inl (X.E 1, 90, .inl tape))]) (isC := []) (isR := [0, 1]) h hR (ct_X8_in (x0 := x1.toInt64) (x2 := 32) (x4 := 126) hv) (lw_S q1236 q1237 q80 q1238) (by decide +kernel) rfl ⟨rfl, rfl, rfl, rfl, by decide⟩ ⟨fle rfl, fle rfl, fle rfl, fle rfl, fle rfl⟩ rfl dX8_type_8 (pin (perm := [0, 1]) (ws' := [(a, .inr (8, [.ref a_w, .int isImage, .ref a_tape, .int taped, .ref a_lane, .ref a_size, .ref a_items, .ref a_up, .ref a_down, .int above, .int below, .ref a_fell, .int fallen, .int torn, .int at_, .int start, .int number, .ref a_read, .ref a_comesUp, .ref a_comesDown, .ref a_held])), (a_tape, .inl (X.E 1, 90, .inl tape))]) (stk := [.int r_1]) rfl rfl rfl ?_)
  clear hv
  refine g_if_ne (tgt := 16) h dX8_type_11 rfl hf (fun c2 hf => ?_) (fun c2 hf => ?_)
  · refine g_iconst (v := (-1)) h dX8_type_14 kiconst_m1 ?_
    obtain ⟨rfl, rfl, rfl⟩ := sj3 hf
    exact g_iret h hF [0, 1] rfl rfl ⟨rfl, rfl⟩ (fle rfl) (fle rfl) dX8_type_15
  · refine g_aload_n h 0 dX8_type_16 rfl rfl ?_
    refine g_get (ci := 8) (v := .int taped) h in_X8 0 3 rfl rfl (fle rfl) rfl q1169 rfl dX8_type_17 ?_
    refine g_bipush (v := 90) h dX8_type_20 kbipush_90 ?_
    refine g_icmp_ne (tgt := 28) h dX8_type_22 rfl hf (fun c3 hf => ?_) (fun c3 hf => ?_)
    · refine g_bipush (v := (-3)) h dX8_type_25 kbipush_m3 ?_
      obtain ⟨rfl, rfl, rfl⟩ := sj3 hf
      exact g_iret h hF [0, 1] rfl rfl ⟨rfl, rfl⟩ (fle rfl) (fle rfl) dX8_type_27
    · refine g_aload_n h 0 dX8_type_28 rfl rfl ?_
      refine g_get (ci := 8) (v := .ref a_tape) h in_X8 0 2 rfl rfl (fle rfl) rfl q1168 rfl dX8_type_29 ?_
      refine g_aload_n h 0 dX8_type_32 rfl rfl ?_
      refine g_get (ci := 8) (v := .int taped) h in_X8 0 3 rfl rfl (fle rfl) rfl q1169 rfl dX8_type_33 ?_
      refine g_iload_n h 1 dX8_type_36 rfl rfl ?_
      obtain ⟨g4, hf⟩ := gn hf
      refine g_iastore (ws' := [(a, .inr (8, [.ref a_w, .int isImage, .ref a_tape, .int taped, .ref a_lane, .ref a_size, .ref a_items, .ref a_up, .ref a_down, .int above, .int below, .ref a_fell, .int fallen, .int torn, .int at_, .int start, .int number, .ref a_read, .ref a_comesUp, .ref a_comesDown, .ref a_held])), (a_tape, .inl (X.E 1, 90, .inl (upd tape taped.toNatClampNeg x1)))]) h 1 rfl g4 rfl dX8_type_37 ?_
      refine g_aload_n h 0 dX8_type_38 rfl rfl ?_
      refine g_dup h dX8_type_39 rfl ?_
      refine g_get (ci := 8) (v := .int taped) h in_X8 0 3 rfl rfl (fle rfl) rfl q1169 rfl dX8_type_40 ?_
      refine g_iconst (v := 1) h dX8_type_43 kiconst_1 ?_
      refine g_iadd h dX8_type_44 ?_
      refine g_put (ci := 8) (ty := tyX8 3) (ws' := [(a, .inr (8, [.ref a_w, .int isImage, .ref a_tape, .int (taped + 1), .ref a_lane, .ref a_size, .ref a_items, .ref a_up, .ref a_down, .int above, .int below, .ref a_fell, .int fallen, .int torn, .int at_, .int start, .int number, .ref a_read, .ref a_comesUp, .ref a_comesDown, .ref a_held])), (a_tape, .inl (X.E 1, 90, .inl (upd tape taped.toNatClampNeg x1)))]) h in_X8 tyX8 tyX8_ok nmX8 0 3 rfl rfl (fle rfl) ⟨rfl, rfl⟩ q1169 rfl rfl rfl (fle rfl) rfl dX8_type_45 ?_
      refine g_aload_n h 0 dX8_type_48 rfl rfl ?_
      refine g_get (ci := 8) (v := .int (taped + 1)) h in_X8 0 3 rfl rfl (fle rfl) rfl q1169 rfl dX8_type_49 ?_
      obtain ⟨rfl, rfl, rfl⟩ := sj3 hf
      exact g_iret h hF [0, 1] rfl rfl ⟨rfl, rfl⟩ (fle rfl) (fle rfl) dX8_type_52
set_option maxHeartbeats 4000000 in
set_option maxRecDepth 100000 in
theorem w_X8_blanks_L0 {X : Cx} {a a_comesDown a_comesUp a_down a_fell a_held a_items a_lane a_read a_size a_tape a_up a_w : Nat} {isImage : Int32} {taped : Int32} {above : Int32} {below : Int32} {fallen : Int32} {torn : Int32} {start : Int32} {number : Int32} {tape : Nat → Int32} {ce sl : Nat} (h : Ok X cX8_blanks RX8) (hR : Rm X 0 0 0 0) (hL : ∀ i, i < 1 → i < X.nL) (hce : ce ≤ 0) (hsl : sl ≤ 0) : ∀ (n0 : Nat) (at_ : Int32) {o_at_ : Int32}, f_X8_blanks_L0 taped tape n0 at_ = some o_at_ → (G X [(a, .inr (8, [.ref a_w, .int isImage, .ref a_tape, .int taped, .ref a_lane, .ref a_size, .ref a_items, .ref a_up, .ref a_down, .int above, .int below, .ref a_fell, .int fallen, .int torn, .int o_at_, .int start, .int number, .ref a_read, .ref a_comesUp, .ref a_comesDown, .ref a_held])), (a_tape, .inl (X.E 1, 90, .inl tape))] [(0, .ref a)] ce sl 38 []) → G X [(a, .inr (8, [.ref a_w, .int isImage, .ref a_tape, .int taped, .ref a_lane, .ref a_size, .ref a_items, .ref a_up, .ref a_down, .int above, .int below, .ref a_fell, .int fallen, .int torn, .int at_, .int start, .int number, .ref a_read, .ref a_comesUp, .ref a_comesDown, .ref a_held])), (a_tape, .inl (X.E 1, 90, .inl tape))] [(0, .ref a)] ce sl 0 [] := by
  intro n0
  induction n0 with
  | zero => intro at_ o_at_ hf; exact nomatch (show (none : Option _) = some _ from hf)
  | succ n0 ih =>
    intro at_ o_at_ hf k0
    replace hf : t_X8_blanks_L0 taped tape (f_X8_blanks_L0 taped tape n0) at_ = some o_at_ := hf
    unfold t_X8_blanks_L0 at hf
    refine g_aload_n h 0 dX8_blanks_0 rfl rfl ?_
    refine g_get (ci := 8) (v := .int at_) h in_X8 0 14 rfl rfl (fle rfl) rfl q1180 rfl dX8_blanks_1 ?_
    refine g_aload_n h 0 dX8_blanks_4 rfl rfl ?_
    refine g_get (ci := 8) (v := .int taped) h in_X8 0 3 rfl rfl (fle rfl) rfl q1169 rfl dX8_blanks_5 ?_
    refine g_icmp_ge (tgt := 38) h dX8_blanks_8 rfl hf (fun c1 hf => ?_) (fun c1 hf => ?_)
    · obtain rfl := sj1 hf
      exact G.lsub [0] rfl k0
    · refine g_aload_n h 0 dX8_blanks_11 rfl rfl ?_
      refine g_get (ci := 8) (v := .ref a_tape) h in_X8 0 2 rfl rfl (fle rfl) rfl q1168 rfl dX8_blanks_12 ?_
      refine g_aload_n h 0 dX8_blanks_15 rfl rfl ?_
      refine g_get (ci := 8) (v := .int at_) h in_X8 0 14 rfl rfl (fle rfl) rfl q1180 rfl dX8_blanks_16 ?_
      obtain ⟨g2, hf⟩ := gn hf
      refine g_iaload h 1 rfl g2 dX8_blanks_19 ?_
      refine g_bipush (v := 32) h dX8_blanks_20 kbipush_32 ?_
      refine g_icmp_ne (tgt := 38) h dX8_blanks_22 rfl hf (fun c3 hf => ?_) (fun c3 hf => ?_)
      · refine g_aload_n h 0 dX8_blanks_25 rfl rfl ?_
        refine g_dup h dX8_blanks_26 rfl ?_
        refine g_get (ci := 8) (v := .int at_) h in_X8 0 14 rfl rfl (fle rfl) rfl q1180 rfl dX8_blanks_27 ?_
        refine g_iconst (v := 1) h dX8_blanks_30 kiconst_1 ?_
        refine g_iadd h dX8_blanks_31 ?_
        refine g_put (ci := 8) (ty := tyX8 14) (ws' := [(a, .inr (8, [.ref a_w, .int isImage, .ref a_tape, .int taped, .ref a_lane, .ref a_size, .ref a_items, .ref a_up, .ref a_down, .int above, .int below, .ref a_fell, .int fallen, .int torn, .int (at_ + 1), .int start, .int number, .ref a_read, .ref a_comesUp, .ref a_comesDown, .ref a_held])), (a_tape, .inl (X.E 1, 90, .inl tape))]) h in_X8 tyX8 tyX8_ok nmX8 0 14 rfl rfl (fle rfl) ⟨rfl, rfl⟩ q1180 rfl rfl rfl (fle rfl) rfl dX8_blanks_32 ?_
        refine g_goto (tgt := 0) h dX8_blanks_35 rfl ?_
        exact G.lsub [0] rfl (ih _ hf k0)
      · obtain rfl := sj1 hf
        exact G.lsub [0] rfl k0
set_option maxHeartbeats 4000000 in
set_option maxRecDepth 100000 in
theorem ct_X8_blanks {l : Launch} {D : va_G} {E : Ety} {a a_w a_tape a_lane a_size a_items a_up a_down a_fell a_read a_comesUp a_comesDown a_held : Nat} {isImage : Int32} {taped : Int32} {above : Int32} {below : Int32} {fallen : Int32} {torn : Int32} {at_ : Int32} {start : Int32} {number : Int32} {tape : Nat → Int32} {o_at_ : Int32} {o_start : Int32} (hf : f_X8_blanks taped at_ tape = some (o_at_, o_start)) : Ct l yX8_blanks cX8_blanks 1 none 0 0 0 0 D E [.ref a] [(a, .inr (8, [.ref a_w, .int isImage, .ref a_tape, .int taped, .ref a_lane, .ref a_size, .ref a_items, .ref a_up, .ref a_down, .int above, .int below, .ref a_fell, .int fallen, .int torn, .int at_, .int start, .int number, .ref a_read, .ref a_comesUp, .ref a_comesDown, .ref a_held])), (a_tape, .inl (E 1, 90, .inl tape))] (Pn none [(a, .inr (8, [.ref a_w, .int isImage, .ref a_tape, .int taped, .ref a_lane, .ref a_size, .ref a_items, .ref a_up, .ref a_down, .int above, .int below, .ref a_fell, .int fallen, .int torn, .int o_at_, .int o_start, .int number, .ref a_read, .ref a_comesUp, .ref a_comesDown, .ref a_held])), (a_tape, .inl (E 1, 90, .inl tape))]) := by
  refine ct_of (own := RX8) (plainFor_of_name (by decide)) rfl (fle rfl) rfl ?_
  intro X hl hD hE hnL hXF h hR hF hnm
  subst hl; subst hD; subst hE
  have hL : ∀ i, i < 1 → i < X.nL := fun i hi => by rw [hnL]; exact hi
  unfold f_X8_blanks at hf
  refine G.lsub (lv' := [(0, .ref a)]) [0] rfl ?_
  obtain ⟨at__4, hv, hf⟩ := ob1 hf
  refine w_X8_blanks_L0 (isImage := isImage) (taped := taped) (above := above) (below := below) (fallen := fallen) (torn := torn) (start := start) (number := number) (tape := tape) h hR hL (fle rfl) (fle rfl) FU _ hv ?_
  · clear hv
    refine g_aload_n h 0 dX8_blanks_38 rfl rfl ?_
    refine g_aload_n h 0 dX8_blanks_39 rfl rfl ?_
    refine g_get (ci := 8) (v := .int at__4) h in_X8 0 14 rfl rfl (fle rfl) rfl q1180 rfl dX8_blanks_40 ?_
    refine g_put (ci := 8) (ty := tyX8 15) (ws' := [(a, .inr (8, [.ref a_w, .int isImage, .ref a_tape, .int taped, .ref a_lane, .ref a_size, .ref a_items, .ref a_up, .ref a_down, .int above, .int below, .ref a_fell, .int fallen, .int torn, .int at__4, .int at__4, .int number, .ref a_read, .ref a_comesUp, .ref a_comesDown, .ref a_held])), (a_tape, .inl (X.E 1, 90, .inl tape))]) h in_X8 tyX8 tyX8_ok nmX8 0 15 rfl rfl (fle rfl) ⟨rfl, rfl⟩ q1181 rfl rfl rfl (fle rfl) rfl dX8_blanks_43 ?_
    obtain ⟨rfl, rfl⟩ := sj2 hf
    exact g_vret h hF [0, 1] rfl rfl ⟨rfl, rfl⟩ (fle rfl) (fle rfl) dX8_blanks_46
set_option maxHeartbeats 4000000 in
set_option maxRecDepth 100000 in
theorem ct_X8_here {l : Launch} {D : va_G} {E : Ety} {a a_w a_tape a_lane a_size a_items a_up a_down a_fell a_read a_comesUp a_comesDown a_held : Nat} {isImage : Int32} {taped : Int32} {above : Int32} {below : Int32} {fallen : Int32} {torn : Int32} {at_ : Int32} {start : Int32} {number : Int32} {tape : Nat → Int32} {r_ : Int32} (hf : f_X8_here taped at_ tape = some r_) : Ct l yX8_here cX8_here 1 (some .int) 0 0 0 0 D E [.ref a] [(a, .inr (8, [.ref a_w, .int isImage, .ref a_tape, .int taped, .ref a_lane, .ref a_size, .ref a_items, .ref a_up, .ref a_down, .int above, .int below, .ref a_fell, .int fallen, .int torn, .int at_, .int start, .int number, .ref a_read, .ref a_comesUp, .ref a_comesDown, .ref a_held])), (a_tape, .inl (E 1, 90, .inl tape))] (Pn (some (.int r_)) [(a, .inr (8, [.ref a_w, .int isImage, .ref a_tape, .int taped, .ref a_lane, .ref a_size, .ref a_items, .ref a_up, .ref a_down, .int above, .int below, .ref a_fell, .int fallen, .int torn, .int at_, .int start, .int number, .ref a_read, .ref a_comesUp, .ref a_comesDown, .ref a_held])), (a_tape, .inl (E 1, 90, .inl tape))]) := by
  refine ct_of (own := RX8) (plainFor_of_name (by decide)) rfl (fle rfl) rfl ?_
  intro X hl hD hE hnL hXF h hR hF hnm
  subst hl; subst hD; subst hE
  have hL : ∀ i, i < 1 → i < X.nL := fun i hi => by rw [hnL]; exact hi
  unfold f_X8_here at hf
  refine g_aload_n h 0 dX8_here_0 rfl rfl ?_
  refine g_get (ci := 8) (v := .int at_) h in_X8 0 14 rfl rfl (fle rfl) rfl q1180 rfl dX8_here_1 ?_
  refine g_aload_n h 0 dX8_here_4 rfl rfl ?_
  refine g_get (ci := 8) (v := .int taped) h in_X8 0 3 rfl rfl (fle rfl) rfl q1169 rfl dX8_here_5 ?_
  refine g_icmp_ge (tgt := 23) h dX8_here_8 rfl hf (fun c1 hf => ?_) (fun c1 hf => ?_)
  · refine g_iconst (v := (-1)) h dX8_here_23 kiconst_m1 ?_
    obtain rfl := sj1 hf
    exact g_iret h hF [0, 1] rfl rfl ⟨rfl, rfl⟩ (fle rfl) (fle rfl) dX8_here_24
  · refine g_aload_n h 0 dX8_here_11 rfl rfl ?_
    refine g_get (ci := 8) (v := .ref a_tape) h in_X8 0 2 rfl rfl (fle rfl) rfl q1168 rfl dX8_here_12 ?_
    refine g_aload_n h 0 dX8_here_15 rfl rfl ?_
    refine g_get (ci := 8) (v := .int at_) h in_X8 0 14 rfl rfl (fle rfl) rfl q1180 rfl dX8_here_16 ?_
    obtain ⟨g2, hf⟩ := gn hf
    refine g_iaload h 1 rfl g2 dX8_here_19 ?_
    refine g_goto (tgt := 24) h dX8_here_20 rfl ?_
    obtain rfl := sj1 hf
    exact g_iret h hF [0, 1] rfl rfl ⟨rfl, rfl⟩ (fle rfl) (fle rfl) dX8_here_24
set_option maxHeartbeats 4000000 in
set_option maxRecDepth 100000 in
theorem w_X8_takesNumber_L12 {X : Cx} {a a_comesDown a_comesUp a_down a_fell a_held a_items a_lane a_read a_size a_tape a_up a_w : Nat} {x1 : Int32} {x2 : Int32} {x3 : Int32} {isImage : Int32} {taped : Int32} {above : Int32} {below : Int32} {fallen : Int32} {torn : Int32} {start : Int32} {tape : Nat → Int32} {ce sl : Nat} (h : Ok X cX8_takesNumber RX8) (hR : Rm X 1 25 0 0) (hL : ∀ i, i < 5 → i < X.nL) (hce : ce ≤ 0) (hsl : sl ≤ 0) : ∀ (n0 : Nat) (x4 : Int32) (at_ : Int32) (number : Int32) {o_x4 : Int32} {o_at_ : Int32} {o_number : Int32}, f_X8_takesNumber_L12 x3 taped tape n0 x4 at_ number = some (o_x4, o_at_, o_number) → (G X [(a, .inr (8, [.ref a_w, .int isImage, .ref a_tape, .int taped, .ref a_lane, .ref a_size, .ref a_items, .ref a_up, .ref a_down, .int above, .int below, .ref a_fell, .int fallen, .int torn, .int o_at_, .int start, .int o_number, .ref a_read, .ref a_comesUp, .ref a_comesDown, .ref a_held])), (a_tape, .inl (X.E 1, 90, .inl tape))] [(0, .ref a), (1, .int x1), (2, .int x2), (4, .int o_x4)] ce sl 70 []) → G X [(a, .inr (8, [.ref a_w, .int isImage, .ref a_tape, .int taped, .ref a_lane, .ref a_size, .ref a_items, .ref a_up, .ref a_down, .int above, .int below, .ref a_fell, .int fallen, .int torn, .int at_, .int start, .int number, .ref a_read, .ref a_comesUp, .ref a_comesDown, .ref a_held])), (a_tape, .inl (X.E 1, 90, .inl tape))] [(0, .ref a), (1, .int x1), (2, .int x2), (3, .int x3), (4, .int x4)] ce sl 12 [] := by
  intro n0
  induction n0 with
  | zero => intro x4 at_ number o_x4 o_at_ o_number hf; exact nomatch (show (none : Option _) = some _ from hf)
  | succ n0 ih =>
    intro x4 at_ number o_x4 o_at_ o_number hf k0
    replace hf : t_X8_takesNumber_L12 x3 taped tape (f_X8_takesNumber_L12 x3 taped tape n0) x4 at_ number = some (o_x4, o_at_, o_number) := hf
    unfold t_X8_takesNumber_L12 at hf
    refine g_iload h 4 dX8_takesNumber_12 rfl ?_
    refine g_iload_n h 3 dX8_takesNumber_14 rfl rfl ?_
    refine g_icmp_ge (tgt := 70) h dX8_takesNumber_15 rfl hf (fun c3 hf => ?_) (fun c3 hf => ?_)
    · obtain ⟨rfl, rfl, rfl⟩ := sj3 hf
      exact G.lsub [0, 1, 2, 4] rfl k0
    · refine g_aload_n h 0 dX8_takesNumber_18 rfl rfl ?_
      obtain ⟨r_4, hv, hf⟩ := ob1 hf
      refine g_callV (ci := 8) (q0 := 0) (n := 0) (As := []) (st := []) (wr := []) (isC := [0, 1]) (isR := []) h hR (ct_X8_here (a := a) (a_w := a_w) (a_tape := a_tape) (a_lane := a_lane) (a_size := a_size) (a_items := a_items) (a_up := a_up) (a_down := a_down) (a_fell := a_fell) (a_read := a_read) (a_comesUp := a_comesUp) (a_comesDown := a_comesDown) (a_held := a_held) (isImage := isImage) (taped := taped) (above := above) (below := below) (fallen := fallen) (torn := torn) (at_ := at_) (start := start) (number := number) (tape := tape) hv) rfl rfl (lw_V q1255 q1257 qs31 q80 q1258) (by decide +kernel) rfl ⟨rfl, rfl, rfl, rfl, by decide⟩ ⟨hce, hsl, fle rfl, fle rfl, fle rfl⟩ rfl dX8_takesNumber_19 (pin (perm := [0, 1]) (ws' := [(a, .inr (8, [.ref a_w, .int isImage, .ref a_tape, .int taped, .ref a_lane, .ref a_size, .ref a_items, .ref a_up, .ref a_down, .int above, .int below, .ref a_fell, .int fallen, .int torn, .int at_, .int start, .int number, .ref a_read, .ref a_comesUp, .ref a_comesDown, .ref a_held])), (a_tape, .inl (X.E 1, 90, .inl tape))]) (stk := [.int r_4]) rfl rfl rfl ?_)
      clear hv
      refine g_i2l h dX8_takesNumber_22 ?_
      refine g_ldc2 h q1259 dX8_takesNumber_23 ?_
      refine g_ldc2 h q1260 dX8_takesNumber_26 ?_
      obtain ⟨r_5, hv, hf⟩ := ob1 hf
      refine g_callS (n := 3) (As := [.long r_4.toInt64, .long 48, .long 57]) (st := []) (wr := [(a, .inr (8, [.ref a_w, .int isImage, .ref a_tape, .int taped, .ref a_lane, .ref a_size, .ref a_items, .ref a_up, .ref a_down, .int above, .int below, .ref a_fell, .int fallen, .int torn, .int at_, .int start, .int number, .ref a_read, .ref a_comesUp, .ref a_comesDown, .ref a_held])), (a_tape, .inl (X.E 1, 90, .inl tape))]) (isC := []) (isR := [0, 1]) h hR (ct_X8_in (x0 := r_4.toInt64) (x2 := 48) (x4 := 57) hv) (lw_S q1236 q1237 q80 q1238) (by decide +kernel) rfl ⟨rfl, rfl, rfl, rfl, by decide⟩ ⟨hce, hsl, fle rfl, fle rfl, fle rfl⟩ rfl dX8_takesNumber_29 (pin (perm := [0, 1]) (ws' := [(a, .inr (8, [.ref a_w, .int isImage, .ref a_tape, .int taped, .ref a_lane, .ref a_size, .ref a_items, .ref a_up, .ref a_down, .int above, .int below, .ref a_fell, .int fallen, .int torn, .int at_, .int start, .int number, .ref a_read, .ref a_comesUp, .ref a_comesDown, .ref a_held])), (a_tape, .inl (X.E 1, 90, .inl tape))]) (stk := [.int r_5]) rfl rfl rfl ?_)
      clear hv
      refine g_if_eq (tgt := 70) h dX8_takesNumber_32 rfl hf (fun c6 hf => ?_) (fun c6 hf => ?_)
      · obtain ⟨rfl, rfl, rfl⟩ := sj3 hf
        exact G.lsub [0, 1, 2, 4] rfl k0
      · refine g_aload_n h 0 dX8_takesNumber_35 rfl rfl ?_
        refine g_bipush (v := 10) h dX8_takesNumber_36 kbipush_10 ?_
        refine g_aload_n h 0 dX8_takesNumber_38 rfl rfl ?_
        refine g_get (ci := 8) (v := .int number) h in_X8 0 16 rfl rfl (fle rfl) rfl q1182 rfl dX8_takesNumber_39 ?_
        refine g_imul h dX8_takesNumber_42 ?_
        refine g_aload_n h 0 dX8_takesNumber_43 rfl rfl ?_
        obtain ⟨r_7, hv, hf⟩ := ob1 hf
        refine g_callV (ci := 8) (q0 := 0) (n := 0) (As := []) (st := [.int (10 * number), .ref a]) (wr := []) (isC := [0, 1]) (isR := []) h hR (ct_X8_here (a := a) (a_w := a_w) (a_tape := a_tape) (a_lane := a_lane) (a_size := a_size) (a_items := a_items) (a_up := a_up) (a_down := a_down) (a_fell := a_fell) (a_read := a_read) (a_comesUp := a_comesUp) (a_comesDown := a_comesDown) (a_held := a_held) (isImage := isImage) (taped := taped) (above := above) (below := below) (fallen := fallen) (torn := torn) (at_ := at_) (start := start) (number := number) (tape := tape) hv) rfl rfl (lw_V q1255 q1257 qs31 q80 q1258) (by decide +kernel) rfl ⟨rfl, rfl, rfl, rfl, by decide⟩ ⟨hce, hsl, fle rfl, fle rfl, fle rfl⟩ rfl dX8_takesNumber_44 (pin (perm := [0, 1]) (ws' := [(a, .inr (8, [.ref a_w, .int isImage, .ref a_tape, .int taped, .ref a_lane, .ref a_size, .ref a_items, .ref a_up, .ref a_down, .int above, .int below, .ref a_fell, .int fallen, .int torn, .int at_, .int start, .int number, .ref a_read, .ref a_comesUp, .ref a_comesDown, .ref a_held])), (a_tape, .inl (X.E 1, 90, .inl tape))]) (stk := [.int r_7, .int (10 * number), .ref a]) rfl rfl rfl ?_)
        clear hv
        refine g_iadd h dX8_takesNumber_47 ?_
        refine g_bipush (v := 48) h dX8_takesNumber_48 kbipush_48 ?_
        refine g_isub h dX8_takesNumber_50 ?_
        refine g_put (ci := 8) (ty := tyX8 16) (ws' := [(a, .inr (8, [.ref a_w, .int isImage, .ref a_tape, .int taped, .ref a_lane, .ref a_size, .ref a_items, .ref a_up, .ref a_down, .int above, .int below, .ref a_fell, .int fallen, .int torn, .int at_, .int start, .int (((10 * number) + r_7) - 48), .ref a_read, .ref a_comesUp, .ref a_comesDown, .ref a_held])), (a_tape, .inl (X.E 1, 90, .inl tape))]) h in_X8 tyX8 tyX8_ok nmX8 0 16 rfl rfl (fle rfl) ⟨rfl, rfl⟩ q1182 rfl rfl rfl (fle rfl) rfl dX8_takesNumber_51 ?_
        refine g_iinc (j := 4) (v := (x4 + 1)) (lv' := [(4, .int (x4 + 1)), (0, .ref a), (1, .int x1), (2, .int x2), (3, .int x3)]) h dX8_takesNumber_54 rfl (kinc_1 _) (hL 4 (fle rfl)) rfl ?_
        refine g_aload_n h 1 dX8_takesNumber_57 rfl rfl ?_
        refine g_dup h dX8_takesNumber_58 rfl ?_
        refine g_get (ci := 8) (v := .int at_) h in_X8 0 14 rfl rfl (fle rfl) rfl q1180 rfl dX8_takesNumber_59 ?_
        refine g_iconst (v := 1) h dX8_takesNumber_62 kiconst_1 ?_
        refine g_iadd h dX8_takesNumber_63 ?_
        refine g_put (ci := 8) (ty := tyX8 14) (ws' := [(a, .inr (8, [.ref a_w, .int isImage, .ref a_tape, .int taped, .ref a_lane, .ref a_size, .ref a_items, .ref a_up, .ref a_down, .int above, .int below, .ref a_fell, .int fallen, .int torn, .int (at_ + 1), .int start, .int (((10 * number) + r_7) - 48), .ref a_read, .ref a_comesUp, .ref a_comesDown, .ref a_held])), (a_tape, .inl (X.E 1, 90, .inl tape))]) h in_X8 tyX8 tyX8_ok nmX8 0 14 rfl rfl (fle rfl) ⟨rfl, rfl⟩ q1180 rfl rfl rfl (fle rfl) rfl dX8_takesNumber_64 ?_
        refine g_goto (tgt := 12) h dX8_takesNumber_67 rfl ?_
        exact G.lsub [1, 2, 3, 4, 0] rfl (ih _ _ _ hf k0)
set_option maxHeartbeats 4000000 in
set_option maxRecDepth 100000 in
theorem ct_X8_takesNumber {l : Launch} {D : va_G} {E : Ety} {a a_w a_tape a_lane a_size a_items a_up a_down a_fell a_read a_comesUp a_comesDown a_held : Nat} {x1 : Int32} {x2 : Int32} {x3 : Int32} {isImage : Int32} {taped : Int32} {above : Int32} {below : Int32} {fallen : Int32} {torn : Int32} {at_ : Int32} {start : Int32} {number : Int32} {tape : Nat → Int32} {r_ : Int32} {o_at_ : Int32} {o_start : Int32} {o_number : Int32} (hf : f_X8_takesNumber x1 x2 x3 taped at_ tape = some (r_, o_at_, o_start, o_number)) : Ct l yX8_takesNumber cX8_takesNumber 5 (some .boolean) 1 25 0 0 D E [.ref a, .int x1, .int x2, .int x3] [(a, .inr (8, [.ref a_w, .int isImage, .ref a_tape, .int taped, .ref a_lane, .ref a_size, .ref a_items, .ref a_up, .ref a_down, .int above, .int below, .ref a_fell, .int fallen, .int torn, .int at_, .int start, .int number, .ref a_read, .ref a_comesUp, .ref a_comesDown, .ref a_held])), (a_tape, .inl (E 1, 90, .inl tape))] (Pn (some (.int r_)) [(a, .inr (8, [.ref a_w, .int isImage, .ref a_tape, .int taped, .ref a_lane, .ref a_size, .ref a_items, .ref a_up, .ref a_down, .int above, .int below, .ref a_fell, .int fallen, .int torn, .int o_at_, .int o_start, .int o_number, .ref a_read, .ref a_comesUp, .ref a_comesDown, .ref a_held])), (a_tape, .inl (E 1, 90, .inl tape))]) := by
  refine ct_of (own := RX8) (plainFor_of_name (by decide)) rfl (fle rfl) rfl ?_
  intro X hl hD hE hnL hXF h hR hF hnm
  subst hl; subst hD; subst hE
  have hL : ∀ i, i < 5 → i < X.nL := fun i hi => by rw [hnL]; exact hi
  unfold f_X8_takesNumber at hf
  refine g_aload_n h 0 dX8_takesNumber_0 rfl rfl ?_
  obtain ⟨at__1, start_2, hv, hf⟩ := ob2 hf
  refine g_callV (ci := 8) (q0 := 0) (n := 0) (As := []) (st := []) (wr := []) (isC := [0, 1]) (isR := []) h hR (ct_X8_blanks (a := a) (a_w := a_w) (a_tape := a_tape) (a_lane := a_lane) (a_size := a_size) (a_items := a_items) (a_up := a_up) (a_down := a_down) (a_fell := a_fell) (a_read := a_read) (a_comesUp := a_comesUp) (a_comesDown := a_comesDown) (a_held := a_held) (isImage := isImage) (taped := taped) (above := above) (below := below) (fallen := fallen) (torn := torn) (at_ := at_) (start := start) (number := number) (tape := tape) hv) rfl rfl (lw_V q1251 q1253 qs30 q80 q1254) (by decide +kernel) rfl ⟨rfl, rfl, rfl, rfl, by decide⟩ ⟨fle rfl, fle rfl, fle rfl, fle rfl, fle rfl⟩ rfl dX8_takesNumber_1 (pin (perm := [0, 1]) (ws' := [(a, .inr (8, [.ref a_w, .int isImage, .ref a_tape, .int taped, .ref a_lane, .ref a_size, .ref a_items, .ref a_up, .ref a_down, .int above, .int below, .ref a_fell, .int fallen, .int torn, .int at__1, .int start_2, .int number, .ref a_read, .ref a_comesUp, .ref a_comesDown, .ref a_held])), (a_tape, .inl (X.E 1, 90, .inl tape))]) (stk := []) rfl rfl rfl ?_)
  clear hv
  refine g_aload_n h 0 dX8_takesNumber_4 rfl rfl ?_
  refine g_iconst (v := 0) h dX8_takesNumber_5 kiconst_0 ?_
  refine g_put (ci := 8) (ty := tyX8 16) (ws' := [(a, .inr (8, [.ref a_w, .int isImage, .ref a_tape, .int taped, .ref a_lane, .ref a_size, .ref a_items, .ref a_up, .ref a_down, .int above, .int below, .ref a_fell, .int fallen, .int torn, .int at__1, .int start_2, .int 0, .ref a_read, .ref a_comesUp, .ref a_comesDown, .ref a_held])), (a_tape, .inl (X.E 1, 90, .inl tape))]) h in_X8 tyX8 tyX8_ok nmX8 0 16 rfl rfl (fle rfl) ⟨rfl, rfl⟩ q1182 rfl rfl rfl (fle rfl) rfl dX8_takesNumber_6 ?_
  refine g_iconst (v := 0) h dX8_takesNumber_9 kiconst_0 ?_
  refine g_istore (lv' := [(4, .int 0), (0, .ref a), (1, .int x1), (2, .int x2), (3, .int x3)]) h dX8_takesNumber_10 (hL 4 (fle rfl)) rfl ?_
  refine G.lsub (lv' := [(0, .ref a), (1, .int x1), (2, .int x2), (3, .int x3), (4, .int 0)]) [1, 2, 3, 4, 0] rfl ?_
  obtain ⟨x4_8, at__9, number_10, hv, hf⟩ := ob3 hf
  refine w_X8_takesNumber_L12 (x1 := x1) (x2 := x2) (x3 := x3) (isImage := isImage) (taped := taped) (above := above) (below := below) (fallen := fallen) (torn := torn) (start := start_2) (tape := tape) h hR hL (fle rfl) (fle rfl) FU _ _ _ hv ?_
  · clear hv
    refine g_iload h 3 dX8_takesNumber_70 rfl ?_
    refine g_if_eq (tgt := 90) h dX8_takesNumber_72 rfl hf (fun c11 hf => ?_) (fun c11 hf => ?_)
    · refine g_iconst (v := 0) h dX8_takesNumber_90 kiconst_0 ?_
      obtain ⟨rfl, rfl, rfl, rfl⟩ := sj4 hf
      exact g_zret h hF rfl [0, 1] rfl rfl ⟨rfl, rfl⟩ (fle rfl) (fle rfl) dX8_takesNumber_91
    · refine g_aload_n h 0 dX8_takesNumber_75 rfl rfl ?_
      refine g_get (ci := 8) (v := .int number_10) h in_X8 0 16 rfl rfl (fle rfl) rfl q1182 rfl dX8_takesNumber_76 ?_
      refine g_i2l h dX8_takesNumber_79 ?_
      refine g_iload_n h 1 dX8_takesNumber_80 rfl rfl ?_
      refine g_i2l h dX8_takesNumber_81 ?_
      refine g_iload_n h 2 dX8_takesNumber_82 rfl rfl ?_
      refine g_i2l h dX8_takesNumber_83 ?_
      obtain ⟨r_12, hv, hf⟩ := ob1 hf
      refine g_callS (n := 3) (As := [.long number_10.toInt64, .long x1.toInt64, .long x2.toInt64]) (st := []) (wr := [(a, .inr (8, [.ref a_w, .int isImage, .ref a_tape, .int taped, .ref a_lane, .ref a_size, .ref a_items, .ref a_up, .ref a_down, .int above, .int below, .ref a_fell, .int fallen, .int torn, .int at__9, .int start_2, .int number_10, .ref a_read, .ref a_comesUp, .ref a_comesDown, .ref a_held])), (a_tape, .inl (X.E 1, 90, .inl tape))]) (isC := []) (isR := [0, 1]) h hR (ct_X8_in (x0 := number_10.toInt64) (x2 := x1.toInt64) (x4 := x2.toInt64) hv) (lw_S q1236 q1237 q80 q1238) (by decide +kernel) rfl ⟨rfl, rfl, rfl, rfl, by decide⟩ ⟨fle rfl, fle rfl, fle rfl, fle rfl, fle rfl⟩ rfl dX8_takesNumber_84 (pin (perm := [0, 1]) (ws' := [(a, .inr (8, [.ref a_w, .int isImage, .ref a_tape, .int taped, .ref a_lane, .ref a_size, .ref a_items, .ref a_up, .ref a_down, .int above, .int below, .ref a_fell, .int fallen, .int torn, .int at__9, .int start_2, .int number_10, .ref a_read, .ref a_comesUp, .ref a_comesDown, .ref a_held])), (a_tape, .inl (X.E 1, 90, .inl tape))]) (stk := [.int r_12]) rfl rfl rfl ?_)
      clear hv
      refine g_if_ne (tgt := 92) h dX8_takesNumber_87 rfl hf (fun c13 hf => ?_) (fun c13 hf => ?_)
      · refine g_iconst (v := 0) h dX8_takesNumber_90 kiconst_0 ?_
        obtain ⟨rfl, rfl, rfl, rfl⟩ := sj4 hf
        exact g_zret h hF rfl [0, 1] rfl rfl ⟨rfl, rfl⟩ (fle rfl) (fle rfl) dX8_takesNumber_91
      · refine g_aload_n h 0 dX8_takesNumber_92 rfl rfl ?_
        obtain ⟨r_14, hv, hf⟩ := ob1 hf
        refine g_callV (ci := 8) (q0 := 0) (n := 0) (As := []) (st := []) (wr := []) (isC := [0, 1]) (isR := []) h hR (ct_X8_here (a := a) (a_w := a_w) (a_tape := a_tape) (a_lane := a_lane) (a_size := a_size) (a_items := a_items) (a_up := a_up) (a_down := a_down) (a_fell := a_fell) (a_read := a_read) (a_comesUp := a_comesUp) (a_comesDown := a_comesDown) (a_held := a_held) (isImage := isImage) (taped := taped) (above := above) (below := below) (fallen := fallen) (torn := torn) (at_ := at__9) (start := start_2) (number := number_10) (tape := tape) hv) rfl rfl (lw_V q1255 q1257 qs31 q80 q1258) (by decide +kernel) rfl ⟨rfl, rfl, rfl, rfl, by decide⟩ ⟨fle rfl, fle rfl, fle rfl, fle rfl, fle rfl⟩ rfl dX8_takesNumber_93 (pin (perm := [0, 1]) (ws' := [(a, .inr (8, [.ref a_w, .int isImage, .ref a_tape, .int taped, .ref a_lane, .ref a_size, .ref a_items, .ref a_up, .ref a_down, .int above, .int below, .ref a_fell, .int fallen, .int torn, .int at__9, .int start_2, .int number_10, .ref a_read, .ref a_comesUp, .ref a_comesDown, .ref a_held])), (a_tape, .inl (X.E 1, 90, .inl tape))]) (stk := [.int r_14]) rfl rfl rfl ?_)
        clear hv
        refine g_i2l h dX8_takesNumber_96 ?_
        refine g_ldc2 h q1259 dX8_takesNumber_97 ?_
        refine g_ldc2 h q1260 dX8_takesNumber_100 ?_
        obtain ⟨r_15, hv, hf⟩ := ob1 hf
        refine g_callS (n := 3) (As := [.long r_14.toInt64, .long 48, .long 57]) (st := []) (wr := [(a, .inr (8, [.ref a_w, .int isImage, .ref a_tape, .int taped, .ref a_lane, .ref a_size, .ref a_items, .ref a_up, .ref a_down, .int above, .int below, .ref a_fell, .int fallen, .int torn, .int at__9, .int start_2, .int number_10, .ref a_read, .ref a_comesUp, .ref a_comesDown, .ref a_held])), (a_tape, .inl (X.E 1, 90, .inl tape))]) (isC := []) (isR := [0, 1]) h hR (ct_X8_in (x0 := r_14.toInt64) (x2 := 48) (x4 := 57) hv) (lw_S q1236 q1237 q80 q1238) (by decide +kernel) rfl ⟨rfl, rfl, rfl, rfl, by decide⟩ ⟨fle rfl, fle rfl, fle rfl, fle rfl, fle rfl⟩ rfl dX8_takesNumber_103 (pin (perm := [0, 1]) (ws' := [(a, .inr (8, [.ref a_w, .int isImage, .ref a_tape, .int taped, .ref a_lane, .ref a_size, .ref a_items, .ref a_up, .ref a_down, .int above, .int below, .ref a_fell, .int fallen, .int torn, .int at__9, .int start_2, .int number_10, .ref a_read, .ref a_comesUp, .ref a_comesDown, .ref a_held])), (a_tape, .inl (X.E 1, 90, .inl tape))]) (stk := [.int r_15]) rfl rfl rfl ?_)
        clear hv
        refine g_if_eq (tgt := 119) h dX8_takesNumber_106 rfl hf (fun c16 hf => ?_) (fun c16 hf => ?_)
        · refine g_iconst (v := 1) h dX8_takesNumber_119 kiconst_1 ?_
          obtain ⟨rfl, rfl, rfl, rfl⟩ := sj4 hf
          exact g_zret h hF rfl [0, 1] rfl rfl ⟨rfl, rfl⟩ (fle rfl) (fle rfl) dX8_takesNumber_120
        · refine g_aload_n h 0 dX8_takesNumber_109 rfl rfl ?_
          refine g_aload_n h 0 dX8_takesNumber_110 rfl rfl ?_
          refine g_get (ci := 8) (v := .int at__9) h in_X8 0 14 rfl rfl (fle rfl) rfl q1180 rfl dX8_takesNumber_111 ?_
          refine g_put (ci := 8) (ty := tyX8 15) (ws' := [(a, .inr (8, [.ref a_w, .int isImage, .ref a_tape, .int taped, .ref a_lane, .ref a_size, .ref a_items, .ref a_up, .ref a_down, .int above, .int below, .ref a_fell, .int fallen, .int torn, .int at__9, .int at__9, .int number_10, .ref a_read, .ref a_comesUp, .ref a_comesDown, .ref a_held])), (a_tape, .inl (X.E 1, 90, .inl tape))]) h in_X8 tyX8 tyX8_ok nmX8 0 15 rfl rfl (fle rfl) ⟨rfl, rfl⟩ q1181 rfl rfl rfl (fle rfl) rfl dX8_takesNumber_114 ?_
          refine g_iconst (v := 0) h dX8_takesNumber_117 kiconst_0 ?_
          obtain ⟨rfl, rfl, rfl, rfl⟩ := sj4 hf
          exact g_zret h hF rfl [0, 1] rfl rfl ⟨rfl, rfl⟩ (fle rfl) (fle rfl) dX8_takesNumber_118
set_option maxHeartbeats 4000000 in
set_option maxRecDepth 100000 in
theorem ct_X8_takes {l : Launch} {D : va_G} {E : Ety} {a a_w a_tape a_lane a_size a_items a_up a_down a_fell a_read a_comesUp a_comesDown a_held : Nat} {x1 : Int32} {isImage : Int32} {taped : Int32} {above : Int32} {below : Int32} {fallen : Int32} {torn : Int32} {at_ : Int32} {start : Int32} {number : Int32} {tape : Nat → Int32} {r_ : Int32} {o_at_ : Int32} {o_start : Int32} (hf : f_X8_takes x1 taped at_ tape = some (r_, o_at_, o_start)) : Ct l yX8_takes cX8_takes 3 (some .boolean) 1 20 0 0 D E [.ref a, .int x1] [(a, .inr (8, [.ref a_w, .int isImage, .ref a_tape, .int taped, .ref a_lane, .ref a_size, .ref a_items, .ref a_up, .ref a_down, .int above, .int below, .ref a_fell, .int fallen, .int torn, .int at_, .int start, .int number, .ref a_read, .ref a_comesUp, .ref a_comesDown, .ref a_held])), (a_tape, .inl (E 1, 90, .inl tape))] (Pn (some (.int r_)) [(a, .inr (8, [.ref a_w, .int isImage, .ref a_tape, .int taped, .ref a_lane, .ref a_size, .ref a_items, .ref a_up, .ref a_down, .int above, .int below, .ref a_fell, .int fallen, .int torn, .int o_at_, .int o_start, .int number, .ref a_read, .ref a_comesUp, .ref a_comesDown, .ref a_held])), (a_tape, .inl (E 1, 90, .inl tape))]) := by
  refine ct_of (own := RX8) (plainFor_of_name (by decide)) rfl (fle rfl) rfl ?_
  intro X hl hD hE hnL hXF h hR hF hnm
  subst hl; subst hD; subst hE
  have hL : ∀ i, i < 3 → i < X.nL := fun i hi => by rw [hnL]; exact hi
  unfold f_X8_takes at hf
  refine g_aload_n h 0 dX8_takes_0 rfl rfl ?_
  obtain ⟨at__1, start_2, hv, hf⟩ := ob2 hf
  refine g_callV (ci := 8) (q0 := 0) (n := 0) (As := []) (st := []) (wr := []) (isC := [0, 1]) (isR := []) h hR (ct_X8_blanks (a := a) (a_w := a_w) (a_tape := a_tape) (a_lane := a_lane) (a_size := a_size) (a_items := a_items) (a_up := a_up) (a_down := a_down) (a_fell := a_fell) (a_read := a_read) (a_comesUp := a_comesUp) (a_comesDown := a_comesDown) (a_held := a_held) (isImage := isImage) (taped := taped) (above := above) (below := below) (fallen := fallen) (torn := torn) (at_ := at_) (start := start) (number := number) (tape := tape) hv) rfl rfl (lw_V q1251 q1253 qs30 q80 q1254) (by decide +kernel) rfl ⟨rfl, rfl, rfl, rfl, by decide⟩ ⟨fle rfl, fle rfl, fle rfl, fle rfl, fle rfl⟩ rfl dX8_takes_1 (pin (perm := [0, 1]) (ws' := [(a, .inr (8, [.ref a_w, .int isImage, .ref a_tape, .int taped, .ref a_lane, .ref a_size, .ref a_items, .ref a_up, .ref a_down, .int above, .int below, .ref a_fell, .int fallen, .int torn, .int at__1, .int start_2, .int number, .ref a_read, .ref a_comesUp, .ref a_comesDown, .ref a_held])), (a_tape, .inl (X.E 1, 90, .inl tape))]) (stk := []) rfl rfl rfl ?_)
  clear hv
  refine g_aload_n h 0 dX8_takes_4 rfl rfl ?_
  obtain ⟨r_3, hv, hf⟩ := ob1 hf
  refine g_callV (ci := 8) (q0 := 0) (n := 0) (As := []) (st := []) (wr := []) (isC := [0, 1]) (isR := []) h hR (ct_X8_here (a := a) (a_w := a_w) (a_tape := a_tape) (a_lane := a_lane) (a_size := a_size) (a_items := a_items) (a_up := a_up) (a_down := a_down) (a_fell := a_fell) (a_read := a_read) (a_comesUp := a_comesUp) (a_comesDown := a_comesDown) (a_held := a_held) (isImage := isImage) (taped := taped) (above := above) (below := below) (fallen := fallen) (torn := torn) (at_ := at__1) (start := start_2) (number := number) (tape := tape) hv) rfl rfl (lw_V q1255 q1257 qs31 q80 q1258) (by decide +kernel) rfl ⟨rfl, rfl, rfl, rfl, by decide⟩ ⟨fle rfl, fle rfl, fle rfl, fle rfl, fle rfl⟩ rfl dX8_takes_5 (pin (perm := [0, 1]) (ws' := [(a, .inr (8, [.ref a_w, .int isImage, .ref a_tape, .int taped, .ref a_lane, .ref a_size, .ref a_items, .ref a_up, .ref a_down, .int above, .int below, .ref a_fell, .int fallen, .int torn, .int at__1, .int start_2, .int number, .ref a_read, .ref a_comesUp, .ref a_comesDown, .ref a_held])), (a_tape, .inl (X.E 1, 90, .inl tape))]) (stk := [.int r_3]) rfl rfl rfl ?_)
  clear hv
  refine g_iload_n h 1 dX8_takes_8 rfl rfl ?_
  obtain ⟨z_5, hw, hf⟩ := ob1 hf
  have K9 : G X [(a, .inr (8, [.ref a_w, .int isImage, .ref a_tape, .int taped, .ref a_lane, .ref a_size, .ref a_items, .ref a_up, .ref a_down, .int above, .int below, .ref a_fell, .int fallen, .int torn, .int at__1, .int start_2, .int number, .ref a_read, .ref a_comesUp, .ref a_comesDown, .ref a_held])), (a_tape, .inl (X.E 1, 90, .inl tape))] [(0, .ref a)] 0 0 17 [.int z_5] := by
    clear hw
    refine g_istore_n (lv' := [(2, .int z_5), (0, .ref a)]) h dX8_takes_17 rfl (hL 2 (fle rfl)) rfl ?_
    refine g_aload_n h 1 dX8_takes_18 rfl rfl ?_
    refine g_dup h dX8_takes_19 rfl ?_
    refine g_get (ci := 8) (v := .int at__1) h in_X8 0 14 rfl rfl (fle rfl) rfl q1180 rfl dX8_takes_20 ?_
    refine g_iload_n h 0 dX8_takes_23 rfl rfl ?_
    refine g_if_eq (tgt := 31) h dX8_takes_24 rfl hf (fun c6 hf => ?_) (fun c6 hf => ?_)
    · refine g_iconst (v := 0) h dX8_takes_31 kiconst_0 ?_
      refine g_iadd h dX8_takes_32 ?_
      refine g_put (ci := 8) (ty := tyX8 14) (ws' := [(a, .inr (8, [.ref a_w, .int isImage, .ref a_tape, .int taped, .ref a_lane, .ref a_size, .ref a_items, .ref a_up, .ref a_down, .int above, .int below, .ref a_fell, .int fallen, .int torn, .int (at__1 + 0), .int start_2, .int number, .ref a_read, .ref a_comesUp, .ref a_comesDown, .ref a_held])), (a_tape, .inl (X.E 1, 90, .inl tape))]) h in_X8 tyX8 tyX8_ok nmX8 0 14 rfl rfl (fle rfl) ⟨rfl, rfl⟩ q1180 rfl rfl rfl (fle rfl) rfl dX8_takes_33 ?_
      refine g_iload_n h 0 dX8_takes_36 rfl rfl ?_
      obtain ⟨gz, hf⟩ := gy hf
      obtain ⟨rfl, rfl, rfl⟩ := sj3 hf
      exact g_zret h hF (nz gz) [0, 1] rfl rfl ⟨rfl, rfl⟩ (fle rfl) (fle rfl) dX8_takes_37
    · refine g_iconst (v := 1) h dX8_takes_27 kiconst_1 ?_
      refine g_goto (tgt := 32) h dX8_takes_28 rfl ?_
      refine g_iadd h dX8_takes_32 ?_
      refine g_put (ci := 8) (ty := tyX8 14) (ws' := [(a, .inr (8, [.ref a_w, .int isImage, .ref a_tape, .int taped, .ref a_lane, .ref a_size, .ref a_items, .ref a_up, .ref a_down, .int above, .int below, .ref a_fell, .int fallen, .int torn, .int (at__1 + 1), .int start_2, .int number, .ref a_read, .ref a_comesUp, .ref a_comesDown, .ref a_held])), (a_tape, .inl (X.E 1, 90, .inl tape))]) h in_X8 tyX8 tyX8_ok nmX8 0 14 rfl rfl (fle rfl) ⟨rfl, rfl⟩ q1180 rfl rfl rfl (fle rfl) rfl dX8_takes_33 ?_
      refine g_iload_n h 0 dX8_takes_36 rfl rfl ?_
      obtain ⟨gz, hf⟩ := gy hf
      obtain ⟨rfl, rfl, rfl⟩ := sj3 hf
      exact g_zret h hF (nz gz) [0, 1] rfl rfl ⟨rfl, rfl⟩ (fle rfl) (fle rfl) dX8_takes_37
  clear hf
  have hf := hw
  clear hw
  refine g_icmp_ne (tgt := 16) h dX8_takes_9 rfl hf (fun c4 hf => ?_) (fun c4 hf => ?_)
  · refine g_iconst (v := 1) h dX8_takes_12 kiconst_1 ?_
    refine g_goto (tgt := 17) h dX8_takes_13 rfl ?_
    obtain rfl := sj1 hf
    exact G.lsub [0] rfl K9
  · refine g_iconst (v := 0) h dX8_takes_16 kiconst_0 ?_
    obtain rfl := sj1 hf
    exact G.lsub [0] rfl K9
set_option maxHeartbeats 4000000 in
set_option maxRecDepth 100000 in
theorem ct_X8_kindOf {l : Launch} {D : va_G} {E : Ety}  {x0 : Int32} {r_ : Int32} (hf : f_X8_kindOf x0 = some r_) : Ct l yX8_kindOf cX8_kindOf 1 (some .int) 0 0 0 0 D E [.int x0] [] (Pn (some (.int r_)) []) := by
  refine ct_of (own := RX8) (plainFor_of_name (by decide)) rfl (fle rfl) rfl ?_
  intro X hl hD hE hnL hXF h hR hF hnm
  subst hl; subst hD; subst hE
  have hL : ∀ i, i < 1 → i < X.nL := fun i hi => by rw [hnL]; exact hi
  unfold f_X8_kindOf at hf
  refine g_iload_n h 0 dX8_kindOf_0 rfl rfl ?_
  refine g_bipush (v := 112) h dX8_kindOf_1 kbipush_112 ?_
  refine g_icmp_ne (tgt := 10) h dX8_kindOf_3 rfl hf (fun c1 hf => ?_) (fun c1 hf => ?_)
  · refine g_iconst (v := 0) h dX8_kindOf_6 kiconst_0 ?_
    refine g_goto (tgt := 51) h dX8_kindOf_7 rfl ?_
    obtain rfl := sj1 hf
    exact g_iret h hF [] rfl rfl ⟨rfl, rfl⟩ (fle rfl) (fle rfl) dX8_kindOf_51
  · refine g_iload_n h 0 dX8_kindOf_10 rfl rfl ?_
    refine g_bipush (v := 115) h dX8_kindOf_11 kbipush_115 ?_
    refine g_icmp_ne (tgt := 20) h dX8_kindOf_13 rfl hf (fun c2 hf => ?_) (fun c2 hf => ?_)
    · refine g_iconst (v := 1) h dX8_kindOf_16 kiconst_1 ?_
      refine g_goto (tgt := 51) h dX8_kindOf_17 rfl ?_
      obtain rfl := sj1 hf
      exact g_iret h hF [] rfl rfl ⟨rfl, rfl⟩ (fle rfl) (fle rfl) dX8_kindOf_51
    · refine g_iload_n h 0 dX8_kindOf_20 rfl rfl ?_
      refine g_bipush (v := 114) h dX8_kindOf_21 kbipush_114 ?_
      refine g_icmp_ne (tgt := 30) h dX8_kindOf_23 rfl hf (fun c3 hf => ?_) (fun c3 hf => ?_)
      · refine g_iconst (v := 2) h dX8_kindOf_26 kiconst_2 ?_
        refine g_goto (tgt := 51) h dX8_kindOf_27 rfl ?_
        obtain rfl := sj1 hf
        exact g_iret h hF [] rfl rfl ⟨rfl, rfl⟩ (fle rfl) (fle rfl) dX8_kindOf_51
      · refine g_iload_n h 0 dX8_kindOf_30 rfl rfl ?_
        refine g_bipush (v := 121) h dX8_kindOf_31 kbipush_121 ?_
        refine g_icmp_ne (tgt := 40) h dX8_kindOf_33 rfl hf (fun c4 hf => ?_) (fun c4 hf => ?_)
        · refine g_iconst (v := 3) h dX8_kindOf_36 kiconst_3 ?_
          refine g_goto (tgt := 51) h dX8_kindOf_37 rfl ?_
          obtain rfl := sj1 hf
          exact g_iret h hF [] rfl rfl ⟨rfl, rfl⟩ (fle rfl) (fle rfl) dX8_kindOf_51
        · refine g_iload_n h 0 dX8_kindOf_40 rfl rfl ?_
          refine g_bipush (v := 116) h dX8_kindOf_41 kbipush_116 ?_
          refine g_icmp_ne (tgt := 50) h dX8_kindOf_43 rfl hf (fun c5 hf => ?_) (fun c5 hf => ?_)
          · refine g_iconst (v := 4) h dX8_kindOf_46 kiconst_4 ?_
            refine g_goto (tgt := 51) h dX8_kindOf_47 rfl ?_
            obtain rfl := sj1 hf
            exact g_iret h hF [] rfl rfl ⟨rfl, rfl⟩ (fle rfl) (fle rfl) dX8_kindOf_51
          · refine g_iconst (v := (-1)) h dX8_kindOf_50 kiconst_m1 ?_
            obtain rfl := sj1 hf
            exact g_iret h hF [] rfl rfl ⟨rfl, rfl⟩ (fle rfl) (fle rfl) dX8_kindOf_51
set_option maxHeartbeats 4000000 in
set_option maxRecDepth 100000 in
theorem ct_X8_takesPerson {l : Launch} {D : va_G} {E : Ety} {a a_w a_tape a_lane a_size a_items a_up a_down a_fell a_read a_comesUp a_comesDown a_held : Nat} {isImage : Int32} {taped : Int32} {above : Int32} {below : Int32} {fallen : Int32} {torn : Int32} {at_ : Int32} {start : Int32} {number : Int32} {tape : Nat → Int32} {read : Nat → Int32} {r_ : Int32} {o_at_ : Int32} {o_start : Int32} {o_number : Int32} {o_read : Nat → Int32} (hf : f_X8_takesPerson taped at_ number tape read = some (r_, o_at_, o_start, o_number, o_read)) : Ct l yX8_takesPerson cX8_takesPerson 3 (some .boolean) 2 49 0 0 D E [.ref a] [(a, .inr (8, [.ref a_w, .int isImage, .ref a_tape, .int taped, .ref a_lane, .ref a_size, .ref a_items, .ref a_up, .ref a_down, .int above, .int below, .ref a_fell, .int fallen, .int torn, .int at_, .int start, .int number, .ref a_read, .ref a_comesUp, .ref a_comesDown, .ref a_held])), (a_tape, .inl (E 1, 90, .inl tape)), (a_read, .inl (E 1, 60, .inl read))] (Pn (some (.int r_)) [(a, .inr (8, [.ref a_w, .int isImage, .ref a_tape, .int taped, .ref a_lane, .ref a_size, .ref a_items, .ref a_up, .ref a_down, .int above, .int below, .ref a_fell, .int fallen, .int torn, .int o_at_, .int o_start, .int o_number, .ref a_read, .ref a_comesUp, .ref a_comesDown, .ref a_held])), (a_tape, .inl (E 1, 90, .inl tape)), (a_read, .inl (E 1, 60, .inl o_read))]) := by
  refine ct_of (own := RX8) (plainFor_of_name (by decide)) rfl (fle rfl) rfl ?_
  intro X hl hD hE hnL hXF h hR hF hnm
  subst hl; subst hD; subst hE
  have hL : ∀ i, i < 3 → i < X.nL := fun i hi => by rw [hnL]; exact hi
  unfold f_X8_takesPerson at hf
  refine g_aload_n h 0 dX8_takesPerson_0 rfl rfl ?_
  refine g_get (ci := 8) (v := .ref a_read) h in_X8 0 17 rfl rfl (fle rfl) rfl q1183 rfl dX8_takesPerson_1 ?_
  refine g_iconst (v := 0) h dX8_takesPerson_4 kiconst_0 ?_
  refine g_iaload h 2 rfl (by decide) dX8_takesPerson_5 ?_
  refine g_istore_n (lv' := [(1, .int (read (0 : Int32).toNatClampNeg)), (0, .ref a)]) h dX8_takesPerson_6 rfl (hL 1 (fle rfl)) rfl ?_
  refine g_aload_n h 1 dX8_takesPerson_7 rfl rfl ?_
  obtain ⟨at__1, start_2, hv, hf⟩ := ob2 hf
  refine g_callV (ci := 8) (q0 := 0) (n := 0) (As := []) (st := []) (wr := [(a_read, .inl (X.E 1, 60, .inl read))]) (isC := [0, 1]) (isR := [2]) h hR (ct_X8_blanks (a := a) (a_w := a_w) (a_tape := a_tape) (a_lane := a_lane) (a_size := a_size) (a_items := a_items) (a_up := a_up) (a_down := a_down) (a_fell := a_fell) (a_read := a_read) (a_comesUp := a_comesUp) (a_comesDown := a_comesDown) (a_held := a_held) (isImage := isImage) (taped := taped) (above := above) (below := below) (fallen := fallen) (torn := torn) (at_ := at_) (start := start) (number := number) (tape := tape) hv) rfl rfl (lw_V q1251 q1253 qs30 q80 q1254) (by decide +kernel) rfl ⟨rfl, rfl, rfl, rfl, by decide⟩ ⟨fle rfl, fle rfl, fle rfl, fle rfl, fle rfl⟩ rfl dX8_takesPerson_8 (pin (perm := [1, 2, 0]) (ws' := [(a, .inr (8, [.ref a_w, .int isImage, .ref a_tape, .int taped, .ref a_lane, .ref a_size, .ref a_items, .ref a_up, .ref a_down, .int above, .int below, .ref a_fell, .int fallen, .int torn, .int at__1, .int start_2, .int number, .ref a_read, .ref a_comesUp, .ref a_comesDown, .ref a_held])), (a_tape, .inl (X.E 1, 90, .inl tape)), (a_read, .inl (X.E 1, 60, .inl read))]) (stk := []) rfl rfl rfl ?_)
  clear hv
  refine g_aload_n h 1 dX8_takesPerson_11 rfl rfl ?_
  obtain ⟨r_3, hv, hf⟩ := ob1 hf
  refine g_callV (ci := 8) (q0 := 0) (n := 0) (As := []) (st := []) (wr := [(a_read, .inl (X.E 1, 60, .inl read))]) (isC := [0, 1]) (isR := [2]) h hR (ct_X8_here (a := a) (a_w := a_w) (a_tape := a_tape) (a_lane := a_lane) (a_size := a_size) (a_items := a_items) (a_up := a_up) (a_down := a_down) (a_fell := a_fell) (a_read := a_read) (a_comesUp := a_comesUp) (a_comesDown := a_comesDown) (a_held := a_held) (isImage := isImage) (taped := taped) (above := above) (below := below) (fallen := fallen) (torn := torn) (at_ := at__1) (start := start_2) (number := number) (tape := tape) hv) rfl rfl (lw_V q1255 q1257 qs31 q80 q1258) (by decide +kernel) rfl ⟨rfl, rfl, rfl, rfl, by decide⟩ ⟨fle rfl, fle rfl, fle rfl, fle rfl, fle rfl⟩ rfl dX8_takesPerson_12 (pin (perm := [1, 2, 0]) (ws' := [(a, .inr (8, [.ref a_w, .int isImage, .ref a_tape, .int taped, .ref a_lane, .ref a_size, .ref a_items, .ref a_up, .ref a_down, .int above, .int below, .ref a_fell, .int fallen, .int torn, .int at__1, .int start_2, .int number, .ref a_read, .ref a_comesUp, .ref a_comesDown, .ref a_held])), (a_tape, .inl (X.E 1, 90, .inl tape)), (a_read, .inl (X.E 1, 60, .inl read))]) (stk := [.int r_3]) rfl rfl rfl ?_)
  clear hv
  obtain ⟨r_4, hv, hf⟩ := ob1 hf
  refine g_callS (n := 1) (As := [.int r_3]) (st := []) (wr := [(a, .inr (8, [.ref a_w, .int isImage, .ref a_tape, .int taped, .ref a_lane, .ref a_size, .ref a_items, .ref a_up, .ref a_down, .int above, .int below, .ref a_fell, .int fallen, .int torn, .int at__1, .int start_2, .int number, .ref a_read, .ref a_comesUp, .ref a_comesDown, .ref a_held])), (a_tape, .inl (X.E 1, 90, .inl tape)), (a_read, .inl (X.E 1, 60, .inl read))]) (isC := []) (isR := [0, 1, 2]) h hR (ct_X8_kindOf (x0 := r_3) hv) (lw_S q1269 q1270 q80 q1271) (by decide +kernel) rfl ⟨rfl, rfl, rfl, rfl, by decide⟩ ⟨fle rfl, fle rfl, fle rfl, fle rfl, fle rfl⟩ rfl dX8_takesPerson_15 (pin (perm := [0, 1, 2]) (ws' := [(a, .inr (8, [.ref a_w, .int isImage, .ref a_tape, .int taped, .ref a_lane, .ref a_size, .ref a_items, .ref a_up, .ref a_down, .int above, .int below, .ref a_fell, .int fallen, .int torn, .int at__1, .int start_2, .int number, .ref a_read, .ref a_comesUp, .ref a_comesDown, .ref a_held])), (a_tape, .inl (X.E 1, 90, .inl tape)), (a_read, .inl (X.E 1, 60, .inl read))]) (stk := [.int r_4]) rfl rfl rfl ?_)
  clear hv
  refine g_istore_n (lv' := [(2, .int r_4), (1, .int (read (0 : Int32).toNatClampNeg)), (0, .ref a)]) h dX8_takesPerson_18 rfl (hL 2 (fle rfl)) rfl ?_
  refine g_iload_n h 0 dX8_takesPerson_19 rfl rfl ?_
  refine g_if_ge (tgt := 25) h dX8_takesPerson_20 rfl hf (fun c5 hf => ?_) (fun c5 hf => ?_)
  · refine g_aload_n h 2 dX8_takesPerson_25 rfl rfl ?_
    refine g_dup h dX8_takesPerson_26 rfl ?_
    refine g_get (ci := 8) (v := .int at__1) h in_X8 0 14 rfl rfl (fle rfl) rfl q1180 rfl dX8_takesPerson_27 ?_
    refine g_iconst (v := 1) h dX8_takesPerson_30 kiconst_1 ?_
    refine g_iadd h dX8_takesPerson_31 ?_
    refine g_put (ci := 8) (ty := tyX8 14) (ws' := [(a, .inr (8, [.ref a_w, .int isImage, .ref a_tape, .int taped, .ref a_lane, .ref a_size, .ref a_items, .ref a_up, .ref a_down, .int above, .int below, .ref a_fell, .int fallen, .int torn, .int (at__1 + 1), .int start_2, .int number, .ref a_read, .ref a_comesUp, .ref a_comesDown, .ref a_held])), (a_tape, .inl (X.E 1, 90, .inl tape)), (a_read, .inl (X.E 1, 60, .inl read))]) h in_X8 tyX8 tyX8_ok nmX8 0 14 rfl rfl (fle rfl) ⟨rfl, rfl⟩ q1180 rfl rfl rfl (fle rfl) rfl dX8_takesPerson_32 ?_
    refine g_aload_n h 2 dX8_takesPerson_35 rfl rfl ?_
    refine g_iconst (v := 1) h dX8_takesPerson_36 kiconst_1 ?_
    refine g_bipush (v := 30) h dX8_takesPerson_37 kbipush_30 ?_
    refine g_iconst (v := 2) h dX8_takesPerson_39 kiconst_2 ?_
    obtain ⟨r_6, at__7, start_8, number_9, hv, hf⟩ := ob4 hf
    refine g_callV (ci := 8) (q0 := 0) (n := 3) (As := [.int 1, .int 30, .int 2]) (st := []) (wr := [(a_read, .inl (X.E 1, 60, .inl read))]) (isC := [0, 1]) (isR := [2]) h hR (ct_X8_takesNumber (a := a) (a_w := a_w) (a_tape := a_tape) (a_lane := a_lane) (a_size := a_size) (a_items := a_items) (a_up := a_up) (a_down := a_down) (a_fell := a_fell) (a_read := a_read) (a_comesUp := a_comesUp) (a_comesDown := a_comesDown) (a_held := a_held) (x1 := 1) (x2 := 30) (x3 := 2) (isImage := isImage) (taped := taped) (above := above) (below := below) (fallen := fallen) (torn := torn) (at_ := (at__1 + 1)) (start := start_2) (number := number) (tape := tape) hv) rfl rfl (lw_V q1247 q1249 qs29 q80 q1250) (by decide +kernel) rfl ⟨rfl, rfl, rfl, rfl, by decide⟩ ⟨fle rfl, fle rfl, fle rfl, fle rfl, fle rfl⟩ rfl dX8_takesPerson_40 (pin (perm := [1, 2, 0]) (ws' := [(a, .inr (8, [.ref a_w, .int isImage, .ref a_tape, .int taped, .ref a_lane, .ref a_size, .ref a_items, .ref a_up, .ref a_down, .int above, .int below, .ref a_fell, .int fallen, .int torn, .int at__7, .int start_8, .int number_9, .ref a_read, .ref a_comesUp, .ref a_comesDown, .ref a_held])), (a_tape, .inl (X.E 1, 90, .inl tape)), (a_read, .inl (X.E 1, 60, .inl read))]) (stk := [.int r_6]) rfl rfl rfl ?_)
    clear hv
    refine g_if_ne (tgt := 48) h dX8_takesPerson_43 rfl hf (fun c10 hf => ?_) (fun c10 hf => ?_)
    · refine g_iconst (v := 0) h dX8_takesPerson_46 kiconst_0 ?_
      obtain ⟨rfl, rfl, rfl, rfl, rfl⟩ := sj5 hf
      exact g_zret h hF rfl [0, 1, 2] rfl rfl ⟨rfl, rfl⟩ (fle rfl) (fle rfl) dX8_takesPerson_47
    · refine g_aload_n h 2 dX8_takesPerson_48 rfl rfl ?_
      refine g_get (ci := 8) (v := .ref a_read) h in_X8 0 17 rfl rfl (fle rfl) rfl q1183 rfl dX8_takesPerson_49 ?_
      refine g_iconst (v := 4) h dX8_takesPerson_52 kiconst_4 ?_
      refine g_iload_n h 1 dX8_takesPerson_53 rfl rfl ?_
      refine g_iadd h dX8_takesPerson_54 ?_
      refine g_iload_n h 0 dX8_takesPerson_55 rfl rfl ?_
      obtain ⟨g11, hf⟩ := gn hf
      refine g_iastore (ws' := [(a, .inr (8, [.ref a_w, .int isImage, .ref a_tape, .int taped, .ref a_lane, .ref a_size, .ref a_items, .ref a_up, .ref a_down, .int above, .int below, .ref a_fell, .int fallen, .int torn, .int at__7, .int start_8, .int number_9, .ref a_read, .ref a_comesUp, .ref a_comesDown, .ref a_held])), (a_tape, .inl (X.E 1, 90, .inl tape)), (a_read, .inl (X.E 1, 60, .inl (upd read (4 + (read (0 : Int32).toNatClampNeg)).toNatClampNeg r_4)))]) h 2 rfl g11 rfl dX8_takesPerson_56 ?_
      refine g_aload_n h 2 dX8_takesPerson_57 rfl rfl ?_
      refine g_get (ci := 8) (v := .ref a_read) h in_X8 0 17 rfl rfl (fle rfl) rfl q1183 rfl dX8_takesPerson_58 ?_
      refine g_bipush (v := 12) h dX8_takesPerson_61 kbipush_12 ?_
      refine g_iload_n h 1 dX8_takesPerson_63 rfl rfl ?_
      refine g_iadd h dX8_takesPerson_64 ?_
      refine g_aload_n h 2 dX8_takesPerson_65 rfl rfl ?_
      refine g_get (ci := 8) (v := .int number_9) h in_X8 0 16 rfl rfl (fle rfl) rfl q1182 rfl dX8_takesPerson_66 ?_
      obtain ⟨g12, hf⟩ := gn hf
      refine g_iastore (ws' := [(a, .inr (8, [.ref a_w, .int isImage, .ref a_tape, .int taped, .ref a_lane, .ref a_size, .ref a_items, .ref a_up, .ref a_down, .int above, .int below, .ref a_fell, .int fallen, .int torn, .int at__7, .int start_8, .int number_9, .ref a_read, .ref a_comesUp, .ref a_comesDown, .ref a_held])), (a_tape, .inl (X.E 1, 90, .inl tape)), (a_read, .inl (X.E 1, 60, .inl (upd (upd read (4 + (read (0 : Int32).toNatClampNeg)).toNatClampNeg r_4) (12 + (read (0 : Int32).toNatClampNeg)).toNatClampNeg number_9)))]) h 2 rfl g12 rfl dX8_takesPerson_69 ?_
      refine g_aload_n h 2 dX8_takesPerson_70 rfl rfl ?_
      refine g_get (ci := 8) (v := .ref a_read) h in_X8 0 17 rfl rfl (fle rfl) rfl q1183 rfl dX8_takesPerson_71 ?_
      refine g_iconst (v := 0) h dX8_takesPerson_74 kiconst_0 ?_
      refine g_dup2 h dX8_takesPerson_75 rfl rfl ?_
      refine g_iaload h 2 rfl (by decide) dX8_takesPerson_76 ?_
      refine g_iconst (v := 1) h dX8_takesPerson_77 kiconst_1 ?_
      refine g_iadd h dX8_takesPerson_78 ?_
      refine g_iastore (ws' := [(a, .inr (8, [.ref a_w, .int isImage, .ref a_tape, .int taped, .ref a_lane, .ref a_size, .ref a_items, .ref a_up, .ref a_down, .int above, .int below, .ref a_fell, .int fallen, .int torn, .int at__7, .int start_8, .int number_9, .ref a_read, .ref a_comesUp, .ref a_comesDown, .ref a_held])), (a_tape, .inl (X.E 1, 90, .inl tape)), (a_read, .inl (X.E 1, 60, .inl (upd (upd (upd read (4 + (read (0 : Int32).toNatClampNeg)).toNatClampNeg r_4) (12 + (read (0 : Int32).toNatClampNeg)).toNatClampNeg number_9) (0 : Int32).toNatClampNeg (((upd (upd read (4 + (read (0 : Int32).toNatClampNeg)).toNatClampNeg r_4) (12 + (read (0 : Int32).toNatClampNeg)).toNatClampNeg number_9) (0 : Int32).toNatClampNeg) + 1))))]) h 2 rfl (by decide) rfl dX8_takesPerson_79 ?_
      refine g_aload_n h 2 dX8_takesPerson_80 rfl rfl ?_
      refine g_bipush (v := 126) h dX8_takesPerson_81 kbipush_126 ?_
      obtain ⟨r_13, at__14, start_15, hv, hf⟩ := ob3 hf
      refine g_callV (ci := 8) (q0 := 0) (n := 1) (As := [.int 126]) (st := []) (wr := [(a_read, .inl (X.E 1, 60, .inl (upd (upd (upd read (4 + (read (0 : Int32).toNatClampNeg)).toNatClampNeg r_4) (12 + (read (0 : Int32).toNatClampNeg)).toNatClampNeg number_9) (0 : Int32).toNatClampNeg (((upd (upd read (4 + (read (0 : Int32).toNatClampNeg)).toNatClampNeg r_4) (12 + (read (0 : Int32).toNatClampNeg)).toNatClampNeg number_9) (0 : Int32).toNatClampNeg) + 1))))]) (isC := [0, 1]) (isR := [2]) h hR (ct_X8_takes (a := a) (a_w := a_w) (a_tape := a_tape) (a_lane := a_lane) (a_size := a_size) (a_items := a_items) (a_up := a_up) (a_down := a_down) (a_fell := a_fell) (a_read := a_read) (a_comesUp := a_comesUp) (a_comesDown := a_comesDown) (a_held := a_held) (x1 := 126) (isImage := isImage) (taped := taped) (above := above) (below := below) (fallen := fallen) (torn := torn) (at_ := at__7) (start := start_8) (number := number_9) (tape := tape) hv) rfl rfl (lw_V q1261 q1263 qs32 q80 q1264) (by decide +kernel) rfl ⟨rfl, rfl, rfl, rfl, by decide⟩ ⟨fle rfl, fle rfl, fle rfl, fle rfl, fle rfl⟩ rfl dX8_takesPerson_83 (pin (perm := [1, 2, 0]) (ws' := [(a, .inr (8, [.ref a_w, .int isImage, .ref a_tape, .int taped, .ref a_lane, .ref a_size, .ref a_items, .ref a_up, .ref a_down, .int above, .int below, .ref a_fell, .int fallen, .int torn, .int at__14, .int start_15, .int number_9, .ref a_read, .ref a_comesUp, .ref a_comesDown, .ref a_held])), (a_tape, .inl (X.E 1, 90, .inl tape)), (a_read, .inl (X.E 1, 60, .inl (upd (upd (upd read (4 + (read (0 : Int32).toNatClampNeg)).toNatClampNeg r_4) (12 + (read (0 : Int32).toNatClampNeg)).toNatClampNeg number_9) (0 : Int32).toNatClampNeg (((upd (upd read (4 + (read (0 : Int32).toNatClampNeg)).toNatClampNeg r_4) (12 + (read (0 : Int32).toNatClampNeg)).toNatClampNeg number_9) (0 : Int32).toNatClampNeg) + 1))))]) (stk := [.int r_13]) rfl rfl rfl ?_)
      clear hv
      refine g_if_eq (tgt := 111) h dX8_takesPerson_86 rfl hf (fun c16 hf => ?_) (fun c16 hf => ?_)
      · refine g_aload_n h 2 dX8_takesPerson_111 rfl rfl ?_
        refine g_bipush (v := 64) h dX8_takesPerson_112 kbipush_64 ?_
        obtain ⟨r_17, at__18, start_19, hv, hf⟩ := ob3 hf
        refine g_callV (ci := 8) (q0 := 0) (n := 1) (As := [.int 64]) (st := []) (wr := [(a_read, .inl (X.E 1, 60, .inl (upd (upd (upd read (4 + (read (0 : Int32).toNatClampNeg)).toNatClampNeg r_4) (12 + (read (0 : Int32).toNatClampNeg)).toNatClampNeg number_9) (0 : Int32).toNatClampNeg (((upd (upd read (4 + (read (0 : Int32).toNatClampNeg)).toNatClampNeg r_4) (12 + (read (0 : Int32).toNatClampNeg)).toNatClampNeg number_9) (0 : Int32).toNatClampNeg) + 1))))]) (isC := [0, 1]) (isR := [2]) h hR (ct_X8_takes (a := a) (a_w := a_w) (a_tape := a_tape) (a_lane := a_lane) (a_size := a_size) (a_items := a_items) (a_up := a_up) (a_down := a_down) (a_fell := a_fell) (a_read := a_read) (a_comesUp := a_comesUp) (a_comesDown := a_comesDown) (a_held := a_held) (x1 := 64) (isImage := isImage) (taped := taped) (above := above) (below := below) (fallen := fallen) (torn := torn) (at_ := at__14) (start := start_15) (number := number_9) (tape := tape) hv) rfl rfl (lw_V q1261 q1263 qs32 q80 q1264) (by decide +kernel) rfl ⟨rfl, rfl, rfl, rfl, by decide⟩ ⟨fle rfl, fle rfl, fle rfl, fle rfl, fle rfl⟩ rfl dX8_takesPerson_114 (pin (perm := [1, 2, 0]) (ws' := [(a, .inr (8, [.ref a_w, .int isImage, .ref a_tape, .int taped, .ref a_lane, .ref a_size, .ref a_items, .ref a_up, .ref a_down, .int above, .int below, .ref a_fell, .int fallen, .int torn, .int at__18, .int start_19, .int number_9, .ref a_read, .ref a_comesUp, .ref a_comesDown, .ref a_held])), (a_tape, .inl (X.E 1, 90, .inl tape)), (a_read, .inl (X.E 1, 60, .inl (upd (upd (upd read (4 + (read (0 : Int32).toNatClampNeg)).toNatClampNeg r_4) (12 + (read (0 : Int32).toNatClampNeg)).toNatClampNeg number_9) (0 : Int32).toNatClampNeg (((upd (upd read (4 + (read (0 : Int32).toNatClampNeg)).toNatClampNeg r_4) (12 + (read (0 : Int32).toNatClampNeg)).toNatClampNeg number_9) (0 : Int32).toNatClampNeg) + 1))))]) (stk := [.int r_17]) rfl rfl rfl ?_)
        clear hv
        refine g_if_eq (tgt := 131) h dX8_takesPerson_117 rfl hf (fun c20 hf => ?_) (fun c20 hf => ?_)
        · refine g_iconst (v := 0) h dX8_takesPerson_131 kiconst_0 ?_
          obtain ⟨rfl, rfl, rfl, rfl, rfl⟩ := sj5 hf
          exact g_zret h hF rfl [0, 1, 2] rfl rfl ⟨rfl, rfl⟩ (fle rfl) (fle rfl) dX8_takesPerson_132
        · refine g_aload_n h 2 dX8_takesPerson_120 rfl rfl ?_
          refine g_iconst (v := 0) h dX8_takesPerson_121 kiconst_0 ?_
          refine g_bipush (v := 99) h dX8_takesPerson_122 kbipush_99 ?_
          refine g_iconst (v := 2) h dX8_takesPerson_124 kiconst_2 ?_
          obtain ⟨r_21, at__22, start_23, number_24, hv, hf⟩ := ob4 hf
          refine g_callV (ci := 8) (q0 := 0) (n := 3) (As := [.int 0, .int 99, .int 2]) (st := []) (wr := [(a_read, .inl (X.E 1, 60, .inl (upd (upd (upd read (4 + (read (0 : Int32).toNatClampNeg)).toNatClampNeg r_4) (12 + (read (0 : Int32).toNatClampNeg)).toNatClampNeg number_9) (0 : Int32).toNatClampNeg (((upd (upd read (4 + (read (0 : Int32).toNatClampNeg)).toNatClampNeg r_4) (12 + (read (0 : Int32).toNatClampNeg)).toNatClampNeg number_9) (0 : Int32).toNatClampNeg) + 1))))]) (isC := [0, 1]) (isR := [2]) h hR (ct_X8_takesNumber (a := a) (a_w := a_w) (a_tape := a_tape) (a_lane := a_lane) (a_size := a_size) (a_items := a_items) (a_up := a_up) (a_down := a_down) (a_fell := a_fell) (a_read := a_read) (a_comesUp := a_comesUp) (a_comesDown := a_comesDown) (a_held := a_held) (x1 := 0) (x2 := 99) (x3 := 2) (isImage := isImage) (taped := taped) (above := above) (below := below) (fallen := fallen) (torn := torn) (at_ := at__18) (start := start_19) (number := number_9) (tape := tape) hv) rfl rfl (lw_V q1247 q1249 qs29 q80 q1250) (by decide +kernel) rfl ⟨rfl, rfl, rfl, rfl, by decide⟩ ⟨fle rfl, fle rfl, fle rfl, fle rfl, fle rfl⟩ rfl dX8_takesPerson_125 (pin (perm := [1, 2, 0]) (ws' := [(a, .inr (8, [.ref a_w, .int isImage, .ref a_tape, .int taped, .ref a_lane, .ref a_size, .ref a_items, .ref a_up, .ref a_down, .int above, .int below, .ref a_fell, .int fallen, .int torn, .int at__22, .int start_23, .int number_24, .ref a_read, .ref a_comesUp, .ref a_comesDown, .ref a_held])), (a_tape, .inl (X.E 1, 90, .inl tape)), (a_read, .inl (X.E 1, 60, .inl (upd (upd (upd read (4 + (read (0 : Int32).toNatClampNeg)).toNatClampNeg r_4) (12 + (read (0 : Int32).toNatClampNeg)).toNatClampNeg number_9) (0 : Int32).toNatClampNeg (((upd (upd read (4 + (read (0 : Int32).toNatClampNeg)).toNatClampNeg r_4) (12 + (read (0 : Int32).toNatClampNeg)).toNatClampNeg number_9) (0 : Int32).toNatClampNeg) + 1))))]) (stk := [.int r_21]) rfl rfl rfl ?_)
          clear hv
          refine g_if_ne (tgt := 133) h dX8_takesPerson_128 rfl hf (fun c25 hf => ?_) (fun c25 hf => ?_)
          · refine g_iconst (v := 0) h dX8_takesPerson_131 kiconst_0 ?_
            obtain ⟨rfl, rfl, rfl, rfl, rfl⟩ := sj5 hf
            exact g_zret h hF rfl [0, 1, 2] rfl rfl ⟨rfl, rfl⟩ (fle rfl) (fle rfl) dX8_takesPerson_132
          · refine g_aload_n h 2 dX8_takesPerson_133 rfl rfl ?_
            refine g_get (ci := 8) (v := .ref a_read) h in_X8 0 17 rfl rfl (fle rfl) rfl q1183 rfl dX8_takesPerson_134 ?_
            refine g_bipush (v := 20) h dX8_takesPerson_137 kbipush_20 ?_
            refine g_iload_n h 1 dX8_takesPerson_139 rfl rfl ?_
            refine g_iadd h dX8_takesPerson_140 ?_
            refine g_iconst (v := 1) h dX8_takesPerson_141 kiconst_1 ?_
            obtain ⟨g26, hf⟩ := gn hf
            refine g_iastore (ws' := [(a, .inr (8, [.ref a_w, .int isImage, .ref a_tape, .int taped, .ref a_lane, .ref a_size, .ref a_items, .ref a_up, .ref a_down, .int above, .int below, .ref a_fell, .int fallen, .int torn, .int at__22, .int start_23, .int number_24, .ref a_read, .ref a_comesUp, .ref a_comesDown, .ref a_held])), (a_tape, .inl (X.E 1, 90, .inl tape)), (a_read, .inl (X.E 1, 60, .inl (upd (upd (upd (upd read (4 + (read (0 : Int32).toNatClampNeg)).toNatClampNeg r_4) (12 + (read (0 : Int32).toNatClampNeg)).toNatClampNeg number_9) (0 : Int32).toNatClampNeg (((upd (upd read (4 + (read (0 : Int32).toNatClampNeg)).toNatClampNeg r_4) (12 + (read (0 : Int32).toNatClampNeg)).toNatClampNeg number_9) (0 : Int32).toNatClampNeg) + 1)) (20 + (read (0 : Int32).toNatClampNeg)).toNatClampNeg 1)))]) h 2 rfl g26 rfl dX8_takesPerson_142 ?_
            refine g_aload_n h 2 dX8_takesPerson_143 rfl rfl ?_
            refine g_get (ci := 8) (v := .ref a_read) h in_X8 0 17 rfl rfl (fle rfl) rfl q1183 rfl dX8_takesPerson_144 ?_
            refine g_bipush (v := 28) h dX8_takesPerson_147 kbipush_28 ?_
            refine g_iload_n h 1 dX8_takesPerson_149 rfl rfl ?_
            refine g_iadd h dX8_takesPerson_150 ?_
            refine g_aload_n h 2 dX8_takesPerson_151 rfl rfl ?_
            refine g_get (ci := 8) (v := .int number_24) h in_X8 0 16 rfl rfl (fle rfl) rfl q1182 rfl dX8_takesPerson_152 ?_
            obtain ⟨g27, hf⟩ := gn hf
            refine g_iastore (ws' := [(a, .inr (8, [.ref a_w, .int isImage, .ref a_tape, .int taped, .ref a_lane, .ref a_size, .ref a_items, .ref a_up, .ref a_down, .int above, .int below, .ref a_fell, .int fallen, .int torn, .int at__22, .int start_23, .int number_24, .ref a_read, .ref a_comesUp, .ref a_comesDown, .ref a_held])), (a_tape, .inl (X.E 1, 90, .inl tape)), (a_read, .inl (X.E 1, 60, .inl (upd (upd (upd (upd (upd read (4 + (read (0 : Int32).toNatClampNeg)).toNatClampNeg r_4) (12 + (read (0 : Int32).toNatClampNeg)).toNatClampNeg number_9) (0 : Int32).toNatClampNeg (((upd (upd read (4 + (read (0 : Int32).toNatClampNeg)).toNatClampNeg r_4) (12 + (read (0 : Int32).toNatClampNeg)).toNatClampNeg number_9) (0 : Int32).toNatClampNeg) + 1)) (20 + (read (0 : Int32).toNatClampNeg)).toNatClampNeg 1) (28 + (read (0 : Int32).toNatClampNeg)).toNatClampNeg number_24)))]) h 2 rfl g27 rfl dX8_takesPerson_155 ?_
            refine g_iconst (v := 1) h dX8_takesPerson_156 kiconst_1 ?_
            obtain ⟨rfl, rfl, rfl, rfl, rfl⟩ := sj5 hf
            exact g_zret h hF rfl [0, 1, 2] rfl rfl ⟨rfl, rfl⟩ (fle rfl) (fle rfl) dX8_takesPerson_157
      · refine g_aload_n h 2 dX8_takesPerson_89 rfl rfl ?_
        refine g_get (ci := 8) (v := .ref a_read) h in_X8 0 17 rfl rfl (fle rfl) rfl q1183 rfl dX8_takesPerson_90 ?_
        refine g_bipush (v := 20) h dX8_takesPerson_93 kbipush_20 ?_
        refine g_iload_n h 1 dX8_takesPerson_95 rfl rfl ?_
        refine g_iadd h dX8_takesPerson_96 ?_
        refine g_iconst (v := 0) h dX8_takesPerson_97 kiconst_0 ?_
        obtain ⟨g28, hf⟩ := gn hf
        refine g_iastore (ws' := [(a, .inr (8, [.ref a_w, .int isImage, .ref a_tape, .int taped, .ref a_lane, .ref a_size, .ref a_items, .ref a_up, .ref a_down, .int above, .int below, .ref a_fell, .int fallen, .int torn, .int at__14, .int start_15, .int number_9, .ref a_read, .ref a_comesUp, .ref a_comesDown, .ref a_held])), (a_tape, .inl (X.E 1, 90, .inl tape)), (a_read, .inl (X.E 1, 60, .inl (upd (upd (upd (upd read (4 + (read (0 : Int32).toNatClampNeg)).toNatClampNeg r_4) (12 + (read (0 : Int32).toNatClampNeg)).toNatClampNeg number_9) (0 : Int32).toNatClampNeg (((upd (upd read (4 + (read (0 : Int32).toNatClampNeg)).toNatClampNeg r_4) (12 + (read (0 : Int32).toNatClampNeg)).toNatClampNeg number_9) (0 : Int32).toNatClampNeg) + 1)) (20 + (read (0 : Int32).toNatClampNeg)).toNatClampNeg 0)))]) h 2 rfl g28 rfl dX8_takesPerson_98 ?_
        refine g_aload_n h 2 dX8_takesPerson_99 rfl rfl ?_
        refine g_get (ci := 8) (v := .ref a_read) h in_X8 0 17 rfl rfl (fle rfl) rfl q1183 rfl dX8_takesPerson_100 ?_
        refine g_bipush (v := 28) h dX8_takesPerson_103 kbipush_28 ?_
        refine g_iload_n h 1 dX8_takesPerson_105 rfl rfl ?_
        refine g_iadd h dX8_takesPerson_106 ?_
        refine g_iconst (v := 0) h dX8_takesPerson_107 kiconst_0 ?_
        obtain ⟨g29, hf⟩ := gn hf
        refine g_iastore (ws' := [(a, .inr (8, [.ref a_w, .int isImage, .ref a_tape, .int taped, .ref a_lane, .ref a_size, .ref a_items, .ref a_up, .ref a_down, .int above, .int below, .ref a_fell, .int fallen, .int torn, .int at__14, .int start_15, .int number_9, .ref a_read, .ref a_comesUp, .ref a_comesDown, .ref a_held])), (a_tape, .inl (X.E 1, 90, .inl tape)), (a_read, .inl (X.E 1, 60, .inl (upd (upd (upd (upd (upd read (4 + (read (0 : Int32).toNatClampNeg)).toNatClampNeg r_4) (12 + (read (0 : Int32).toNatClampNeg)).toNatClampNeg number_9) (0 : Int32).toNatClampNeg (((upd (upd read (4 + (read (0 : Int32).toNatClampNeg)).toNatClampNeg r_4) (12 + (read (0 : Int32).toNatClampNeg)).toNatClampNeg number_9) (0 : Int32).toNatClampNeg) + 1)) (20 + (read (0 : Int32).toNatClampNeg)).toNatClampNeg 0) (28 + (read (0 : Int32).toNatClampNeg)).toNatClampNeg 0)))]) h 2 rfl g29 rfl dX8_takesPerson_108 ?_
        refine g_iconst (v := 1) h dX8_takesPerson_109 kiconst_1 ?_
        obtain ⟨rfl, rfl, rfl, rfl, rfl⟩ := sj5 hf
        exact g_zret h hF rfl [0, 1, 2] rfl rfl ⟨rfl, rfl⟩ (fle rfl) (fle rfl) dX8_takesPerson_110
  · refine g_iconst (v := 0) h dX8_takesPerson_23 kiconst_0 ?_
    obtain ⟨rfl, rfl, rfl, rfl, rfl⟩ := sj5 hf
    exact g_zret h hF rfl [0, 1, 2] rfl rfl ⟨rfl, rfl⟩ (fle rfl) (fle rfl) dX8_takesPerson_24
set_option maxHeartbeats 4000000 in
set_option maxRecDepth 100000 in
theorem ct_X8_takesSeam {l : Launch} {D : va_G} {E : Ety} {a a_w a_tape a_lane a_size a_items a_up a_down a_fell a_read a_comesUp a_comesDown a_held : Nat} {isImage : Int32} {taped : Int32} {above : Int32} {below : Int32} {fallen : Int32} {torn : Int32} {at_ : Int32} {start : Int32} {number : Int32} {tape : Nat → Int32} {read : Nat → Int32} {r_ : Int32} {o_at_ : Int32} {o_start : Int32} {o_number : Int32} {o_read : Nat → Int32} (hf : f_X8_takesSeam taped at_ tape read = some (r_, o_at_, o_start, o_number, o_read)) : Ct l yX8_takesSeam cX8_takesSeam 2 (some .boolean) 2 49 0 0 D E [.ref a] [(a, .inr (8, [.ref a_w, .int isImage, .ref a_tape, .int taped, .ref a_lane, .ref a_size, .ref a_items, .ref a_up, .ref a_down, .int above, .int below, .ref a_fell, .int fallen, .int torn, .int at_, .int start, .int number, .ref a_read, .ref a_comesUp, .ref a_comesDown, .ref a_held])), (a_tape, .inl (E 1, 90, .inl tape)), (a_read, .inl (E 1, 60, .inl read))] (Pn (some (.int r_)) [(a, .inr (8, [.ref a_w, .int isImage, .ref a_tape, .int taped, .ref a_lane, .ref a_size, .ref a_items, .ref a_up, .ref a_down, .int above, .int below, .ref a_fell, .int fallen, .int torn, .int o_at_, .int o_start, .int o_number, .ref a_read, .ref a_comesUp, .ref a_comesDown, .ref a_held])), (a_tape, .inl (E 1, 90, .inl tape)), (a_read, .inl (E 1, 60, .inl o_read))]) := by
  refine ct_of (own := RX8) (plainFor_of_name (by decide)) rfl (fle rfl) rfl ?_
  intro X hl hD hE hnL hXF h hR hF hnm
  subst hl; subst hD; subst hE
  have hL : ∀ i, i < 2 → i < X.nL := fun i hi => by rw [hnL]; exact hi
  unfold f_X8_takesSeam at hf
  refine g_aload_n h 0 dX8_takesSeam_0 rfl rfl ?_
  refine g_get (ci := 8) (v := .ref a_read) h in_X8 0 17 rfl rfl (fle rfl) rfl q1183 rfl dX8_takesSeam_1 ?_
  refine g_iconst (v := 0) h dX8_takesSeam_4 kiconst_0 ?_
  refine g_iaload h 2 rfl (by decide) dX8_takesSeam_5 ?_
  refine g_iconst (v := 1) h dX8_takesSeam_6 kiconst_1 ?_
  refine g_isub h dX8_takesSeam_7 ?_
  refine nm_i (fun y_1 ey_1 => ?_)
  have hf := nm_at hf y_1 ey_1
  refine g_istore_n (lv' := [(1, .int y_1), (0, .ref a)]) h dX8_takesSeam_8 rfl (hL 1 (fle rfl)) rfl ?_
  refine g_aload_n h 1 dX8_takesSeam_9 rfl rfl ?_
  refine g_iconst (v := 1) h dX8_takesSeam_10 kiconst_1 ?_
  refine g_bipush (v := 20) h dX8_takesSeam_11 kbipush_20 ?_
  refine g_iconst (v := 2) h dX8_takesSeam_13 kiconst_2 ?_
  obtain ⟨r_2, at__3, start_4, number_5, hv, hf⟩ := ob4 hf
  refine g_callV (ci := 8) (q0 := 0) (n := 3) (As := [.int 1, .int 20, .int 2]) (st := []) (wr := [(a_read, .inl (X.E 1, 60, .inl read))]) (isC := [0, 1]) (isR := [2]) h hR (ct_X8_takesNumber (a := a) (a_w := a_w) (a_tape := a_tape) (a_lane := a_lane) (a_size := a_size) (a_items := a_items) (a_up := a_up) (a_down := a_down) (a_fell := a_fell) (a_read := a_read) (a_comesUp := a_comesUp) (a_comesDown := a_comesDown) (a_held := a_held) (x1 := 1) (x2 := 20) (x3 := 2) (isImage := isImage) (taped := taped) (above := above) (below := below) (fallen := fallen) (torn := torn) (at_ := at_) (start := start) (number := number) (tape := tape) hv) rfl rfl (lw_V q1247 q1249 qs29 q80 q1250) (by decide +kernel) rfl ⟨rfl, rfl, rfl, rfl, by decide⟩ ⟨fle rfl, fle rfl, fle rfl, fle rfl, fle rfl⟩ rfl dX8_takesSeam_14 (pin (perm := [1, 2, 0]) (ws' := [(a, .inr (8, [.ref a_w, .int isImage, .ref a_tape, .int taped, .ref a_lane, .ref a_size, .ref a_items, .ref a_up, .ref a_down, .int above, .int below, .ref a_fell, .int fallen, .int torn, .int at__3, .int start_4, .int number_5, .ref a_read, .ref a_comesUp, .ref a_comesDown, .ref a_held])), (a_tape, .inl (X.E 1, 90, .inl tape)), (a_read, .inl (X.E 1, 60, .inl read))]) (stk := [.int r_2]) rfl rfl rfl ?_)
  clear hv
  refine g_if_ne (tgt := 22) h dX8_takesSeam_17 rfl hf (fun c6 hf => ?_) (fun c6 hf => ?_)
  · refine g_iconst (v := 0) h dX8_takesSeam_20 kiconst_0 ?_
    obtain ⟨rfl, rfl, rfl, rfl, rfl⟩ := sj5 hf
    exact g_zret h hF rfl [0, 1, 2] rfl rfl ⟨rfl, rfl⟩ (fle rfl) (fle rfl) dX8_takesSeam_21
  · refine g_aload_n h 1 dX8_takesSeam_22 rfl rfl ?_
    refine g_get (ci := 8) (v := .ref a_read) h in_X8 0 17 rfl rfl (fle rfl) rfl q1183 rfl dX8_takesSeam_23 ?_
    refine g_bipush (v := 36) h dX8_takesSeam_26 kbipush_36 ?_
    refine g_iload_n h 0 dX8_takesSeam_28 rfl rfl ?_
    refine g_iadd h dX8_takesSeam_29 ?_
    refine g_aload_n h 1 dX8_takesSeam_30 rfl rfl ?_
    refine g_get (ci := 8) (v := .int number_5) h in_X8 0 16 rfl rfl (fle rfl) rfl q1182 rfl dX8_takesSeam_31 ?_
    obtain ⟨g7, hf⟩ := gn hf
    refine g_iastore (ws' := [(a, .inr (8, [.ref a_w, .int isImage, .ref a_tape, .int taped, .ref a_lane, .ref a_size, .ref a_items, .ref a_up, .ref a_down, .int above, .int below, .ref a_fell, .int fallen, .int torn, .int at__3, .int start_4, .int number_5, .ref a_read, .ref a_comesUp, .ref a_comesDown, .ref a_held])), (a_tape, .inl (X.E 1, 90, .inl tape)), (a_read, .inl (X.E 1, 60, .inl (upd read (36 + y_1).toNatClampNeg number_5)))]) h 2 rfl g7 rfl dX8_takesSeam_34 ?_
    refine g_aload_n h 1 dX8_takesSeam_35 rfl rfl ?_
    refine g_bipush (v := 120) h dX8_takesSeam_36 kbipush_120 ?_
    obtain ⟨r_8, at__9, start_10, hv, hf⟩ := ob3 hf
    refine g_callV (ci := 8) (q0 := 0) (n := 1) (As := [.int 120]) (st := []) (wr := [(a_read, .inl (X.E 1, 60, .inl (upd read (36 + y_1).toNatClampNeg number_5)))]) (isC := [0, 1]) (isR := [2]) h hR (ct_X8_takes (a := a) (a_w := a_w) (a_tape := a_tape) (a_lane := a_lane) (a_size := a_size) (a_items := a_items) (a_up := a_up) (a_down := a_down) (a_fell := a_fell) (a_read := a_read) (a_comesUp := a_comesUp) (a_comesDown := a_comesDown) (a_held := a_held) (x1 := 120) (isImage := isImage) (taped := taped) (above := above) (below := below) (fallen := fallen) (torn := torn) (at_ := at__3) (start := start_4) (number := number_5) (tape := tape) hv) rfl rfl (lw_V q1261 q1263 qs32 q80 q1264) (by decide +kernel) rfl ⟨rfl, rfl, rfl, rfl, by decide⟩ ⟨fle rfl, fle rfl, fle rfl, fle rfl, fle rfl⟩ rfl dX8_takesSeam_38 (pin (perm := [1, 2, 0]) (ws' := [(a, .inr (8, [.ref a_w, .int isImage, .ref a_tape, .int taped, .ref a_lane, .ref a_size, .ref a_items, .ref a_up, .ref a_down, .int above, .int below, .ref a_fell, .int fallen, .int torn, .int at__9, .int start_10, .int number_5, .ref a_read, .ref a_comesUp, .ref a_comesDown, .ref a_held])), (a_tape, .inl (X.E 1, 90, .inl tape)), (a_read, .inl (X.E 1, 60, .inl (upd read (36 + y_1).toNatClampNeg number_5)))]) (stk := [.int r_8]) rfl rfl rfl ?_)
    clear hv
    refine g_if_eq (tgt := 55) h dX8_takesSeam_41 rfl hf (fun c11 hf => ?_) (fun c11 hf => ?_)
    · refine g_iconst (v := 0) h dX8_takesSeam_55 kiconst_0 ?_
      obtain ⟨rfl, rfl, rfl, rfl, rfl⟩ := sj5 hf
      exact g_zret h hF rfl [0, 1, 2] rfl rfl ⟨rfl, rfl⟩ (fle rfl) (fle rfl) dX8_takesSeam_56
    · refine g_aload_n h 1 dX8_takesSeam_44 rfl rfl ?_
      refine g_iconst (v := 1) h dX8_takesSeam_45 kiconst_1 ?_
      refine g_bipush (v := 9) h dX8_takesSeam_46 kbipush_9 ?_
      refine g_iconst (v := 1) h dX8_takesSeam_48 kiconst_1 ?_
      obtain ⟨r_12, at__13, start_14, number_15, hv, hf⟩ := ob4 hf
      refine g_callV (ci := 8) (q0 := 0) (n := 3) (As := [.int 1, .int 9, .int 1]) (st := []) (wr := [(a_read, .inl (X.E 1, 60, .inl (upd read (36 + y_1).toNatClampNeg number_5)))]) (isC := [0, 1]) (isR := [2]) h hR (ct_X8_takesNumber (a := a) (a_w := a_w) (a_tape := a_tape) (a_lane := a_lane) (a_size := a_size) (a_items := a_items) (a_up := a_up) (a_down := a_down) (a_fell := a_fell) (a_read := a_read) (a_comesUp := a_comesUp) (a_comesDown := a_comesDown) (a_held := a_held) (x1 := 1) (x2 := 9) (x3 := 1) (isImage := isImage) (taped := taped) (above := above) (below := below) (fallen := fallen) (torn := torn) (at_ := at__9) (start := start_10) (number := number_5) (tape := tape) hv) rfl rfl (lw_V q1247 q1249 qs29 q80 q1250) (by decide +kernel) rfl ⟨rfl, rfl, rfl, rfl, by decide⟩ ⟨fle rfl, fle rfl, fle rfl, fle rfl, fle rfl⟩ rfl dX8_takesSeam_49 (pin (perm := [1, 2, 0]) (ws' := [(a, .inr (8, [.ref a_w, .int isImage, .ref a_tape, .int taped, .ref a_lane, .ref a_size, .ref a_items, .ref a_up, .ref a_down, .int above, .int below, .ref a_fell, .int fallen, .int torn, .int at__13, .int start_14, .int number_15, .ref a_read, .ref a_comesUp, .ref a_comesDown, .ref a_held])), (a_tape, .inl (X.E 1, 90, .inl tape)), (a_read, .inl (X.E 1, 60, .inl (upd read (36 + y_1).toNatClampNeg number_5)))]) (stk := [.int r_12]) rfl rfl rfl ?_)
      clear hv
      refine g_if_ne (tgt := 57) h dX8_takesSeam_52 rfl hf (fun c16 hf => ?_) (fun c16 hf => ?_)
      · refine g_iconst (v := 0) h dX8_takesSeam_55 kiconst_0 ?_
        obtain ⟨rfl, rfl, rfl, rfl, rfl⟩ := sj5 hf
        exact g_zret h hF rfl [0, 1, 2] rfl rfl ⟨rfl, rfl⟩ (fle rfl) (fle rfl) dX8_takesSeam_56
      · refine g_aload_n h 1 dX8_takesSeam_57 rfl rfl ?_
        refine g_get (ci := 8) (v := .ref a_read) h in_X8 0 17 rfl rfl (fle rfl) rfl q1183 rfl dX8_takesSeam_58 ?_
        refine g_bipush (v := 44) h dX8_takesSeam_61 kbipush_44 ?_
        refine g_iload_n h 0 dX8_takesSeam_63 rfl rfl ?_
        refine g_iadd h dX8_takesSeam_64 ?_
        refine g_aload_n h 1 dX8_takesSeam_65 rfl rfl ?_
        refine g_get (ci := 8) (v := .int number_15) h in_X8 0 16 rfl rfl (fle rfl) rfl q1182 rfl dX8_takesSeam_66 ?_
        obtain ⟨g17, hf⟩ := gn hf
        refine g_iastore (ws' := [(a, .inr (8, [.ref a_w, .int isImage, .ref a_tape, .int taped, .ref a_lane, .ref a_size, .ref a_items, .ref a_up, .ref a_down, .int above, .int below, .ref a_fell, .int fallen, .int torn, .int at__13, .int start_14, .int number_15, .ref a_read, .ref a_comesUp, .ref a_comesDown, .ref a_held])), (a_tape, .inl (X.E 1, 90, .inl tape)), (a_read, .inl (X.E 1, 60, .inl (upd (upd read (36 + y_1).toNatClampNeg number_5) (44 + y_1).toNatClampNeg number_15)))]) h 2 rfl g17 rfl dX8_takesSeam_69 ?_
        refine g_iconst (v := 1) h dX8_takesSeam_70 kiconst_1 ?_
        obtain ⟨rfl, rfl, rfl, rfl, rfl⟩ := sj5 hf
        exact g_zret h hF rfl [0, 1, 2] rfl rfl ⟨rfl, rfl⟩ (fle rfl) (fle rfl) dX8_takesSeam_71
set_option maxHeartbeats 4000000 in
set_option maxRecDepth 100000 in
theorem w_X8_readsAll_L7 {X : Cx} {a a_comesDown a_comesUp a_down a_fell a_held a_items a_lane a_read a_size a_tape a_up a_w : Nat} {isImage : Int32} {taped : Int32} {above : Int32} {below : Int32} {fallen : Int32} {torn : Int32} {at_ : Int32} {start : Int32} {number : Int32} {tape : Nat → Int32} {ce sl : Nat} (h : Ok X cX8_readsAll RX8) (hR : Rm X 3 71 0 0) (hL : ∀ i, i < 2 → i < X.nL) (hce : ce ≤ 0) (hsl : sl ≤ 0) : ∀ (n0 : Nat) (x1 : Int32) (read : Nat → Int32) {o_read : Nat → Int32}, f_X8_readsAll_L7 n0 x1 read = some o_read → (G X [(a, .inr (8, [.ref a_w, .int isImage, .ref a_tape, .int taped, .ref a_lane, .ref a_size, .ref a_items, .ref a_up, .ref a_down, .int above, .int below, .ref a_fell, .int fallen, .int torn, .int at_, .int start, .int number, .ref a_read, .ref a_comesUp, .ref a_comesDown, .ref a_held])), (a_tape, .inl (X.E 1, 90, .inl tape)), (a_read, .inl (X.E 1, 60, .inl o_read))] [(0, .ref a)] ce sl 26 []) → G X [(a, .inr (8, [.ref a_w, .int isImage, .ref a_tape, .int taped, .ref a_lane, .ref a_size, .ref a_items, .ref a_up, .ref a_down, .int above, .int below, .ref a_fell, .int fallen, .int torn, .int at_, .int start, .int number, .ref a_read, .ref a_comesUp, .ref a_comesDown, .ref a_held])), (a_tape, .inl (X.E 1, 90, .inl tape)), (a_read, .inl (X.E 1, 60, .inl read))] [(0, .ref a), (1, .int x1)] ce sl 7 [] := by
  intro n0
  induction n0 with
  | zero => intro x1 read o_read hf; exact nomatch (show (none : Option _) = some _ from hf)
  | succ n0 ih =>
    intro x1 read o_read hf k0
    replace hf : t_X8_readsAll_L7 (f_X8_readsAll_L7 n0) x1 read = some o_read := hf
    unfold t_X8_readsAll_L7 at hf
    refine g_iload_n h 1 dX8_readsAll_7 rfl rfl ?_
    refine g_bipush (v := 60) h dX8_readsAll_8 kbipush_60 ?_
    refine g_icmp_ge (tgt := 26) h dX8_readsAll_10 rfl hf (fun c1 hf => ?_) (fun c1 hf => ?_)
    · obtain rfl := sj1 hf
      exact G.lsub [0] rfl k0
    · refine g_aload_n h 0 dX8_readsAll_13 rfl rfl ?_
      refine g_get (ci := 8) (v := .ref a_read) h in_X8 0 17 rfl rfl (fle rfl) rfl q1183 rfl dX8_readsAll_14 ?_
      refine g_iload_n h 1 dX8_readsAll_17 rfl rfl ?_
      refine g_iconst (v := 0) h dX8_readsAll_18 kiconst_0 ?_
      obtain ⟨g2, hf⟩ := gn hf
      refine g_iastore (ws' := [(a, .inr (8, [.ref a_w, .int isImage, .ref a_tape, .int taped, .ref a_lane, .ref a_size, .ref a_items, .ref a_up, .ref a_down, .int above, .int below, .ref a_fell, .int fallen, .int torn, .int at_, .int start, .int number, .ref a_read, .ref a_comesUp, .ref a_comesDown, .ref a_held])), (a_tape, .inl (X.E 1, 90, .inl tape)), (a_read, .inl (X.E 1, 60, .inl (upd read x1.toNatClampNeg 0)))]) h 2 rfl g2 rfl dX8_readsAll_19 ?_
      refine g_iinc (j := 1) (v := (x1 + 1)) (lv' := [(1, .int (x1 + 1)), (0, .ref a)]) h dX8_readsAll_20 rfl (kinc_1 _) (hL 1 (fle rfl)) rfl ?_
      refine g_goto (tgt := 7) h dX8_readsAll_23 rfl ?_
      exact G.lsub [1, 0] rfl (ih _ _ hf k0)
set_option maxHeartbeats 4000000 in
set_option maxRecDepth 100000 in
theorem w_X8_readsAll_L71 {X : Cx} {a a_comesDown a_comesUp a_down a_fell a_held a_items a_lane a_read a_size a_tape a_up a_w : Nat} {isImage : Int32} {taped : Int32} {above : Int32} {below : Int32} {fallen : Int32} {torn : Int32} {tape : Nat → Int32} {ce sl : Nat} (h : Ok X cX8_readsAll RX8) (hR : Rm X 3 71 0 0) (hL : ∀ i, i < 2 → i < X.nL) (hce : ce ≤ 0) (hsl : sl ≤ 0) : ∀ (n0 : Nat) (at_ : Int32) (start : Int32) (number : Int32) (read : Nat → Int32) {otag : Nat} {o_at_ : Int32} {o_start : Int32} {o_number : Int32} {o_read : Nat → Int32}, f_X8_readsAll_L71 taped tape n0 at_ start number read = some (otag, o_at_, o_start, o_number, o_read) → (otag = 0 → G X [(a, .inr (8, [.ref a_w, .int isImage, .ref a_tape, .int taped, .ref a_lane, .ref a_size, .ref a_items, .ref a_up, .ref a_down, .int above, .int below, .ref a_fell, .int fallen, .int torn, .int o_at_, .int o_start, .int o_number, .ref a_read, .ref a_comesUp, .ref a_comesDown, .ref a_held])), (a_tape, .inl (X.E 1, 90, .inl tape)), (a_read, .inl (X.E 1, 60, .inl o_read))] [] ce sl 112 []) → (otag = 1 → G X [(a, .inr (8, [.ref a_w, .int isImage, .ref a_tape, .int taped, .ref a_lane, .ref a_size, .ref a_items, .ref a_up, .ref a_down, .int above, .int below, .ref a_fell, .int fallen, .int torn, .int o_at_, .int o_start, .int o_number, .ref a_read, .ref a_comesUp, .ref a_comesDown, .ref a_held])), (a_tape, .inl (X.E 1, 90, .inl tape)), (a_read, .inl (X.E 1, 60, .inl o_read))] [] ce sl 121 []) → G X [(a, .inr (8, [.ref a_w, .int isImage, .ref a_tape, .int taped, .ref a_lane, .ref a_size, .ref a_items, .ref a_up, .ref a_down, .int above, .int below, .ref a_fell, .int fallen, .int torn, .int at_, .int start, .int number, .ref a_read, .ref a_comesUp, .ref a_comesDown, .ref a_held])), (a_tape, .inl (X.E 1, 90, .inl tape)), (a_read, .inl (X.E 1, 60, .inl read))] [(0, .ref a)] ce sl 71 [] := by
  intro n0
  induction n0 with
  | zero => intro at_ start number read otag o_at_ o_start o_number o_read hf; exact nomatch (show (none : Option _) = some _ from hf)
  | succ n0 ih =>
    intro at_ start number read otag o_at_ o_start o_number o_read hf k0 k1
    replace hf : t_X8_readsAll_L71 taped tape (f_X8_readsAll_L71 taped tape n0) at_ start number read = some (otag, o_at_, o_start, o_number, o_read) := hf
    unfold t_X8_readsAll_L71 at hf
    refine g_aload_n h 0 dX8_readsAll_71 rfl rfl ?_
    obtain ⟨r_21, hv, hf⟩ := ob1 hf
    refine g_callV (ci := 8) (q0 := 0) (n := 0) (As := []) (st := []) (wr := [(a_read, .inl (X.E 1, 60, .inl read))]) (isC := [0, 1]) (isR := [2]) h hR (ct_X8_here (a := a) (a_w := a_w) (a_tape := a_tape) (a_lane := a_lane) (a_size := a_size) (a_items := a_items) (a_up := a_up) (a_down := a_down) (a_fell := a_fell) (a_read := a_read) (a_comesUp := a_comesUp) (a_comesDown := a_comesDown) (a_held := a_held) (isImage := isImage) (taped := taped) (above := above) (below := below) (fallen := fallen) (torn := torn) (at_ := at_) (start := start) (number := number) (tape := tape) hv) rfl rfl (lw_V q1255 q1257 qs31 q80 q1258) (by decide +kernel) rfl ⟨rfl, rfl, rfl, rfl, by decide⟩ ⟨hce, hsl, fle rfl, fle rfl, fle rfl⟩ rfl dX8_readsAll_72 (pin (perm := [1, 2, 0]) (ws' := [(a, .inr (8, [.ref a_w, .int isImage, .ref a_tape, .int taped, .ref a_lane, .ref a_size, .ref a_items, .ref a_up, .ref a_down, .int above, .int below, .ref a_fell, .int fallen, .int torn, .int at_, .int start, .int number, .ref a_read, .ref a_comesUp, .ref a_comesDown, .ref a_held])), (a_tape, .inl (X.E 1, 90, .inl tape)), (a_read, .inl (X.E 1, 60, .inl read))]) (stk := [.int r_21]) rfl rfl rfl ?_)
    clear hv
    refine g_if_lt (tgt := 121) h dX8_readsAll_75 rfl hf (fun c22 hf => ?_) (fun c22 hf => ?_)
    · obtain ⟨rfl, rfl, rfl, rfl, rfl⟩ := sj5 hf
      exact G.lsub [] rfl (k1 rfl)
    · refine g_aload_n h 0 dX8_readsAll_78 rfl rfl ?_
      refine g_get (ci := 8) (v := .ref a_read) h in_X8 0 17 rfl rfl (fle rfl) rfl q1183 rfl dX8_readsAll_79 ?_
      refine g_iconst (v := 0) h dX8_readsAll_82 kiconst_0 ?_
      refine g_iaload h 2 rfl (by decide) dX8_readsAll_83 ?_
      refine g_bipush (v := 8) h dX8_readsAll_84 kbipush_8 ?_
      refine g_icmp_eq (tgt := 112) h dX8_readsAll_86 rfl hf (fun c23 hf => ?_) (fun c23 hf => ?_)
      · obtain ⟨rfl, rfl, rfl, rfl, rfl⟩ := sj5 hf
        exact G.lsub [] rfl (k0 rfl)
      · refine g_aload_n h 0 dX8_readsAll_89 rfl rfl ?_
        refine g_bipush (v := 45) h dX8_readsAll_90 kbipush_45 ?_
        obtain ⟨r_24, at__25, start_26, hv, hf⟩ := ob3 hf
        refine g_callV (ci := 8) (q0 := 0) (n := 1) (As := [.int 45]) (st := []) (wr := [(a_read, .inl (X.E 1, 60, .inl read))]) (isC := [0, 1]) (isR := [2]) h hR (ct_X8_takes (a := a) (a_w := a_w) (a_tape := a_tape) (a_lane := a_lane) (a_size := a_size) (a_items := a_items) (a_up := a_up) (a_down := a_down) (a_fell := a_fell) (a_read := a_read) (a_comesUp := a_comesUp) (a_comesDown := a_comesDown) (a_held := a_held) (x1 := 45) (isImage := isImage) (taped := taped) (above := above) (below := below) (fallen := fallen) (torn := torn) (at_ := at_) (start := start) (number := number) (tape := tape) hv) rfl rfl (lw_V q1261 q1263 qs32 q80 q1264) (by decide +kernel) rfl ⟨rfl, rfl, rfl, rfl, by decide⟩ ⟨hce, hsl, fle rfl, fle rfl, fle rfl⟩ rfl dX8_readsAll_92 (pin (perm := [1, 2, 0]) (ws' := [(a, .inr (8, [.ref a_w, .int isImage, .ref a_tape, .int taped, .ref a_lane, .ref a_size, .ref a_items, .ref a_up, .ref a_down, .int above, .int below, .ref a_fell, .int fallen, .int torn, .int at__25, .int start_26, .int number, .ref a_read, .ref a_comesUp, .ref a_comesDown, .ref a_held])), (a_tape, .inl (X.E 1, 90, .inl tape)), (a_read, .inl (X.E 1, 60, .inl read))]) (stk := [.int r_24]) rfl rfl rfl ?_)
        clear hv
        refine g_if_eq (tgt := 112) h dX8_readsAll_95 rfl hf (fun c27 hf => ?_) (fun c27 hf => ?_)
        · obtain ⟨rfl, rfl, rfl, rfl, rfl⟩ := sj5 hf
          exact G.lsub [] rfl (k0 rfl)
        · refine g_aload_n h 0 dX8_readsAll_98 rfl rfl ?_
          obtain ⟨r_28, at__29, start_30, number_31, read_32, hv, hf⟩ := ob5 hf
          refine g_callV (ci := 8) (q0 := 0) (n := 0) (As := []) (st := []) (wr := []) (isC := [0, 1, 2]) (isR := []) h hR (ct_X8_takesSeam (a := a) (a_w := a_w) (a_tape := a_tape) (a_lane := a_lane) (a_size := a_size) (a_items := a_items) (a_up := a_up) (a_down := a_down) (a_fell := a_fell) (a_read := a_read) (a_comesUp := a_comesUp) (a_comesDown := a_comesDown) (a_held := a_held) (isImage := isImage) (taped := taped) (above := above) (below := below) (fallen := fallen) (torn := torn) (at_ := at__25) (start := start_26) (number := number) (tape := tape) (read := read) hv) rfl rfl (lw_V q1272 q1274 qs34 q80 q1275) (by decide +kernel) rfl ⟨rfl, rfl, rfl, rfl, by decide⟩ ⟨hce, hsl, fle rfl, fle rfl, fle rfl⟩ rfl dX8_readsAll_99 (pin (perm := [0, 1, 2]) (ws' := [(a, .inr (8, [.ref a_w, .int isImage, .ref a_tape, .int taped, .ref a_lane, .ref a_size, .ref a_items, .ref a_up, .ref a_down, .int above, .int below, .ref a_fell, .int fallen, .int torn, .int at__29, .int start_30, .int number_31, .ref a_read, .ref a_comesUp, .ref a_comesDown, .ref a_held])), (a_tape, .inl (X.E 1, 90, .inl tape)), (a_read, .inl (X.E 1, 60, .inl read_32))]) (stk := [.int r_28]) rfl rfl rfl ?_)
          clear hv
          refine g_if_eq (tgt := 112) h dX8_readsAll_102 rfl hf (fun c33 hf => ?_) (fun c33 hf => ?_)
          · obtain ⟨rfl, rfl, rfl, rfl, rfl⟩ := sj5 hf
            exact G.lsub [] rfl (k0 rfl)
          · refine g_aload_n h 0 dX8_readsAll_105 rfl rfl ?_
            obtain ⟨r_34, at__35, start_36, number_37, read_38, hv, hf⟩ := ob5 hf
            refine g_callV (ci := 8) (q0 := 0) (n := 0) (As := []) (st := []) (wr := []) (isC := [0, 1, 2]) (isR := []) h hR (ct_X8_takesPerson (a := a) (a_w := a_w) (a_tape := a_tape) (a_lane := a_lane) (a_size := a_size) (a_items := a_items) (a_up := a_up) (a_down := a_down) (a_fell := a_fell) (a_read := a_read) (a_comesUp := a_comesUp) (a_comesDown := a_comesDown) (a_held := a_held) (isImage := isImage) (taped := taped) (above := above) (below := below) (fallen := fallen) (torn := torn) (at_ := at__29) (start := start_30) (number := number_31) (tape := tape) (read := read_32) hv) rfl rfl (lw_V q1265 q1267 qs33 q80 q1268) (by decide +kernel) rfl ⟨rfl, rfl, rfl, rfl, by decide⟩ ⟨hce, hsl, fle rfl, fle rfl, fle rfl⟩ rfl dX8_readsAll_106 (pin (perm := [0, 1, 2]) (ws' := [(a, .inr (8, [.ref a_w, .int isImage, .ref a_tape, .int taped, .ref a_lane, .ref a_size, .ref a_items, .ref a_up, .ref a_down, .int above, .int below, .ref a_fell, .int fallen, .int torn, .int at__35, .int start_36, .int number_37, .ref a_read, .ref a_comesUp, .ref a_comesDown, .ref a_held])), (a_tape, .inl (X.E 1, 90, .inl tape)), (a_read, .inl (X.E 1, 60, .inl read_38))]) (stk := [.int r_34]) rfl rfl rfl ?_)
            clear hv
            refine g_if_ne (tgt := 114) h dX8_readsAll_109 rfl hf (fun c39 hf => ?_) (fun c39 hf => ?_)
            · obtain ⟨rfl, rfl, rfl, rfl, rfl⟩ := sj5 hf
              exact G.lsub [] rfl (k0 rfl)
            · refine g_aload_n h 0 dX8_readsAll_114 rfl rfl ?_
              obtain ⟨at__40, start_41, hv, hf⟩ := ob2 hf
              refine g_callV (ci := 8) (q0 := 0) (n := 0) (As := []) (st := []) (wr := [(a_read, .inl (X.E 1, 60, .inl read_38))]) (isC := [0, 1]) (isR := [2]) h hR (ct_X8_blanks (a := a) (a_w := a_w) (a_tape := a_tape) (a_lane := a_lane) (a_size := a_size) (a_items := a_items) (a_up := a_up) (a_down := a_down) (a_fell := a_fell) (a_read := a_read) (a_comesUp := a_comesUp) (a_comesDown := a_comesDown) (a_held := a_held) (isImage := isImage) (taped := taped) (above := above) (below := below) (fallen := fallen) (torn := torn) (at_ := at__35) (start := start_36) (number := number_37) (tape := tape) hv) rfl rfl (lw_V q1251 q1253 qs30 q80 q1254) (by decide +kernel) rfl ⟨rfl, rfl, rfl, rfl, by decide⟩ ⟨hce, hsl, fle rfl, fle rfl, fle rfl⟩ rfl dX8_readsAll_115 (pin (perm := [1, 2, 0]) (ws' := [(a, .inr (8, [.ref a_w, .int isImage, .ref a_tape, .int taped, .ref a_lane, .ref a_size, .ref a_items, .ref a_up, .ref a_down, .int above, .int below, .ref a_fell, .int fallen, .int torn, .int at__40, .int start_41, .int number_37, .ref a_read, .ref a_comesUp, .ref a_comesDown, .ref a_held])), (a_tape, .inl (X.E 1, 90, .inl tape)), (a_read, .inl (X.E 1, 60, .inl read_38))]) (stk := []) rfl rfl rfl ?_)
              clear hv
              refine g_goto (tgt := 71) h dX8_readsAll_118 rfl ?_
              exact G.lsub [0] rfl (ih _ _ _ _ hf k0 k1)
set_option maxHeartbeats 4000000 in
set_option maxRecDepth 100000 in
theorem ct_X8_readsAll {l : Launch} {D : va_G} {E : Ety} {a a_w a_tape a_lane a_size a_items a_up a_down a_fell a_read a_comesUp a_comesDown a_held : Nat} {isImage : Int32} {taped : Int32} {above : Int32} {below : Int32} {fallen : Int32} {torn : Int32} {at_ : Int32} {start : Int32} {number : Int32} {tape : Nat → Int32} {read : Nat → Int32} {r_ : Int32} {o_at_ : Int32} {o_start : Int32} {o_number : Int32} {o_read : Nat → Int32} (hf : f_X8_readsAll taped tape read = some (r_, o_at_, o_start, o_number, o_read)) : Ct l yX8_readsAll cX8_readsAll 2 (some .boolean) 3 71 0 0 D E [.ref a] [(a, .inr (8, [.ref a_w, .int isImage, .ref a_tape, .int taped, .ref a_lane, .ref a_size, .ref a_items, .ref a_up, .ref a_down, .int above, .int below, .ref a_fell, .int fallen, .int torn, .int at_, .int start, .int number, .ref a_read, .ref a_comesUp, .ref a_comesDown, .ref a_held])), (a_tape, .inl (E 1, 90, .inl tape)), (a_read, .inl (E 1, 60, .inl read))] (Pn (some (.int r_)) [(a, .inr (8, [.ref a_w, .int isImage, .ref a_tape, .int taped, .ref a_lane, .ref a_size, .ref a_items, .ref a_up, .ref a_down, .int above, .int below, .ref a_fell, .int fallen, .int torn, .int o_at_, .int o_start, .int o_number, .ref a_read, .ref a_comesUp, .ref a_comesDown, .ref a_held])), (a_tape, .inl (E 1, 90, .inl tape)), (a_read, .inl (E 1, 60, .inl o_read))]) := by
  refine ct_of (own := RX8) (plainFor_of_name (by decide)) rfl (fle rfl) rfl ?_
  intro X hl hD hE hnL hXF h hR hF hnm
  subst hl; subst hD; subst hE
  have hL : ∀ i, i < 2 → i < X.nL := fun i hi => by rw [hnL]; exact hi
  unfold f_X8_readsAll at hf
  refine g_aload_n h 0 dX8_readsAll_0 rfl rfl ?_
  refine g_iconst (v := 0) h dX8_readsAll_1 kiconst_0 ?_
  refine g_put (ci := 8) (ty := tyX8 14) (ws' := [(a, .inr (8, [.ref a_w, .int isImage, .ref a_tape, .int taped, .ref a_lane, .ref a_size, .ref a_items, .ref a_up, .ref a_down, .int above, .int below, .ref a_fell, .int fallen, .int torn, .int 0, .int start, .int number, .ref a_read, .ref a_comesUp, .ref a_comesDown, .ref a_held])), (a_tape, .inl (X.E 1, 90, .inl tape)), (a_read, .inl (X.E 1, 60, .inl read))]) h in_X8 tyX8 tyX8_ok nmX8 0 14 rfl rfl (fle rfl) ⟨rfl, rfl⟩ q1180 rfl rfl rfl (fle rfl) rfl dX8_readsAll_2 ?_
  refine g_iconst (v := 0) h dX8_readsAll_5 kiconst_0 ?_
  refine g_istore_n (lv' := [(1, .int 0), (0, .ref a)]) h dX8_readsAll_6 rfl (hL 1 (fle rfl)) rfl ?_
  refine G.lsub (lv' := [(0, .ref a), (1, .int 0)]) [1, 0] rfl ?_
  obtain ⟨read_3, hv, hf⟩ := ob1 hf
  refine w_X8_readsAll_L7 (isImage := isImage) (taped := taped) (above := above) (below := below) (fallen := fallen) (torn := torn) (at_ := 0) (start := start) (number := number) (tape := tape) h hR hL (fle rfl) (fle rfl) FU _ _ hv ?_
  · clear hv
    refine g_aload_n h 0 dX8_readsAll_26 rfl rfl ?_
    refine g_iconst (v := 1) h dX8_readsAll_27 kiconst_1 ?_
    refine g_bipush (v := 60) h dX8_readsAll_28 kbipush_60 ?_
    refine g_iconst (v := 2) h dX8_readsAll_30 kiconst_2 ?_
    obtain ⟨r_4, at__5, start_6, number_7, hv, hf⟩ := ob4 hf
    refine g_callV (ci := 8) (q0 := 0) (n := 3) (As := [.int 1, .int 60, .int 2]) (st := []) (wr := [(a_read, .inl (X.E 1, 60, .inl read_3))]) (isC := [0, 1]) (isR := [2]) h hR (ct_X8_takesNumber (a := a) (a_w := a_w) (a_tape := a_tape) (a_lane := a_lane) (a_size := a_size) (a_items := a_items) (a_up := a_up) (a_down := a_down) (a_fell := a_fell) (a_read := a_read) (a_comesUp := a_comesUp) (a_comesDown := a_comesDown) (a_held := a_held) (x1 := 1) (x2 := 60) (x3 := 2) (isImage := isImage) (taped := taped) (above := above) (below := below) (fallen := fallen) (torn := torn) (at_ := 0) (start := start) (number := number) (tape := tape) hv) rfl rfl (lw_V q1247 q1249 qs29 q80 q1250) (by decide +kernel) rfl ⟨rfl, rfl, rfl, rfl, by decide⟩ ⟨fle rfl, fle rfl, fle rfl, fle rfl, fle rfl⟩ rfl dX8_readsAll_31 (pin (perm := [1, 2, 0]) (ws' := [(a, .inr (8, [.ref a_w, .int isImage, .ref a_tape, .int taped, .ref a_lane, .ref a_size, .ref a_items, .ref a_up, .ref a_down, .int above, .int below, .ref a_fell, .int fallen, .int torn, .int at__5, .int start_6, .int number_7, .ref a_read, .ref a_comesUp, .ref a_comesDown, .ref a_held])), (a_tape, .inl (X.E 1, 90, .inl tape)), (a_read, .inl (X.E 1, 60, .inl read_3))]) (stk := [.int r_4]) rfl rfl rfl ?_)
    clear hv
    refine g_if_ne (tgt := 39) h dX8_readsAll_34 rfl hf (fun c8 hf => ?_) (fun c8 hf => ?_)
    · refine g_iconst (v := 0) h dX8_readsAll_37 kiconst_0 ?_
      obtain ⟨rfl, rfl, rfl, rfl, rfl⟩ := sj5 hf
      exact g_zret h hF rfl [0, 1, 2] rfl rfl ⟨rfl, rfl⟩ (fle rfl) (fle rfl) dX8_readsAll_38
    · refine g_aload_n h 0 dX8_readsAll_39 rfl rfl ?_
      refine g_get (ci := 8) (v := .ref a_read) h in_X8 0 17 rfl rfl (fle rfl) rfl q1183 rfl dX8_readsAll_40 ?_
      refine g_iconst (v := 1) h dX8_readsAll_43 kiconst_1 ?_
      refine g_aload_n h 0 dX8_readsAll_44 rfl rfl ?_
      refine g_get (ci := 8) (v := .int number_7) h in_X8 0 16 rfl rfl (fle rfl) rfl q1182 rfl dX8_readsAll_45 ?_
      refine g_iastore (ws' := [(a, .inr (8, [.ref a_w, .int isImage, .ref a_tape, .int taped, .ref a_lane, .ref a_size, .ref a_items, .ref a_up, .ref a_down, .int above, .int below, .ref a_fell, .int fallen, .int torn, .int at__5, .int start_6, .int number_7, .ref a_read, .ref a_comesUp, .ref a_comesDown, .ref a_held])), (a_tape, .inl (X.E 1, 90, .inl tape)), (a_read, .inl (X.E 1, 60, .inl (upd read_3 (1 : Int32).toNatClampNeg number_7)))]) h 2 rfl (by decide) rfl dX8_readsAll_48 ?_
      refine g_aload_n h 0 dX8_readsAll_49 rfl rfl ?_
      refine g_bipush (v := 58) h dX8_readsAll_50 kbipush_58 ?_
      obtain ⟨r_9, at__10, start_11, hv, hf⟩ := ob3 hf
      refine g_callV (ci := 8) (q0 := 0) (n := 1) (As := [.int 58]) (st := []) (wr := [(a_read, .inl (X.E 1, 60, .inl (upd read_3 (1 : Int32).toNatClampNeg number_7)))]) (isC := [0, 1]) (isR := [2]) h hR (ct_X8_takes (a := a) (a_w := a_w) (a_tape := a_tape) (a_lane := a_lane) (a_size := a_size) (a_items := a_items) (a_up := a_up) (a_down := a_down) (a_fell := a_fell) (a_read := a_read) (a_comesUp := a_comesUp) (a_comesDown := a_comesDown) (a_held := a_held) (x1 := 58) (isImage := isImage) (taped := taped) (above := above) (below := below) (fallen := fallen) (torn := torn) (at_ := at__5) (start := start_6) (number := number_7) (tape := tape) hv) rfl rfl (lw_V q1261 q1263 qs32 q80 q1264) (by decide +kernel) rfl ⟨rfl, rfl, rfl, rfl, by decide⟩ ⟨fle rfl, fle rfl, fle rfl, fle rfl, fle rfl⟩ rfl dX8_readsAll_52 (pin (perm := [1, 2, 0]) (ws' := [(a, .inr (8, [.ref a_w, .int isImage, .ref a_tape, .int taped, .ref a_lane, .ref a_size, .ref a_items, .ref a_up, .ref a_down, .int above, .int below, .ref a_fell, .int fallen, .int torn, .int at__10, .int start_11, .int number_7, .ref a_read, .ref a_comesUp, .ref a_comesDown, .ref a_held])), (a_tape, .inl (X.E 1, 90, .inl tape)), (a_read, .inl (X.E 1, 60, .inl (upd read_3 (1 : Int32).toNatClampNeg number_7)))]) (stk := [.int r_9]) rfl rfl rfl ?_)
      clear hv
      refine g_if_eq (tgt := 65) h dX8_readsAll_55 rfl hf (fun c12 hf => ?_) (fun c12 hf => ?_)
      · refine g_iconst (v := 0) h dX8_readsAll_65 kiconst_0 ?_
        obtain ⟨rfl, rfl, rfl, rfl, rfl⟩ := sj5 hf
        exact g_zret h hF rfl [0, 1, 2] rfl rfl ⟨rfl, rfl⟩ (fle rfl) (fle rfl) dX8_readsAll_66
      · refine g_aload_n h 0 dX8_readsAll_58 rfl rfl ?_
        obtain ⟨r_13, at__14, start_15, number_16, read_17, hv, hf⟩ := ob5 hf
        refine g_callV (ci := 8) (q0 := 0) (n := 0) (As := []) (st := []) (wr := []) (isC := [0, 1, 2]) (isR := []) h hR (ct_X8_takesPerson (a := a) (a_w := a_w) (a_tape := a_tape) (a_lane := a_lane) (a_size := a_size) (a_items := a_items) (a_up := a_up) (a_down := a_down) (a_fell := a_fell) (a_read := a_read) (a_comesUp := a_comesUp) (a_comesDown := a_comesDown) (a_held := a_held) (isImage := isImage) (taped := taped) (above := above) (below := below) (fallen := fallen) (torn := torn) (at_ := at__10) (start := start_11) (number := number_7) (tape := tape) (read := upd read_3 (1 : Int32).toNatClampNeg number_7) hv) rfl rfl (lw_V q1265 q1267 qs33 q80 q1268) (by decide +kernel) rfl ⟨rfl, rfl, rfl, rfl, by decide⟩ ⟨fle rfl, fle rfl, fle rfl, fle rfl, fle rfl⟩ rfl dX8_readsAll_59 (pin (perm := [0, 1, 2]) (ws' := [(a, .inr (8, [.ref a_w, .int isImage, .ref a_tape, .int taped, .ref a_lane, .ref a_size, .ref a_items, .ref a_up, .ref a_down, .int above, .int below, .ref a_fell, .int fallen, .int torn, .int at__14, .int start_15, .int number_16, .ref a_read, .ref a_comesUp, .ref a_comesDown, .ref a_held])), (a_tape, .inl (X.E 1, 90, .inl tape)), (a_read, .inl (X.E 1, 60, .inl read_17))]) (stk := [.int r_13]) rfl rfl rfl ?_)
        clear hv
        refine g_if_ne (tgt := 67) h dX8_readsAll_62 rfl hf (fun c18 hf => ?_) (fun c18 hf => ?_)
        · refine g_iconst (v := 0) h dX8_readsAll_65 kiconst_0 ?_
          obtain ⟨rfl, rfl, rfl, rfl, rfl⟩ := sj5 hf
          exact g_zret h hF rfl [0, 1, 2] rfl rfl ⟨rfl, rfl⟩ (fle rfl) (fle rfl) dX8_readsAll_66
        · refine g_aload_n h 0 dX8_readsAll_67 rfl rfl ?_
          obtain ⟨at__19, start_20, hv, hf⟩ := ob2 hf
          refine g_callV (ci := 8) (q0 := 0) (n := 0) (As := []) (st := []) (wr := [(a_read, .inl (X.E 1, 60, .inl read_17))]) (isC := [0, 1]) (isR := [2]) h hR (ct_X8_blanks (a := a) (a_w := a_w) (a_tape := a_tape) (a_lane := a_lane) (a_size := a_size) (a_items := a_items) (a_up := a_up) (a_down := a_down) (a_fell := a_fell) (a_read := a_read) (a_comesUp := a_comesUp) (a_comesDown := a_comesDown) (a_held := a_held) (isImage := isImage) (taped := taped) (above := above) (below := below) (fallen := fallen) (torn := torn) (at_ := at__14) (start := start_15) (number := number_16) (tape := tape) hv) rfl rfl (lw_V q1251 q1253 qs30 q80 q1254) (by decide +kernel) rfl ⟨rfl, rfl, rfl, rfl, by decide⟩ ⟨fle rfl, fle rfl, fle rfl, fle rfl, fle rfl⟩ rfl dX8_readsAll_68 (pin (perm := [1, 2, 0]) (ws' := [(a, .inr (8, [.ref a_w, .int isImage, .ref a_tape, .int taped, .ref a_lane, .ref a_size, .ref a_items, .ref a_up, .ref a_down, .int above, .int below, .ref a_fell, .int fallen, .int torn, .int at__19, .int start_20, .int number_16, .ref a_read, .ref a_comesUp, .ref a_comesDown, .ref a_held])), (a_tape, .inl (X.E 1, 90, .inl tape)), (a_read, .inl (X.E 1, 60, .inl read_17))]) (stk := []) rfl rfl rfl ?_)
          clear hv
          refine G.lsub (lv' := [(0, .ref a)]) [0] rfl ?_
          obtain ⟨tag_42, at__43, start_44, number_45, read_46, hv, hf⟩ := ob5 hf
          refine w_X8_readsAll_L71 (isImage := isImage) (taped := taped) (above := above) (below := below) (fallen := fallen) (torn := torn) (tape := tape) h hR hL (fle rfl) (fle rfl) FU _ _ _ _ hv ?_ ?_
          · intro ht
            have hf := (if_pos ht).symm.trans hf
            clear hv
            refine g_iconst (v := 0) h dX8_readsAll_112 kiconst_0 ?_
            obtain ⟨rfl, rfl, rfl, rfl, rfl⟩ := sj5 hf
            exact g_zret h hF rfl [0, 1, 2] rfl rfl ⟨rfl, rfl⟩ (fle rfl) (fle rfl) dX8_readsAll_113
          · intro ht
            have hf := (if_neg (show ¬ tag_42 = 0 from by rw [ht]; decide)).symm.trans hf
            clear hv
            refine g_iconst (v := 1) h dX8_readsAll_121 kiconst_1 ?_
            obtain ⟨rfl, rfl, rfl, rfl, rfl⟩ := sj5 hf
            exact g_zret h hF rfl [0, 1, 2] rfl rfl ⟨rfl, rfl⟩ (fle rfl) (fle rfl) dX8_readsAll_122
set_option maxHeartbeats 4000000 in
set_option maxRecDepth 100000 in
theorem ct_X8_holds {l : Launch} {D : va_G} {E : Ety} {a a_w a_tape a_lane a_size a_items a_up a_down a_fell a_read a_comesUp a_comesDown a_held : Nat} {x1 : Int32} {x2 : Int32} {isImage : Int32} {taped : Int32} {above : Int32} {below : Int32} {fallen : Int32} {torn : Int32} {at_ : Int32} {start : Int32} {number : Int32} {w : Nat → Int32} {r_ : Int32} (hf : f_X8_holds x1 x2 w = some r_) : Ct l yX8_holds cX8_holds 3 (some .boolean) 0 0 0 0 D E [.ref a, .int x1, .int x2] [(a, .inr (8, [.ref a_w, .int isImage, .ref a_tape, .int taped, .ref a_lane, .ref a_size, .ref a_items, .ref a_up, .ref a_down, .int above, .int below, .ref a_fell, .int fallen, .int torn, .int at_, .int start, .int number, .ref a_read, .ref a_comesUp, .ref a_comesDown, .ref a_held])), (a_w, .inl (E 1, 1142, .inl w))] (Pn (some (.int r_)) [(a, .inr (8, [.ref a_w, .int isImage, .ref a_tape, .int taped, .ref a_lane, .ref a_size, .ref a_items, .ref a_up, .ref a_down, .int above, .int below, .ref a_fell, .int fallen, .int torn, .int at_, .int start, .int number, .ref a_read, .ref a_comesUp, .ref a_comesDown, .ref a_held])), (a_w, .inl (E 1, 1142, .inl w))]) := by
  refine ct_of (own := RX8) (plainFor_of_name (by decide)) rfl (fle rfl) rfl ?_
  intro X hl hD hE hnL hXF h hR hF hnm
  subst hl; subst hD; subst hE
  have hL : ∀ i, i < 3 → i < X.nL := fun i hi => by rw [hnL]; exact hi
  unfold f_X8_holds at hf
  refine g_aload_n h 0 dX8_holds_0 rfl rfl ?_
  refine g_get (ci := 8) (v := .ref a_w) h in_X8 0 0 rfl rfl (fle rfl) rfl q1166 rfl dX8_holds_1 ?_
  refine g_iload_n h 1 dX8_holds_4 rfl rfl ?_
  refine g_bipush (v := 20) h dX8_holds_5 kbipush_20 ?_
  refine g_iadd h dX8_holds_7 ?_
  refine g_iload_n h 2 dX8_holds_8 rfl rfl ?_
  refine g_iadd h dX8_holds_9 ?_
  obtain ⟨g1, hf⟩ := gn hf
  refine g_iaload h 1 rfl g1 dX8_holds_10 ?_
  refine g_iconst (v := 1) h dX8_holds_11 kiconst_1 ?_
  refine g_icmp_ne (tgt := 19) h dX8_holds_12 rfl hf (fun c2 hf => ?_) (fun c2 hf => ?_)
  · refine g_iconst (v := 1) h dX8_holds_15 kiconst_1 ?_
    refine g_goto (tgt := 20) h dX8_holds_16 rfl ?_
    obtain rfl := sj1 hf
    exact g_zret h hF rfl [0, 1] rfl rfl ⟨rfl, rfl⟩ (fle rfl) (fle rfl) dX8_holds_20
  · refine g_iconst (v := 0) h dX8_holds_19 kiconst_0 ?_
    obtain rfl := sj1 hf
    exact g_zret h hF rfl [0, 1] rfl rfl ⟨rfl, rfl⟩ (fle rfl) (fle rfl) dX8_holds_20
set_option maxHeartbeats 4000000 in
set_option maxRecDepth 100000 in
theorem w_X8_nextRight_L4 {X : Cx} {a a_comesDown a_comesUp a_down a_fell a_held a_items a_lane a_read a_size a_tape a_up a_w : Nat} {x1 : Int32} {isImage : Int32} {taped : Int32} {above : Int32} {below : Int32} {fallen : Int32} {torn : Int32} {at_ : Int32} {start : Int32} {number : Int32} {w : Nat → Int32} {ce sl : Nat} (h : Ok X cX8_nextRight RX8) (hR : Rm X 1 22 0 0) (hL : ∀ i, i < 4 → i < X.nL) (hce : ce ≤ 0) (hsl : sl ≤ 0) : ∀ (n0 : Nat) (x3 : Int32) {otag : Nat} {o_x3 : Int32}, f_X8_nextRight_L4 x1 w n0 x3 = some (otag, o_x3) → (otag = 0 → G X [(a, .inr (8, [.ref a_w, .int isImage, .ref a_tape, .int taped, .ref a_lane, .ref a_size, .ref a_items, .ref a_up, .ref a_down, .int above, .int below, .ref a_fell, .int fallen, .int torn, .int at_, .int start, .int number, .ref a_read, .ref a_comesUp, .ref a_comesDown, .ref a_held])), (a_w, .inl (X.E 1, 1142, .inl w))] [] ce sl 33 []) → (otag = 1 → G X [(a, .inr (8, [.ref a_w, .int isImage, .ref a_tape, .int taped, .ref a_lane, .ref a_size, .ref a_items, .ref a_up, .ref a_down, .int above, .int below, .ref a_fell, .int fallen, .int torn, .int at_, .int start, .int number, .ref a_read, .ref a_comesUp, .ref a_comesDown, .ref a_held])), (a_w, .inl (X.E 1, 1142, .inl w))] [(3, .int o_x3)] ce sl 45 []) → (otag = 2 → G X [(a, .inr (8, [.ref a_w, .int isImage, .ref a_tape, .int taped, .ref a_lane, .ref a_size, .ref a_items, .ref a_up, .ref a_down, .int above, .int below, .ref a_fell, .int fallen, .int torn, .int at_, .int start, .int number, .ref a_read, .ref a_comesUp, .ref a_comesDown, .ref a_held])), (a_w, .inl (X.E 1, 1142, .inl w))] [] ce sl 53 []) → G X [(a, .inr (8, [.ref a_w, .int isImage, .ref a_tape, .int taped, .ref a_lane, .ref a_size, .ref a_items, .ref a_up, .ref a_down, .int above, .int below, .ref a_fell, .int fallen, .int torn, .int at_, .int start, .int number, .ref a_read, .ref a_comesUp, .ref a_comesDown, .ref a_held])), (a_w, .inl (X.E 1, 1142, .inl w))] [(0, .ref a), (1, .int x1), (3, .int x3)] ce sl 4 [] := by
  intro n0
  induction n0 with
  | zero => intro x3 otag o_x3 hf; exact nomatch (show (none : Option _) = some _ from hf)
  | succ n0 ih =>
    intro x3 otag o_x3 hf k0 k1 k2
    replace hf : t_X8_nextRight_L4 x1 w (f_X8_nextRight_L4 x1 w n0) x3 = some (otag, o_x3) := hf
    unfold t_X8_nextRight_L4 at hf
    refine g_iload_n h 2 dX8_nextRight_4 rfl rfl ?_
    refine g_aload_n h 0 dX8_nextRight_5 rfl rfl ?_
    refine g_get (ci := 8) (v := .ref a_w) h in_X8 0 0 rfl rfl (fle rfl) rfl q1166 rfl dX8_nextRight_6 ?_
    refine g_iload_n h 1 dX8_nextRight_9 rfl rfl ?_
    refine g_iconst (v := 0) h dX8_nextRight_10 kiconst_0 ?_
    refine g_iadd h dX8_nextRight_11 ?_
    obtain ⟨g1, hf⟩ := gn hf
    refine g_iaload h 1 rfl g1 dX8_nextRight_12 ?_
    refine g_icmp_ge (tgt := 53) h dX8_nextRight_13 rfl hf (fun c2 hf => ?_) (fun c2 hf => ?_)
    · obtain ⟨rfl, rfl⟩ := sj2 hf
      exact G.lsub [] rfl (k2 rfl)
    · refine g_aload_n h 0 dX8_nextRight_16 rfl rfl ?_
      refine g_get (ci := 8) (v := .ref a_w) h in_X8 0 0 rfl rfl (fle rfl) rfl q1166 rfl dX8_nextRight_17 ?_
      refine g_iload_n h 1 dX8_nextRight_20 rfl rfl ?_
      refine g_bipush (v := 52) h dX8_nextRight_21 kbipush_52 ?_
      refine g_iadd h dX8_nextRight_23 ?_
      refine g_iload_n h 2 dX8_nextRight_24 rfl rfl ?_
      refine g_iadd h dX8_nextRight_25 ?_
      refine g_iconst (v := 1) h dX8_nextRight_26 kiconst_1 ?_
      refine g_isub h dX8_nextRight_27 ?_
      obtain ⟨g3, hf⟩ := gn hf
      refine g_iaload h 1 rfl g3 dX8_nextRight_28 ?_
      refine g_iconst (v := 1) h dX8_nextRight_29 kiconst_1 ?_
      refine g_icmp_ne (tgt := 36) h dX8_nextRight_30 rfl hf (fun c4 hf => ?_) (fun c4 hf => ?_)
      · obtain ⟨rfl, rfl⟩ := sj2 hf
        exact G.lsub [] rfl (k0 rfl)
      · refine g_aload_n h 0 dX8_nextRight_36 rfl rfl ?_
        refine g_iload_n h 1 dX8_nextRight_37 rfl rfl ?_
        refine g_iload_n h 2 dX8_nextRight_38 rfl rfl ?_
        obtain ⟨r_5, hv, hf⟩ := ob1 hf
        refine g_callV (ci := 8) (q0 := 0) (n := 2) (As := [.int x1, .int x3]) (st := []) (wr := []) (isC := [0, 1]) (isR := []) h hR (ct_X8_holds (a := a) (a_w := a_w) (a_tape := a_tape) (a_lane := a_lane) (a_size := a_size) (a_items := a_items) (a_up := a_up) (a_down := a_down) (a_fell := a_fell) (a_read := a_read) (a_comesUp := a_comesUp) (a_comesDown := a_comesDown) (a_held := a_held) (x1 := x1) (x2 := x3) (isImage := isImage) (taped := taped) (above := above) (below := below) (fallen := fallen) (torn := torn) (at_ := at_) (start := start) (number := number) (w := w) hv) rfl rfl (lw_V q1284 q1286 qs37 q80 q1287) (by decide +kernel) rfl ⟨rfl, rfl, rfl, rfl, by decide⟩ ⟨hce, hsl, fle rfl, fle rfl, fle rfl⟩ rfl dX8_nextRight_39 (pin (perm := [0, 1]) (ws' := [(a, .inr (8, [.ref a_w, .int isImage, .ref a_tape, .int taped, .ref a_lane, .ref a_size, .ref a_items, .ref a_up, .ref a_down, .int above, .int below, .ref a_fell, .int fallen, .int torn, .int at_, .int start, .int number, .ref a_read, .ref a_comesUp, .ref a_comesDown, .ref a_held])), (a_w, .inl (X.E 1, 1142, .inl w))]) (stk := [.int r_5]) rfl rfl rfl ?_)
        clear hv
        refine g_if_eq (tgt := 47) h dX8_nextRight_42 rfl hf (fun c6 hf => ?_) (fun c6 hf => ?_)
        · refine g_iinc (j := 2) (v := (x3 + 1)) (lv' := [(3, .int (x3 + 1)), (0, .ref a), (1, .int x1)]) h dX8_nextRight_47 rfl (kinc_1 _) (hL 3 (fle rfl)) rfl ?_
          refine g_goto (tgt := 4) h dX8_nextRight_50 rfl ?_
          exact G.lsub [1, 2, 0] rfl (ih _ hf k0 k1 k2)
        · obtain ⟨rfl, rfl⟩ := sj2 hf
          exact G.lsub [2] rfl (k1 rfl)
set_option maxHeartbeats 4000000 in
set_option maxRecDepth 100000 in
theorem ct_X8_nextRight {l : Launch} {D : va_G} {E : Ety} {a a_w a_tape a_lane a_size a_items a_up a_down a_fell a_read a_comesUp a_comesDown a_held : Nat} {x1 : Int32} {x2 : Int32} {isImage : Int32} {taped : Int32} {above : Int32} {below : Int32} {fallen : Int32} {torn : Int32} {at_ : Int32} {start : Int32} {number : Int32} {w : Nat → Int32} {r_ : Int32} (hf : f_X8_nextRight x1 x2 w = some r_) : Ct l yX8_nextRight cX8_nextRight 4 (some .int) 1 22 0 0 D E [.ref a, .int x1, .int x2] [(a, .inr (8, [.ref a_w, .int isImage, .ref a_tape, .int taped, .ref a_lane, .ref a_size, .ref a_items, .ref a_up, .ref a_down, .int above, .int below, .ref a_fell, .int fallen, .int torn, .int at_, .int start, .int number, .ref a_read, .ref a_comesUp, .ref a_comesDown, .ref a_held])), (a_w, .inl (E 1, 1142, .inl w))] (Pn (some (.int r_)) [(a, .inr (8, [.ref a_w, .int isImage, .ref a_tape, .int taped, .ref a_lane, .ref a_size, .ref a_items, .ref a_up, .ref a_down, .int above, .int below, .ref a_fell, .int fallen, .int torn, .int at_, .int start, .int number, .ref a_read, .ref a_comesUp, .ref a_comesDown, .ref a_held])), (a_w, .inl (E 1, 1142, .inl w))]) := by
  refine ct_of (own := RX8) (plainFor_of_name (by decide)) rfl (fle rfl) rfl ?_
  intro X hl hD hE hnL hXF h hR hF hnm
  subst hl; subst hD; subst hE
  have hL : ∀ i, i < 4 → i < X.nL := fun i hi => by rw [hnL]; exact hi
  unfold f_X8_nextRight at hf
  refine g_iload_n h 2 dX8_nextRight_0 rfl rfl ?_
  refine g_iconst (v := 1) h dX8_nextRight_1 kiconst_1 ?_
  refine g_iadd h dX8_nextRight_2 ?_
  refine g_istore_n (lv' := [(3, .int (x2 + 1)), (0, .ref a), (1, .int x1), (2, .int x2)]) h dX8_nextRight_3 rfl (hL 3 (fle rfl)) rfl ?_
  refine G.lsub (lv' := [(0, .ref a), (1, .int x1), (3, .int (x2 + 1))]) [1, 2, 0] rfl ?_
  obtain ⟨tag_7, x3_8, hv, hf⟩ := ob2 hf
  refine w_X8_nextRight_L4 (x1 := x1) (isImage := isImage) (taped := taped) (above := above) (below := below) (fallen := fallen) (torn := torn) (at_ := at_) (start := start) (number := number) (w := w) h hR hL (fle rfl) (fle rfl) FU _ hv ?_ ?_ ?_
  · intro ht
    have hf := (if_pos ht).symm.trans hf
    clear hv
    refine g_bipush (v := (-4)) h dX8_nextRight_33 kbipush_m4 ?_
    obtain rfl := sj1 hf
    exact g_iret h hF [0, 1] rfl rfl ⟨rfl, rfl⟩ (fle rfl) (fle rfl) dX8_nextRight_35
  · intro ht
    have hf := (if_neg (show ¬ tag_7 = 0 from by rw [ht]; decide)).symm.trans hf
    have hf := (if_pos ht).symm.trans hf
    clear hv
    refine g_iload_n h 0 dX8_nextRight_45 rfl rfl ?_
    obtain rfl := sj1 hf
    exact g_iret h hF [0, 1] rfl rfl ⟨rfl, rfl⟩ (fle rfl) (fle rfl) dX8_nextRight_46
  · intro ht
    have hf := (if_neg (show ¬ tag_7 = 0 from by rw [ht]; decide)).symm.trans hf
    have hf := (if_neg (show ¬ tag_7 = 1 from by rw [ht]; decide)).symm.trans hf
    clear hv
    refine g_bipush (v := (-4)) h dX8_nextRight_53 kbipush_m4 ?_
    obtain rfl := sj1 hf
    exact g_iret h hF [0, 1] rfl rfl ⟨rfl, rfl⟩ (fle rfl) (fle rfl) dX8_nextRight_55
set_option maxHeartbeats 4000000 in
set_option maxRecDepth 100000 in
theorem w_X8_sumOf_L6 {X : Cx} {a a_comesDown a_comesUp a_down a_fell a_held a_items a_lane a_read a_size a_tape a_up a_w : Nat} {x1 : Int32} {x3 : Int32} {isImage : Int32} {taped : Int32} {above : Int32} {below : Int32} {fallen : Int32} {torn : Int32} {at_ : Int32} {start : Int32} {number : Int32} {w : Nat → Int32} {ce sl : Nat} (h : Ok X cX8_sumOf RX8) (hR : Rm X 0 0 0 0) (hL : ∀ i, i < 6 → i < X.nL) (hce : ce ≤ 0) (hsl : sl ≤ 0) : ∀ (n0 : Nat) (x4 : Int32) (x5 : Int32) {o_x4 : Int32}, f_X8_sumOf_L6 x1 x3 w n0 x4 x5 = some o_x4 → (G X [(a, .inr (8, [.ref a_w, .int isImage, .ref a_tape, .int taped, .ref a_lane, .ref a_size, .ref a_items, .ref a_up, .ref a_down, .int above, .int below, .ref a_fell, .int fallen, .int torn, .int at_, .int start, .int number, .ref a_read, .ref a_comesUp, .ref a_comesDown, .ref a_held])), (a_w, .inl (X.E 1, 1142, .inl w))] [(4, .int o_x4)] ce sl 32 []) → G X [(a, .inr (8, [.ref a_w, .int isImage, .ref a_tape, .int taped, .ref a_lane, .ref a_size, .ref a_items, .ref a_up, .ref a_down, .int above, .int below, .ref a_fell, .int fallen, .int torn, .int at_, .int start, .int number, .ref a_read, .ref a_comesUp, .ref a_comesDown, .ref a_held])), (a_w, .inl (X.E 1, 1142, .inl w))] [(0, .ref a), (1, .int x1), (3, .int x3), (4, .int x4), (5, .int x5)] ce sl 6 [] := by
  intro n0
  induction n0 with
  | zero => intro x4 x5 o_x4 hf; exact nomatch (show (none : Option _) = some _ from hf)
  | succ n0 ih =>
    intro x4 x5 o_x4 hf k0
    replace hf : t_X8_sumOf_L6 x1 x3 w (f_X8_sumOf_L6 x1 x3 w n0) x4 x5 = some o_x4 := hf
    unfold t_X8_sumOf_L6 at hf
    refine g_iload h 4 dX8_sumOf_6 rfl ?_
    refine g_iload_n h 2 dX8_sumOf_8 rfl rfl ?_
    refine g_icmp_ge (tgt := 32) h dX8_sumOf_9 rfl hf (fun c1 hf => ?_) (fun c1 hf => ?_)
    · obtain rfl := sj1 hf
      exact G.lsub [3] rfl k0
    · refine g_iload h 3 dX8_sumOf_12 rfl ?_
      refine g_aload_n h 0 dX8_sumOf_14 rfl rfl ?_
      refine g_get (ci := 8) (v := .ref a_w) h in_X8 0 0 rfl rfl (fle rfl) rfl q1166 rfl dX8_sumOf_15 ?_
      refine g_iload_n h 1 dX8_sumOf_18 rfl rfl ?_
      refine g_iload h 4 dX8_sumOf_19 rfl ?_
      refine g_iadd h dX8_sumOf_21 ?_
      obtain ⟨g2, hf⟩ := gn hf
      refine g_iaload h 1 rfl g2 dX8_sumOf_22 ?_
      refine g_iadd h dX8_sumOf_23 ?_
      refine g_istore (lv' := [(4, .int (x4 + (w (x1 + x5).toNatClampNeg))), (0, .ref a), (1, .int x1), (3, .int x3), (5, .int x5)]) h dX8_sumOf_24 (hL 4 (fle rfl)) rfl ?_
      refine g_iinc (j := 4) (v := (x5 + 1)) (lv' := [(5, .int (x5 + 1)), (4, .int (x4 + (w (x1 + x5).toNatClampNeg))), (0, .ref a), (1, .int x1), (3, .int x3)]) h dX8_sumOf_26 rfl (kinc_1 _) (hL 5 (fle rfl)) rfl ?_
      refine g_goto (tgt := 6) h dX8_sumOf_29 rfl ?_
      exact G.lsub [2, 3, 4, 1, 0] rfl (ih _ _ hf k0)
set_option maxHeartbeats 4000000 in
set_option maxRecDepth 100000 in
theorem ct_X8_sumOf {l : Launch} {D : va_G} {E : Ety} {a a_w a_tape a_lane a_size a_items a_up a_down a_fell a_read a_comesUp a_comesDown a_held : Nat} {x1 : Int32} {x2 : Int32} {x3 : Int32} {isImage : Int32} {taped : Int32} {above : Int32} {below : Int32} {fallen : Int32} {torn : Int32} {at_ : Int32} {start : Int32} {number : Int32} {w : Nat → Int32} {r_ : Int32} (hf : f_X8_sumOf x1 x2 x3 w = some r_) : Ct l yX8_sumOf cX8_sumOf 6 (some .int) 0 0 0 0 D E [.ref a, .int x1, .int x2, .int x3] [(a, .inr (8, [.ref a_w, .int isImage, .ref a_tape, .int taped, .ref a_lane, .ref a_size, .ref a_items, .ref a_up, .ref a_down, .int above, .int below, .ref a_fell, .int fallen, .int torn, .int at_, .int start, .int number, .ref a_read, .ref a_comesUp, .ref a_comesDown, .ref a_held])), (a_w, .inl (E 1, 1142, .inl w))] (Pn (some (.int r_)) [(a, .inr (8, [.ref a_w, .int isImage, .ref a_tape, .int taped, .ref a_lane, .ref a_size, .ref a_items, .ref a_up, .ref a_down, .int above, .int below, .ref a_fell, .int fallen, .int torn, .int at_, .int start, .int number, .ref a_read, .ref a_comesUp, .ref a_comesDown, .ref a_held])), (a_w, .inl (E 1, 1142, .inl w))]) := by
  refine ct_of (own := RX8) (plainFor_of_name (by decide)) rfl (fle rfl) rfl ?_
  intro X hl hD hE hnL hXF h hR hF hnm
  subst hl; subst hD; subst hE
  have hL : ∀ i, i < 6 → i < X.nL := fun i hi => by rw [hnL]; exact hi
  unfold f_X8_sumOf at hf
  refine g_iconst (v := 0) h dX8_sumOf_0 kiconst_0 ?_
  refine g_istore (lv' := [(4, .int 0), (0, .ref a), (1, .int x1), (2, .int x2), (3, .int x3)]) h dX8_sumOf_1 (hL 4 (fle rfl)) rfl ?_
  refine g_iload_n h 3 dX8_sumOf_3 rfl rfl ?_
  refine g_istore (lv' := [(5, .int x2), (4, .int 0), (0, .ref a), (1, .int x1), (2, .int x2), (3, .int x3)]) h dX8_sumOf_4 (hL 5 (fle rfl)) rfl ?_
  refine G.lsub (lv' := [(0, .ref a), (1, .int x1), (3, .int x3), (4, .int 0), (5, .int x2)]) [2, 3, 5, 1, 0] rfl ?_
  obtain ⟨x4_3, hv, hf⟩ := ob1 hf
  refine w_X8_sumOf_L6 (x1 := x1) (x3 := x3) (isImage := isImage) (taped := taped) (above := above) (below := below) (fallen := fallen) (torn := torn) (at_ := at_) (start := start) (number := number) (w := w) h hR hL (fle rfl) (fle rfl) FU _ _ hv ?_
  · clear hv
    refine g_iload h 0 dX8_sumOf_32 rfl ?_
    obtain rfl := sj1 hf
    exact g_iret h hF [0, 1] rfl rfl ⟨rfl, rfl⟩ (fle rfl) (fle rfl) dX8_sumOf_34
set_option maxHeartbeats 4000000 in
set_option maxRecDepth 100000 in
theorem w_X8_layPulls_L2 {X : Cx} {a a_comesDown a_comesUp a_down a_fell a_held a_items a_lane a_read a_size a_tape a_up a_w : Nat} {x1 : Int32} {isImage : Int32} {taped : Int32} {above : Int32} {below : Int32} {fallen : Int32} {torn : Int32} {at_ : Int32} {start : Int32} {number : Int32} {w : Nat → Int32} {ce sl : Nat} (h : Ok X cX8_layPulls RX8) (hR : Rm X 2 45 0 0) (hL : ∀ i, i < 6 → i < X.nL) (hce : ce ≤ 0) (hsl : sl ≤ 0) : ∀ (n0 : Nat) (x2 : Int32) (up : Nat → Int32) (down : Nat → Int32) {o_up : Nat → Int32} {o_down : Nat → Int32}, f_X8_layPulls_L2 n0 x2 up down = some (o_up, o_down) → (G X [(a, .inr (8, [.ref a_w, .int isImage, .ref a_tape, .int taped, .ref a_lane, .ref a_size, .ref a_items, .ref a_up, .ref a_down, .int above, .int below, .ref a_fell, .int fallen, .int torn, .int at_, .int start, .int number, .ref a_read, .ref a_comesUp, .ref a_comesDown, .ref a_held])), (a_w, .inl (X.E 1, 1142, .inl w)), (a_up, .inl (X.E 1, 8, .inl o_up)), (a_down, .inl (X.E 1, 8, .inl o_down))] [(0, .ref a), (1, .int x1)] ce sl 28 []) → G X [(a, .inr (8, [.ref a_w, .int isImage, .ref a_tape, .int taped, .ref a_lane, .ref a_size, .ref a_items, .ref a_up, .ref a_down, .int above, .int below, .ref a_fell, .int fallen, .int torn, .int at_, .int start, .int number, .ref a_read, .ref a_comesUp, .ref a_comesDown, .ref a_held])), (a_w, .inl (X.E 1, 1142, .inl w)), (a_up, .inl (X.E 1, 8, .inl up)), (a_down, .inl (X.E 1, 8, .inl down))] [(0, .ref a), (1, .int x1), (2, .int x2)] ce sl 2 [] := by
  intro n0
  induction n0 with
  | zero => intro x2 up down o_up o_down hf; exact nomatch (show (none : Option _) = some _ from hf)
  | succ n0 ih =>
    intro x2 up down o_up o_down hf k0
    replace hf : t_X8_layPulls_L2 (f_X8_layPulls_L2 n0) x2 up down = some (o_up, o_down) := hf
    unfold t_X8_layPulls_L2 at hf
    refine g_iload_n h 2 dX8_layPulls_2 rfl rfl ?_
    refine g_bipush (v := 8) h dX8_layPulls_3 kbipush_8 ?_
    refine g_icmp_ge (tgt := 28) h dX8_layPulls_5 rfl hf (fun c1 hf => ?_) (fun c1 hf => ?_)
    · obtain ⟨rfl, rfl⟩ := sj2 hf
      exact G.lsub [0, 1] rfl k0
    · refine g_aload_n h 0 dX8_layPulls_8 rfl rfl ?_
      refine g_get (ci := 8) (v := .ref a_up) h in_X8 0 7 rfl rfl (fle rfl) rfl q1173 rfl dX8_layPulls_9 ?_
      refine g_iload_n h 2 dX8_layPulls_12 rfl rfl ?_
      refine g_iconst (v := 0) h dX8_layPulls_13 kiconst_0 ?_
      obtain ⟨g2, hf⟩ := gn hf
      refine g_iastore (ws' := [(a, .inr (8, [.ref a_w, .int isImage, .ref a_tape, .int taped, .ref a_lane, .ref a_size, .ref a_items, .ref a_up, .ref a_down, .int above, .int below, .ref a_fell, .int fallen, .int torn, .int at_, .int start, .int number, .ref a_read, .ref a_comesUp, .ref a_comesDown, .ref a_held])), (a_w, .inl (X.E 1, 1142, .inl w)), (a_up, .inl (X.E 1, 8, .inl (upd up x2.toNatClampNeg 0))), (a_down, .inl (X.E 1, 8, .inl down))]) h 2 rfl g2 rfl dX8_layPulls_14 ?_
      refine g_aload_n h 0 dX8_layPulls_15 rfl rfl ?_
      refine g_get (ci := 8) (v := .ref a_down) h in_X8 0 8 rfl rfl (fle rfl) rfl q1174 rfl dX8_layPulls_16 ?_
      refine g_iload_n h 2 dX8_layPulls_19 rfl rfl ?_
      refine g_iconst (v := 1) h dX8_layPulls_20 kiconst_1 ?_
      refine g_iastore (ws' := [(a, .inr (8, [.ref a_w, .int isImage, .ref a_tape, .int taped, .ref a_lane, .ref a_size, .ref a_items, .ref a_up, .ref a_down, .int above, .int below, .ref a_fell, .int fallen, .int torn, .int at_, .int start, .int number, .ref a_read, .ref a_comesUp, .ref a_comesDown, .ref a_held])), (a_w, .inl (X.E 1, 1142, .inl w)), (a_up, .inl (X.E 1, 8, .inl (upd up x2.toNatClampNeg 0))), (a_down, .inl (X.E 1, 8, .inl (upd down x2.toNatClampNeg 1)))]) h 3 rfl g2 rfl dX8_layPulls_21 ?_
      refine g_iinc (j := 2) (v := (x2 + 1)) (lv' := [(2, .int (x2 + 1)), (0, .ref a), (1, .int x1)]) h dX8_layPulls_22 rfl (kinc_1 _) (hL 2 (fle rfl)) rfl ?_
      refine g_goto (tgt := 2) h dX8_layPulls_25 rfl ?_
      exact G.lsub [1, 2, 0] rfl (ih _ _ _ hf k0)
set_option maxHeartbeats 4000000 in
set_option maxRecDepth 100000 in
theorem w_X8_layPulls_L106 {X : Cx} {a a_comesDown a_comesUp a_down a_fell a_held a_items a_lane a_read a_size a_tape a_up a_w : Nat} {x1 : Int32} {x2 : Int32} {x3 : Int32} {x4 : Int32} {isImage : Int32} {taped : Int32} {above : Int32} {below : Int32} {fallen : Int32} {torn : Int32} {at_ : Int32} {start : Int32} {number : Int32} {w : Nat → Int32} {ce sl : Nat} (h : Ok X cX8_layPulls RX8) (hR : Rm X 2 45 0 0) (hL : ∀ i, i < 6 → i < X.nL) (hce : ce ≤ 0) (hsl : sl ≤ 0) : ∀ (n0 : Nat) (x5 : Int32) (up : Nat → Int32) (down : Nat → Int32) {o_up : Nat → Int32} {o_down : Nat → Int32}, f_X8_layPulls_L106 x1 x2 x3 x4 w n0 x5 up down = some (o_up, o_down) → (G X [(a, .inr (8, [.ref a_w, .int isImage, .ref a_tape, .int taped, .ref a_lane, .ref a_size, .ref a_items, .ref a_up, .ref a_down, .int above, .int below, .ref a_fell, .int fallen, .int torn, .int at_, .int start, .int number, .ref a_read, .ref a_comesUp, .ref a_comesDown, .ref a_held])), (a_w, .inl (X.E 1, 1142, .inl w)), (a_up, .inl (X.E 1, 8, .inl o_up)), (a_down, .inl (X.E 1, 8, .inl o_down))] [(0, .ref a), (1, .int x1), (2, .int x2)] ce sl 149 []) → G X [(a, .inr (8, [.ref a_w, .int isImage, .ref a_tape, .int taped, .ref a_lane, .ref a_size, .ref a_items, .ref a_up, .ref a_down, .int above, .int below, .ref a_fell, .int fallen, .int torn, .int at_, .int start, .int number, .ref a_read, .ref a_comesUp, .ref a_comesDown, .ref a_held])), (a_w, .inl (X.E 1, 1142, .inl w)), (a_up, .inl (X.E 1, 8, .inl up)), (a_down, .inl (X.E 1, 8, .inl down))] [(0, .ref a), (1, .int x1), (2, .int x2), (3, .int x3), (4, .int x4), (5, .int x5)] ce sl 106 [] := by
  intro n0
  induction n0 with
  | zero => intro x5 up down o_up o_down hf; exact nomatch (show (none : Option _) = some _ from hf)
  | succ n0 ih =>
    intro x5 up down o_up o_down hf k0
    replace hf : t_X8_layPulls_L106 x1 x2 x3 x4 w (f_X8_layPulls_L106 x1 x2 x3 x4 w n0) x5 up down = some (o_up, o_down) := hf
    unfold t_X8_layPulls_L106 at hf
    refine g_iload h 5 dX8_layPulls_106 rfl ?_
    refine g_iload_n h 3 dX8_layPulls_108 rfl rfl ?_
    refine g_icmp_ge (tgt := 149) h dX8_layPulls_109 rfl hf (fun c17 hf => ?_) (fun c17 hf => ?_)
    · obtain ⟨rfl, rfl⟩ := sj2 hf
      exact G.lsub [0, 1, 2] rfl k0
    · refine g_iload h 4 dX8_layPulls_112 rfl ?_
      refine g_if_le (tgt := 149) h dX8_layPulls_114 rfl hf (fun c18 hf => ?_) (fun c18 hf => ?_)
      · obtain ⟨rfl, rfl⟩ := sj2 hf
        exact G.lsub [0, 1, 2] rfl k0
      · refine g_aload_n h 0 dX8_layPulls_117 rfl rfl ?_
        refine g_get (ci := 8) (v := .ref a_up) h in_X8 0 7 rfl rfl (fle rfl) rfl q1173 rfl dX8_layPulls_118 ?_
        refine g_iload h 5 dX8_layPulls_121 rfl ?_
        refine g_iload h 4 dX8_layPulls_123 rfl ?_
        obtain ⟨g19, hf⟩ := gn hf
        refine g_iastore (ws' := [(a, .inr (8, [.ref a_w, .int isImage, .ref a_tape, .int taped, .ref a_lane, .ref a_size, .ref a_items, .ref a_up, .ref a_down, .int above, .int below, .ref a_fell, .int fallen, .int torn, .int at_, .int start, .int number, .ref a_read, .ref a_comesUp, .ref a_comesDown, .ref a_held])), (a_w, .inl (X.E 1, 1142, .inl w)), (a_up, .inl (X.E 1, 8, .inl (upd up x5.toNatClampNeg x4))), (a_down, .inl (X.E 1, 8, .inl down))]) h 2 rfl g19 rfl dX8_layPulls_125 ?_
        refine g_aload_n h 0 dX8_layPulls_126 rfl rfl ?_
        refine g_get (ci := 8) (v := .ref a_down) h in_X8 0 8 rfl rfl (fle rfl) rfl q1174 rfl dX8_layPulls_127 ?_
        refine g_iload h 5 dX8_layPulls_130 rfl ?_
        refine g_aload_n h 0 dX8_layPulls_132 rfl rfl ?_
        refine g_iload_n h 1 dX8_layPulls_133 rfl rfl ?_
        refine g_bipush (v := 44) h dX8_layPulls_134 kbipush_44 ?_
        refine g_iadd h dX8_layPulls_136 ?_
        refine g_iload_n h 2 dX8_layPulls_137 rfl rfl ?_
        refine g_iload_n h 3 dX8_layPulls_138 rfl rfl ?_
        obtain ⟨r_20, hv, hf⟩ := ob1 hf
        refine g_callV (ci := 8) (q0 := 0) (n := 3) (As := [.int (x1 + 44), .int x2, .int x3]) (st := [.int x5, .ref a_down]) (wr := [(a_up, .inl (X.E 1, 8, .inl (upd up x5.toNatClampNeg x4))), (a_down, .inl (X.E 1, 8, .inl down))]) (isC := [0, 1]) (isR := [2, 3]) h hR (ct_X8_sumOf (a := a) (a_w := a_w) (a_tape := a_tape) (a_lane := a_lane) (a_size := a_size) (a_items := a_items) (a_up := a_up) (a_down := a_down) (a_fell := a_fell) (a_read := a_read) (a_comesUp := a_comesUp) (a_comesDown := a_comesDown) (a_held := a_held) (x1 := (x1 + 44)) (x2 := x2) (x3 := x3) (isImage := isImage) (taped := taped) (above := above) (below := below) (fallen := fallen) (torn := torn) (at_ := at_) (start := start) (number := number) (w := w) hv) rfl rfl (lw_V q1292 q1294 qs39 q80 q1295) (by decide +kernel) rfl ⟨rfl, rfl, rfl, rfl, by decide⟩ ⟨hce, hsl, fle rfl, fle rfl, fle rfl⟩ rfl dX8_layPulls_139 (pin (perm := [2, 3, 0, 1]) (ws' := [(a, .inr (8, [.ref a_w, .int isImage, .ref a_tape, .int taped, .ref a_lane, .ref a_size, .ref a_items, .ref a_up, .ref a_down, .int above, .int below, .ref a_fell, .int fallen, .int torn, .int at_, .int start, .int number, .ref a_read, .ref a_comesUp, .ref a_comesDown, .ref a_held])), (a_w, .inl (X.E 1, 1142, .inl w)), (a_up, .inl (X.E 1, 8, .inl (upd up x5.toNatClampNeg x4))), (a_down, .inl (X.E 1, 8, .inl down))]) (stk := [.int r_20, .int x5, .ref a_down]) rfl rfl rfl ?_)
        clear hv
        refine g_iastore (ws' := [(a, .inr (8, [.ref a_w, .int isImage, .ref a_tape, .int taped, .ref a_lane, .ref a_size, .ref a_items, .ref a_up, .ref a_down, .int above, .int below, .ref a_fell, .int fallen, .int torn, .int at_, .int start, .int number, .ref a_read, .ref a_comesUp, .ref a_comesDown, .ref a_held])), (a_w, .inl (X.E 1, 1142, .inl w)), (a_up, .inl (X.E 1, 8, .inl (upd up x5.toNatClampNeg x4))), (a_down, .inl (X.E 1, 8, .inl (upd down x5.toNatClampNeg r_20)))]) h 3 rfl g19 rfl dX8_layPulls_142 ?_
        refine g_iinc (j := 5) (v := (x5 + 1)) (lv' := [(5, .int (x5 + 1)), (0, .ref a), (1, .int x1), (2, .int x2), (3, .int x3), (4, .int x4)]) h dX8_layPulls_143 rfl (kinc_1 _) (hL 5 (fle rfl)) rfl ?_
        refine g_goto (tgt := 106) h dX8_layPulls_146 rfl ?_
        exact G.lsub [1, 2, 3, 4, 5, 0] rfl (ih _ _ _ hf k0)
set_option maxHeartbeats 4000000 in
set_option maxRecDepth 100000 in
theorem w_X8_layPulls_L30 {X : Cx} {a a_comesDown a_comesUp a_down a_fell a_held a_items a_lane a_read a_size a_tape a_up a_w : Nat} {x1 : Int32} {isImage : Int32} {taped : Int32} {above : Int32} {below : Int32} {fallen : Int32} {torn : Int32} {at_ : Int32} {start : Int32} {number : Int32} {w : Nat → Int32} {ce sl : Nat} (h : Ok X cX8_layPulls RX8) (hR : Rm X 2 45 0 0) (hL : ∀ i, i < 6 → i < X.nL) (hce : ce ≤ 0) (hsl : sl ≤ 0) : ∀ (n0 : Nat) (x2 : Int32) (up : Nat → Int32) (down : Nat → Int32) {o_up : Nat → Int32} {o_down : Nat → Int32}, f_X8_layPulls_L30 x1 w n0 x2 up down = some (o_up, o_down) → (G X [(a, .inr (8, [.ref a_w, .int isImage, .ref a_tape, .int taped, .ref a_lane, .ref a_size, .ref a_items, .ref a_up, .ref a_down, .int above, .int below, .ref a_fell, .int fallen, .int torn, .int at_, .int start, .int number, .ref a_read, .ref a_comesUp, .ref a_comesDown, .ref a_held])), (a_w, .inl (X.E 1, 1142, .inl w)), (a_up, .inl (X.E 1, 8, .inl o_up)), (a_down, .inl (X.E 1, 8, .inl o_down))] [] ce sl 155 []) → G X [(a, .inr (8, [.ref a_w, .int isImage, .ref a_tape, .int taped, .ref a_lane, .ref a_size, .ref a_items, .ref a_up, .ref a_down, .int above, .int below, .ref a_fell, .int fallen, .int torn, .int at_, .int start, .int number, .ref a_read, .ref a_comesUp, .ref a_comesDown, .ref a_held])), (a_w, .inl (X.E 1, 1142, .inl w)), (a_up, .inl (X.E 1, 8, .inl up)), (a_down, .inl (X.E 1, 8, .inl down))] [(0, .ref a), (1, .int x1), (2, .int x2)] ce sl 30 [] := by
  intro n0
  induction n0 with
  | zero => intro x2 up down o_up o_down hf; exact nomatch (show (none : Option _) = some _ from hf)
  | succ n0 ih =>
    intro x2 up down o_up o_down hf k0
    replace hf : t_X8_layPulls_L30 x1 w (f_X8_layPulls_L30 x1 w n0) x2 up down = some (o_up, o_down) := hf
    unfold t_X8_layPulls_L30 at hf
    refine g_iload_n h 2 dX8_layPulls_30 rfl rfl ?_
    refine g_aload_n h 0 dX8_layPulls_31 rfl rfl ?_
    refine g_get (ci := 8) (v := .ref a_w) h in_X8 0 0 rfl rfl (fle rfl) rfl q1166 rfl dX8_layPulls_32 ?_
    refine g_iload_n h 1 dX8_layPulls_35 rfl rfl ?_
    refine g_iconst (v := 0) h dX8_layPulls_36 kiconst_0 ?_
    refine g_iadd h dX8_layPulls_37 ?_
    obtain ⟨g5, hf⟩ := gn hf
    refine g_iaload h 1 rfl g5 dX8_layPulls_38 ?_
    refine g_icmp_ge (tgt := 155) h dX8_layPulls_39 rfl hf (fun c6 hf => ?_) (fun c6 hf => ?_)
    · obtain ⟨rfl, rfl⟩ := sj2 hf
      exact G.lsub [] rfl k0
    · refine g_aload_n h 0 dX8_layPulls_42 rfl rfl ?_
      refine g_iload_n h 1 dX8_layPulls_43 rfl rfl ?_
      refine g_iload_n h 2 dX8_layPulls_44 rfl rfl ?_
      obtain ⟨r_7, hv, hf⟩ := ob1 hf
      refine g_callV (ci := 8) (q0 := 0) (n := 2) (As := [.int x1, .int x2]) (st := []) (wr := [(a_up, .inl (X.E 1, 8, .inl up)), (a_down, .inl (X.E 1, 8, .inl down))]) (isC := [0, 1]) (isR := [2, 3]) h hR (ct_X8_holds (a := a) (a_w := a_w) (a_tape := a_tape) (a_lane := a_lane) (a_size := a_size) (a_items := a_items) (a_up := a_up) (a_down := a_down) (a_fell := a_fell) (a_read := a_read) (a_comesUp := a_comesUp) (a_comesDown := a_comesDown) (a_held := a_held) (x1 := x1) (x2 := x2) (isImage := isImage) (taped := taped) (above := above) (below := below) (fallen := fallen) (torn := torn) (at_ := at_) (start := start) (number := number) (w := w) hv) rfl rfl (lw_V q1284 q1286 qs37 q80 q1287) (by decide +kernel) rfl ⟨rfl, rfl, rfl, rfl, by decide⟩ ⟨hce, hsl, fle rfl, fle rfl, fle rfl⟩ rfl dX8_layPulls_45 (pin (perm := [2, 3, 0, 1]) (ws' := [(a, .inr (8, [.ref a_w, .int isImage, .ref a_tape, .int taped, .ref a_lane, .ref a_size, .ref a_items, .ref a_up, .ref a_down, .int above, .int below, .ref a_fell, .int fallen, .int torn, .int at_, .int start, .int number, .ref a_read, .ref a_comesUp, .ref a_comesDown, .ref a_held])), (a_w, .inl (X.E 1, 1142, .inl w)), (a_up, .inl (X.E 1, 8, .inl up)), (a_down, .inl (X.E 1, 8, .inl down))]) (stk := [.int r_7]) rfl rfl rfl ?_)
      clear hv
      obtain ⟨z_10, hw, hf⟩ := ob1 hf
      have K48 : G X [(a, .inr (8, [.ref a_w, .int isImage, .ref a_tape, .int taped, .ref a_lane, .ref a_size, .ref a_items, .ref a_up, .ref a_down, .int above, .int below, .ref a_fell, .int fallen, .int torn, .int at_, .int start, .int number, .ref a_read, .ref a_comesUp, .ref a_comesDown, .ref a_held])), (a_w, .inl (X.E 1, 1142, .inl w)), (a_up, .inl (X.E 1, 8, .inl up)), (a_down, .inl (X.E 1, 8, .inl down))] [(0, .ref a), (1, .int x1), (2, .int x2)] ce sl 62 [.int z_10] := by
        clear hw
        refine g_istore_n (lv' := [(3, .int z_10), (0, .ref a), (1, .int x1), (2, .int x2)]) h dX8_layPulls_62 rfl (hL 3 (fle rfl)) rfl ?_
        refine g_iload_n h 0 dX8_layPulls_63 rfl rfl ?_
        refine g_if_lt (tgt := 149) h dX8_layPulls_64 rfl hf (fun c12 hf => ?_) (fun c12 hf => ?_)
        · refine g_iinc (j := 3) (v := (x2 + 1)) (lv' := [(2, .int (x2 + 1)), (3, .int z_10), (0, .ref a), (1, .int x1)]) h dX8_layPulls_149 rfl (kinc_1 _) (hL 2 (fle rfl)) rfl ?_
          refine g_goto (tgt := 30) h dX8_layPulls_152 rfl ?_
          exact G.lsub [2, 3, 0] rfl (ih _ _ _ hf k0)
        · refine g_aload_n h 1 dX8_layPulls_67 rfl rfl ?_
          refine g_get (ci := 8) (v := .ref a_w) h in_X8 0 0 rfl rfl (fle rfl) rfl q1166 rfl dX8_layPulls_68 ?_
          refine g_iload_n h 2 dX8_layPulls_71 rfl rfl ?_
          refine g_bipush (v := 28) h dX8_layPulls_72 kbipush_28 ?_
          refine g_iadd h dX8_layPulls_74 ?_
          refine g_iload_n h 0 dX8_layPulls_75 rfl rfl ?_
          refine g_iadd h dX8_layPulls_76 ?_
          obtain ⟨g13, hf⟩ := gn hf
          refine g_iaload h 1 rfl g13 dX8_layPulls_77 ?_
          refine g_aload_n h 1 dX8_layPulls_78 rfl rfl ?_
          refine g_get (ci := 8) (v := .ref a_w) h in_X8 0 0 rfl rfl (fle rfl) rfl q1166 rfl dX8_layPulls_79 ?_
          refine g_iload_n h 2 dX8_layPulls_82 rfl rfl ?_
          refine g_bipush (v := 28) h dX8_layPulls_83 kbipush_28 ?_
          refine g_iadd h dX8_layPulls_85 ?_
          refine g_iload_n h 3 dX8_layPulls_86 rfl rfl ?_
          refine g_iadd h dX8_layPulls_87 ?_
          obtain ⟨g14, hf⟩ := gn hf
          refine g_iaload h 1 rfl g14 dX8_layPulls_88 ?_
          refine g_isub h dX8_layPulls_89 ?_
          refine g_aload_n h 1 dX8_layPulls_90 rfl rfl ?_
          refine g_iload_n h 2 dX8_layPulls_91 rfl rfl ?_
          refine g_bipush (v := 36) h dX8_layPulls_92 kbipush_36 ?_
          refine g_iadd h dX8_layPulls_94 ?_
          refine g_iload_n h 3 dX8_layPulls_95 rfl rfl ?_
          refine g_iload_n h 0 dX8_layPulls_96 rfl rfl ?_
          obtain ⟨r_15, hv, hf⟩ := ob1 hf
          refine g_callV (ci := 8) (q0 := 0) (n := 3) (As := [.int (x1 + 36), .int x2, .int z_10]) (st := [.int ((w ((x1 + 28) + z_10).toNatClampNeg) - (w ((x1 + 28) + x2).toNatClampNeg))]) (wr := [(a_up, .inl (X.E 1, 8, .inl up)), (a_down, .inl (X.E 1, 8, .inl down))]) (isC := [0, 1]) (isR := [2, 3]) h hR (ct_X8_sumOf (a := a) (a_w := a_w) (a_tape := a_tape) (a_lane := a_lane) (a_size := a_size) (a_items := a_items) (a_up := a_up) (a_down := a_down) (a_fell := a_fell) (a_read := a_read) (a_comesUp := a_comesUp) (a_comesDown := a_comesDown) (a_held := a_held) (x1 := (x1 + 36)) (x2 := x2) (x3 := z_10) (isImage := isImage) (taped := taped) (above := above) (below := below) (fallen := fallen) (torn := torn) (at_ := at_) (start := start) (number := number) (w := w) hv) rfl rfl (lw_V q1292 q1294 qs39 q80 q1295) (by decide +kernel) rfl ⟨rfl, rfl, rfl, rfl, by decide⟩ ⟨hce, hsl, fle rfl, fle rfl, fle rfl⟩ rfl dX8_layPulls_97 (pin (perm := [2, 3, 0, 1]) (ws' := [(a, .inr (8, [.ref a_w, .int isImage, .ref a_tape, .int taped, .ref a_lane, .ref a_size, .ref a_items, .ref a_up, .ref a_down, .int above, .int below, .ref a_fell, .int fallen, .int torn, .int at_, .int start, .int number, .ref a_read, .ref a_comesUp, .ref a_comesDown, .ref a_held])), (a_w, .inl (X.E 1, 1142, .inl w)), (a_up, .inl (X.E 1, 8, .inl up)), (a_down, .inl (X.E 1, 8, .inl down))]) (stk := [.int r_15, .int ((w ((x1 + 28) + z_10).toNatClampNeg) - (w ((x1 + 28) + x2).toNatClampNeg))]) rfl rfl rfl ?_)
          clear hv
          refine g_isub h dX8_layPulls_100 ?_
          refine nm_i (fun y_16 ey_16 => ?_)
          have hf := nm_at hf y_16 ey_16
          refine g_istore (lv' := [(4, .int y_16), (3, .int z_10), (0, .ref a), (1, .int x1), (2, .int x2)]) h dX8_layPulls_101 (hL 4 (fle rfl)) rfl ?_
          refine g_iload_n h 4 dX8_layPulls_103 rfl rfl ?_
          refine g_istore (lv' := [(5, .int x2), (4, .int y_16), (3, .int z_10), (0, .ref a), (1, .int x1), (2, .int x2)]) h dX8_layPulls_104 (hL 5 (fle rfl)) rfl ?_
          refine G.lsub (lv' := [(0, .ref a), (1, .int x1), (2, .int x2), (3, .int z_10), (4, .int y_16), (5, .int x2)]) [3, 4, 5, 2, 1, 0] rfl ?_
          obtain ⟨up_21, down_22, hv, hf⟩ := ob2 hf
          refine w_X8_layPulls_L106 (x1 := x1) (x2 := x2) (x3 := z_10) (x4 := y_16) (isImage := isImage) (taped := taped) (above := above) (below := below) (fallen := fallen) (torn := torn) (at_ := at_) (start := start) (number := number) (w := w) h hR hL hce hsl FU _ _ _ hv ?_
          · clear hv
            refine g_iinc (j := 2) (v := (x2 + 1)) (lv' := [(2, .int (x2 + 1)), (0, .ref a), (1, .int x1)]) h dX8_layPulls_149 rfl (kinc_1 _) (hL 2 (fle rfl)) rfl ?_
            refine g_goto (tgt := 30) h dX8_layPulls_152 rfl ?_
            exact G.lsub [1, 2, 0] rfl (ih _ _ _ hf k0)
      clear hf
      have hf := hw
      clear hw
      refine g_if_eq (tgt := 60) h dX8_layPulls_48 rfl hf (fun c8 hf => ?_) (fun c8 hf => ?_)
      · refine g_bipush (v := (-4)) h dX8_layPulls_60 kbipush_m4 ?_
        obtain rfl := sj1 hf
        exact G.lsub [0, 1, 2] rfl K48
      · refine g_aload_n h 0 dX8_layPulls_51 rfl rfl ?_
        refine g_iload_n h 1 dX8_layPulls_52 rfl rfl ?_
        refine g_iload_n h 2 dX8_layPulls_53 rfl rfl ?_
        obtain ⟨r_11, hv, hf⟩ := ob1 hf
        refine g_callV (ci := 8) (q0 := 0) (n := 2) (As := [.int x1, .int x2]) (st := []) (wr := [(a_up, .inl (X.E 1, 8, .inl up)), (a_down, .inl (X.E 1, 8, .inl down))]) (isC := [0, 1]) (isR := [2, 3]) h hR (ct_X8_nextRight (a := a) (a_w := a_w) (a_tape := a_tape) (a_lane := a_lane) (a_size := a_size) (a_items := a_items) (a_up := a_up) (a_down := a_down) (a_fell := a_fell) (a_read := a_read) (a_comesUp := a_comesUp) (a_comesDown := a_comesDown) (a_held := a_held) (x1 := x1) (x2 := x2) (isImage := isImage) (taped := taped) (above := above) (below := below) (fallen := fallen) (torn := torn) (at_ := at_) (start := start) (number := number) (w := w) hv) rfl rfl (lw_V q1288 q1290 qs38 q80 q1291) (by decide +kernel) rfl ⟨rfl, rfl, rfl, rfl, by decide⟩ ⟨hce, hsl, fle rfl, fle rfl, fle rfl⟩ rfl dX8_layPulls_54 (pin (perm := [2, 3, 0, 1]) (ws' := [(a, .inr (8, [.ref a_w, .int isImage, .ref a_tape, .int taped, .ref a_lane, .ref a_size, .ref a_items, .ref a_up, .ref a_down, .int above, .int below, .ref a_fell, .int fallen, .int torn, .int at_, .int start, .int number, .ref a_read, .ref a_comesUp, .ref a_comesDown, .ref a_held])), (a_w, .inl (X.E 1, 1142, .inl w)), (a_up, .inl (X.E 1, 8, .inl up)), (a_down, .inl (X.E 1, 8, .inl down))]) (stk := [.int r_11]) rfl rfl rfl ?_)
        clear hv
        refine g_goto (tgt := 62) h dX8_layPulls_57 rfl ?_
        obtain rfl := sj1 hf
        exact G.lsub [0, 1, 2] rfl K48
set_option maxHeartbeats 4000000 in
set_option maxRecDepth 100000 in
theorem ct_X8_layPulls {l : Launch} {D : va_G} {E : Ety} {a a_w a_tape a_lane a_size a_items a_up a_down a_fell a_read a_comesUp a_comesDown a_held : Nat} {x1 : Int32} {isImage : Int32} {taped : Int32} {above : Int32} {below : Int32} {fallen : Int32} {torn : Int32} {at_ : Int32} {start : Int32} {number : Int32} {w : Nat → Int32} {up : Nat → Int32} {down : Nat → Int32} {o_up : Nat → Int32} {o_down : Nat → Int32} (hf : f_X8_layPulls x1 w up down = some (o_up, o_down)) : Ct l yX8_layPulls cX8_layPulls 6 none 2 45 0 0 D E [.ref a, .int x1] [(a, .inr (8, [.ref a_w, .int isImage, .ref a_tape, .int taped, .ref a_lane, .ref a_size, .ref a_items, .ref a_up, .ref a_down, .int above, .int below, .ref a_fell, .int fallen, .int torn, .int at_, .int start, .int number, .ref a_read, .ref a_comesUp, .ref a_comesDown, .ref a_held])), (a_w, .inl (E 1, 1142, .inl w)), (a_up, .inl (E 1, 8, .inl up)), (a_down, .inl (E 1, 8, .inl down))] (Pn none [(a, .inr (8, [.ref a_w, .int isImage, .ref a_tape, .int taped, .ref a_lane, .ref a_size, .ref a_items, .ref a_up, .ref a_down, .int above, .int below, .ref a_fell, .int fallen, .int torn, .int at_, .int start, .int number, .ref a_read, .ref a_comesUp, .ref a_comesDown, .ref a_held])), (a_w, .inl (E 1, 1142, .inl w)), (a_up, .inl (E 1, 8, .inl o_up)), (a_down, .inl (E 1, 8, .inl o_down))]) := by
  refine ct_of (own := RX8) (plainFor_of_name (by decide)) rfl (fle rfl) rfl ?_
  intro X hl hD hE hnL hXF h hR hF hnm
  subst hl; subst hD; subst hE
  have hL : ∀ i, i < 6 → i < X.nL := fun i hi => by rw [hnL]; exact hi
  unfold f_X8_layPulls at hf
  refine g_iconst (v := 0) h dX8_layPulls_0 kiconst_0 ?_
  refine g_istore_n (lv' := [(2, .int 0), (0, .ref a), (1, .int x1)]) h dX8_layPulls_1 rfl (hL 2 (fle rfl)) rfl ?_
  refine G.lsub (lv' := [(0, .ref a), (1, .int x1), (2, .int 0)]) [1, 2, 0] rfl ?_
  obtain ⟨up_3, down_4, hv, hf⟩ := ob2 hf
  refine w_X8_layPulls_L2 (x1 := x1) (isImage := isImage) (taped := taped) (above := above) (below := below) (fallen := fallen) (torn := torn) (at_ := at_) (start := start) (number := number) (w := w) h hR hL (fle rfl) (fle rfl) FU _ _ _ hv ?_
  · clear hv
    refine g_iconst (v := 0) h dX8_layPulls_28 kiconst_0 ?_
    refine g_istore_n (lv' := [(2, .int 0), (0, .ref a), (1, .int x1)]) h dX8_layPulls_29 rfl (hL 2 (fle rfl)) rfl ?_
    refine G.lsub (lv' := [(0, .ref a), (1, .int x1), (2, .int 0)]) [1, 2, 0] rfl ?_
    obtain ⟨up_23, down_24, hv, hf⟩ := ob2 hf
    refine w_X8_layPulls_L30 (x1 := x1) (isImage := isImage) (taped := taped) (above := above) (below := below) (fallen := fallen) (torn := torn) (at_ := at_) (start := start) (number := number) (w := w) h hR hL (fle rfl) (fle rfl) FU _ _ _ hv ?_
    · clear hv
      obtain ⟨rfl, rfl⟩ := sj2 hf
      exact g_vret h hF [0, 1, 2, 3] rfl rfl ⟨rfl, rfl⟩ (fle rfl) (fle rfl) dX8_layPulls_155
set_option maxHeartbeats 4000000 in
set_option maxRecDepth 100000 in
theorem w_X8_tornSeam_L2 {X : Cx} {a a_comesDown a_comesUp a_down a_fell a_held a_items a_lane a_read a_size a_tape a_up a_w : Nat} {x1 : Int32} {isImage : Int32} {taped : Int32} {above : Int32} {below : Int32} {fallen : Int32} {torn : Int32} {at_ : Int32} {start : Int32} {number : Int32} {w : Nat → Int32} {up : Nat → Int32} {down : Nat → Int32} {ce sl : Nat} (h : Ok X cX8_tornSeam RX8) (hR : Rm X 0 0 0 0) (hL : ∀ i, i < 3 → i < X.nL) (hce : ce ≤ 0) (hsl : sl ≤ 0) : ∀ (n0 : Nat) (x2 : Int32) {otag : Nat} {o_x2 : Int32}, f_X8_tornSeam_L2 x1 w up down n0 x2 = some (otag, o_x2) → (otag = 0 → G X [(a, .inr (8, [.ref a_w, .int isImage, .ref a_tape, .int taped, .ref a_lane, .ref a_size, .ref a_items, .ref a_up, .ref a_down, .int above, .int below, .ref a_fell, .int fallen, .int torn, .int at_, .int start, .int number, .ref a_read, .ref a_comesUp, .ref a_comesDown, .ref a_held])), (a_w, .inl (X.E 1, 1142, .inl w)), (a_up, .inl (X.E 1, 8, .inl up)), (a_down, .inl (X.E 1, 8, .inl down))] [(2, .int o_x2)] ce sl 40 []) → (otag = 1 → G X [(a, .inr (8, [.ref a_w, .int isImage, .ref a_tape, .int taped, .ref a_lane, .ref a_size, .ref a_items, .ref a_up, .ref a_down, .int above, .int below, .ref a_fell, .int fallen, .int torn, .int at_, .int start, .int number, .ref a_read, .ref a_comesUp, .ref a_comesDown, .ref a_held])), (a_w, .inl (X.E 1, 1142, .inl w)), (a_up, .inl (X.E 1, 8, .inl up)), (a_down, .inl (X.E 1, 8, .inl down))] [] ce sl 48 []) → G X [(a, .inr (8, [.ref a_w, .int isImage, .ref a_tape, .int taped, .ref a_lane, .ref a_size, .ref a_items, .ref a_up, .ref a_down, .int above, .int below, .ref a_fell, .int fallen, .int torn, .int at_, .int start, .int number, .ref a_read, .ref a_comesUp, .ref a_comesDown, .ref a_held])), (a_w, .inl (X.E 1, 1142, .inl w)), (a_up, .inl (X.E 1, 8, .inl up)), (a_down, .inl (X.E 1, 8, .inl down))] [(0, .ref a), (1, .int x1), (2, .int x2)] ce sl 2 [] := by
  intro n0
  induction n0 with
  | zero => intro x2 otag o_x2 hf; exact nomatch (show (none : Option _) = some _ from hf)
  | succ n0 ih =>
    intro x2 otag o_x2 hf k0 k1
    replace hf : t_X8_tornSeam_L2 x1 w up down (f_X8_tornSeam_L2 x1 w up down n0) x2 = some (otag, o_x2) := hf
    unfold t_X8_tornSeam_L2 at hf
    refine g_iload_n h 2 dX8_tornSeam_2 rfl rfl ?_
    refine g_iconst (v := 1) h dX8_tornSeam_3 kiconst_1 ?_
    refine g_iadd h dX8_tornSeam_4 ?_
    refine g_aload_n h 0 dX8_tornSeam_5 rfl rfl ?_
    refine g_get (ci := 8) (v := .ref a_w) h in_X8 0 0 rfl rfl (fle rfl) rfl q1166 rfl dX8_tornSeam_6 ?_
    refine g_iload_n h 1 dX8_tornSeam_9 rfl rfl ?_
    refine g_iconst (v := 0) h dX8_tornSeam_10 kiconst_0 ?_
    refine g_iadd h dX8_tornSeam_11 ?_
    obtain ⟨g1, hf⟩ := gn hf
    refine g_iaload h 1 rfl g1 dX8_tornSeam_12 ?_
    refine g_icmp_ge (tgt := 48) h dX8_tornSeam_13 rfl hf (fun c2 hf => ?_) (fun c2 hf => ?_)
    · obtain ⟨rfl, rfl⟩ := sj2 hf
      exact G.lsub [] rfl (k1 rfl)
    · refine g_aload_n h 0 dX8_tornSeam_16 rfl rfl ?_
      refine g_get (ci := 8) (v := .ref a_up) h in_X8 0 7 rfl rfl (fle rfl) rfl q1173 rfl dX8_tornSeam_17 ?_
      refine g_iload_n h 2 dX8_tornSeam_20 rfl rfl ?_
      obtain ⟨g3, hf⟩ := gn hf
      refine g_iaload h 2 rfl g3 dX8_tornSeam_21 ?_
      refine g_aload_n h 0 dX8_tornSeam_22 rfl rfl ?_
      refine g_get (ci := 8) (v := .ref a_w) h in_X8 0 0 rfl rfl (fle rfl) rfl q1166 rfl dX8_tornSeam_23 ?_
      refine g_iload_n h 1 dX8_tornSeam_26 rfl rfl ?_
      refine g_iconst (v := 1) h dX8_tornSeam_27 kiconst_1 ?_
      refine g_iadd h dX8_tornSeam_28 ?_
      obtain ⟨g4, hf⟩ := gn hf
      refine g_iaload h 1 rfl g4 dX8_tornSeam_29 ?_
      refine g_aload_n h 0 dX8_tornSeam_30 rfl rfl ?_
      refine g_get (ci := 8) (v := .ref a_down) h in_X8 0 8 rfl rfl (fle rfl) rfl q1174 rfl dX8_tornSeam_31 ?_
      refine g_iload_n h 2 dX8_tornSeam_34 rfl rfl ?_
      refine g_iaload h 3 rfl g3 dX8_tornSeam_35 ?_
      refine g_imul h dX8_tornSeam_36 ?_
      refine g_icmp_le (tgt := 42) h dX8_tornSeam_37 rfl hf (fun c5 hf => ?_) (fun c5 hf => ?_)
      · refine g_iinc (j := 2) (v := (x2 + 1)) (lv' := [(2, .int (x2 + 1)), (0, .ref a), (1, .int x1)]) h dX8_tornSeam_42 rfl (kinc_1 _) (hL 2 (fle rfl)) rfl ?_
        refine g_goto (tgt := 2) h dX8_tornSeam_45 rfl ?_
        exact G.lsub [1, 2, 0] rfl (ih _ hf k0 k1)
      · obtain ⟨rfl, rfl⟩ := sj2 hf
        exact G.lsub [2] rfl (k0 rfl)
set_option maxHeartbeats 4000000 in
set_option maxRecDepth 100000 in
theorem ct_X8_tornSeam {l : Launch} {D : va_G} {E : Ety} {a a_w a_tape a_lane a_size a_items a_up a_down a_fell a_read a_comesUp a_comesDown a_held : Nat} {x1 : Int32} {isImage : Int32} {taped : Int32} {above : Int32} {below : Int32} {fallen : Int32} {torn : Int32} {at_ : Int32} {start : Int32} {number : Int32} {w : Nat → Int32} {up : Nat → Int32} {down : Nat → Int32} {r_ : Int32} (hf : f_X8_tornSeam x1 w up down = some r_) : Ct l yX8_tornSeam cX8_tornSeam 3 (some .int) 0 0 0 0 D E [.ref a, .int x1] [(a, .inr (8, [.ref a_w, .int isImage, .ref a_tape, .int taped, .ref a_lane, .ref a_size, .ref a_items, .ref a_up, .ref a_down, .int above, .int below, .ref a_fell, .int fallen, .int torn, .int at_, .int start, .int number, .ref a_read, .ref a_comesUp, .ref a_comesDown, .ref a_held])), (a_w, .inl (E 1, 1142, .inl w)), (a_up, .inl (E 1, 8, .inl up)), (a_down, .inl (E 1, 8, .inl down))] (Pn (some (.int r_)) [(a, .inr (8, [.ref a_w, .int isImage, .ref a_tape, .int taped, .ref a_lane, .ref a_size, .ref a_items, .ref a_up, .ref a_down, .int above, .int below, .ref a_fell, .int fallen, .int torn, .int at_, .int start, .int number, .ref a_read, .ref a_comesUp, .ref a_comesDown, .ref a_held])), (a_w, .inl (E 1, 1142, .inl w)), (a_up, .inl (E 1, 8, .inl up)), (a_down, .inl (E 1, 8, .inl down))]) := by
  refine ct_of (own := RX8) (plainFor_of_name (by decide)) rfl (fle rfl) rfl ?_
  intro X hl hD hE hnL hXF h hR hF hnm
  subst hl; subst hD; subst hE
  have hL : ∀ i, i < 3 → i < X.nL := fun i hi => by rw [hnL]; exact hi
  unfold f_X8_tornSeam at hf
  refine g_iconst (v := 0) h dX8_tornSeam_0 kiconst_0 ?_
  refine g_istore_n (lv' := [(2, .int 0), (0, .ref a), (1, .int x1)]) h dX8_tornSeam_1 rfl (hL 2 (fle rfl)) rfl ?_
  refine G.lsub (lv' := [(0, .ref a), (1, .int x1), (2, .int 0)]) [1, 2, 0] rfl ?_
  obtain ⟨tag_6, x2_7, hv, hf⟩ := ob2 hf
  refine w_X8_tornSeam_L2 (x1 := x1) (isImage := isImage) (taped := taped) (above := above) (below := below) (fallen := fallen) (torn := torn) (at_ := at_) (start := start) (number := number) (w := w) (up := up) (down := down) h hR hL (fle rfl) (fle rfl) FU _ hv ?_ ?_
  · intro ht
    have hf := (if_pos ht).symm.trans hf
    clear hv
    refine g_iload_n h 0 dX8_tornSeam_40 rfl rfl ?_
    obtain rfl := sj1 hf
    exact g_iret h hF [0, 1, 2, 3] rfl rfl ⟨rfl, rfl⟩ (fle rfl) (fle rfl) dX8_tornSeam_41
  · intro ht
    have hf := (if_neg (show ¬ tag_6 = 0 from by rw [ht]; decide)).symm.trans hf
    clear hv
    refine g_bipush (v := (-4)) h dX8_tornSeam_48 kbipush_m4 ?_
    obtain rfl := sj1 hf
    exact g_iret h hF [0, 1, 2, 3] rfl rfl ⟨rfl, rfl⟩ (fle rfl) (fle rfl) dX8_tornSeam_50
set_option maxHeartbeats 4000000 in
set_option maxRecDepth 100000 in
theorem w_X8_cuts_L7 {X : Cx} {a a_comesDown a_comesUp a_down a_fell a_held a_items a_lane a_read a_size a_tape a_up a_w : Nat} {x1 : Int32} {isImage : Int32} {taped : Int32} {above : Int32} {below : Int32} {fallen : Int32} {torn : Int32} {at_ : Int32} {start : Int32} {number : Int32} {w : Nat → Int32} {ce sl : Nat} (h : Ok X cX8_cuts RX8) (hR : Rm X 1 22 0 0) (hL : ∀ i, i < 5 → i < X.nL) (hce : ce ≤ 0) (hsl : sl ≤ 0) : ∀ (n0 : Nat) (x3 : Int32) (x4 : Int32) {o_x3 : Int32}, f_X8_cuts_L7 x1 w n0 x3 x4 = some o_x3 → (G X [(a, .inr (8, [.ref a_w, .int isImage, .ref a_tape, .int taped, .ref a_lane, .ref a_size, .ref a_items, .ref a_up, .ref a_down, .int above, .int below, .ref a_fell, .int fallen, .int torn, .int at_, .int start, .int number, .ref a_read, .ref a_comesUp, .ref a_comesDown, .ref a_held])), (a_w, .inl (X.E 1, 1142, .inl w))] [(0, .ref a), (1, .int x1), (3, .int o_x3)] ce sl 56 []) → G X [(a, .inr (8, [.ref a_w, .int isImage, .ref a_tape, .int taped, .ref a_lane, .ref a_size, .ref a_items, .ref a_up, .ref a_down, .int above, .int below, .ref a_fell, .int fallen, .int torn, .int at_, .int start, .int number, .ref a_read, .ref a_comesUp, .ref a_comesDown, .ref a_held])), (a_w, .inl (X.E 1, 1142, .inl w))] [(0, .ref a), (1, .int x1), (3, .int x3), (4, .int x4)] ce sl 7 [] := by
  intro n0
  induction n0 with
  | zero => intro x3 x4 o_x3 hf; exact nomatch (show (none : Option _) = some _ from hf)
  | succ n0 ih =>
    intro x3 x4 o_x3 hf k0
    replace hf : t_X8_cuts_L7 x1 w (f_X8_cuts_L7 x1 w n0) x3 x4 = some o_x3 := hf
    unfold t_X8_cuts_L7 at hf
    refine g_aload_n h 0 dX8_cuts_7 rfl rfl ?_
    refine g_iload_n h 1 dX8_cuts_8 rfl rfl ?_
    refine g_iload h 3 dX8_cuts_9 rfl ?_
    obtain ⟨r_1, hv, hf⟩ := ob1 hf
    refine g_callV (ci := 8) (q0 := 0) (n := 2) (As := [.int x1, .int x4]) (st := []) (wr := []) (isC := [0, 1]) (isR := []) h hR (ct_X8_holds (a := a) (a_w := a_w) (a_tape := a_tape) (a_lane := a_lane) (a_size := a_size) (a_items := a_items) (a_up := a_up) (a_down := a_down) (a_fell := a_fell) (a_read := a_read) (a_comesUp := a_comesUp) (a_comesDown := a_comesDown) (a_held := a_held) (x1 := x1) (x2 := x4) (isImage := isImage) (taped := taped) (above := above) (below := below) (fallen := fallen) (torn := torn) (at_ := at_) (start := start) (number := number) (w := w) hv) rfl rfl (lw_V q1284 q1286 qs37 q80 q1287) (by decide +kernel) rfl ⟨rfl, rfl, rfl, rfl, by decide⟩ ⟨hce, hsl, fle rfl, fle rfl, fle rfl⟩ rfl dX8_cuts_11 (pin (perm := [0, 1]) (ws' := [(a, .inr (8, [.ref a_w, .int isImage, .ref a_tape, .int taped, .ref a_lane, .ref a_size, .ref a_items, .ref a_up, .ref a_down, .int above, .int below, .ref a_fell, .int fallen, .int torn, .int at_, .int start, .int number, .ref a_read, .ref a_comesUp, .ref a_comesDown, .ref a_held])), (a_w, .inl (X.E 1, 1142, .inl w))]) (stk := [.int r_1]) rfl rfl rfl ?_)
    clear hv
    refine g_if_ne (tgt := 56) h dX8_cuts_14 rfl hf (fun c2 hf => ?_) (fun c2 hf => ?_)
    · refine g_aload_n h 0 dX8_cuts_17 rfl rfl ?_
      refine g_get (ci := 8) (v := .ref a_w) h in_X8 0 0 rfl rfl (fle rfl) rfl q1166 rfl dX8_cuts_18 ?_
      refine g_iload_n h 1 dX8_cuts_21 rfl rfl ?_
      refine g_bipush (v := 44) h dX8_cuts_22 kbipush_44 ?_
      refine g_iadd h dX8_cuts_24 ?_
      refine g_iload h 3 dX8_cuts_25 rfl ?_
      refine g_iadd h dX8_cuts_27 ?_
      obtain ⟨g3, hf⟩ := gn hf
      refine g_iaload h 1 rfl g3 dX8_cuts_28 ?_
      refine g_aload_n h 0 dX8_cuts_29 rfl rfl ?_
      refine g_get (ci := 8) (v := .ref a_w) h in_X8 0 0 rfl rfl (fle rfl) rfl q1166 rfl dX8_cuts_30 ?_
      refine g_iload_n h 1 dX8_cuts_33 rfl rfl ?_
      refine g_bipush (v := 44) h dX8_cuts_34 kbipush_44 ?_
      refine g_iadd h dX8_cuts_36 ?_
      refine g_iload_n h 2 dX8_cuts_37 rfl rfl ?_
      refine g_iadd h dX8_cuts_38 ?_
      obtain ⟨g4, hf⟩ := gn hf
      refine g_iaload h 1 rfl g4 dX8_cuts_39 ?_
      refine g_icmp_le (tgt := 48) h dX8_cuts_40 rfl hf (fun c5 hf => ?_) (fun c5 hf => ?_)
      · refine g_iload_n h 2 dX8_cuts_48 rfl rfl ?_
        refine g_istore_n (lv' := [(3, .int x3), (0, .ref a), (1, .int x1), (4, .int x4)]) h dX8_cuts_49 rfl (hL 3 (fle rfl)) rfl ?_
        refine g_iinc (j := 3) (v := (x4 + 1)) (lv' := [(4, .int (x4 + 1)), (3, .int x3), (0, .ref a), (1, .int x1)]) h dX8_cuts_50 rfl (kinc_1 _) (hL 4 (fle rfl)) rfl ?_
        refine g_goto (tgt := 7) h dX8_cuts_53 rfl ?_
        exact G.lsub [2, 3, 1, 0] rfl (ih _ _ hf k0)
      · refine g_iload h 3 dX8_cuts_43 rfl ?_
        refine g_goto (tgt := 49) h dX8_cuts_45 rfl ?_
        refine g_istore_n (lv' := [(3, .int x4), (0, .ref a), (1, .int x1), (4, .int x4)]) h dX8_cuts_49 rfl (hL 3 (fle rfl)) rfl ?_
        refine g_iinc (j := 3) (v := (x4 + 1)) (lv' := [(4, .int (x4 + 1)), (3, .int x4), (0, .ref a), (1, .int x1)]) h dX8_cuts_50 rfl (kinc_1 _) (hL 4 (fle rfl)) rfl ?_
        refine g_goto (tgt := 7) h dX8_cuts_53 rfl ?_
        exact G.lsub [2, 3, 1, 0] rfl (ih _ _ hf k0)
    · obtain rfl := sj1 hf
      exact G.lsub [0, 1, 2] rfl k0
set_option maxHeartbeats 4000000 in
set_option maxRecDepth 100000 in
theorem ct_X8_cuts {l : Launch} {D : va_G} {E : Ety} {a a_w a_tape a_lane a_size a_items a_up a_down a_fell a_read a_comesUp a_comesDown a_held : Nat} {x1 : Int32} {x2 : Int32} {isImage : Int32} {taped : Int32} {above : Int32} {below : Int32} {fallen : Int32} {torn : Int32} {at_ : Int32} {start : Int32} {number : Int32} {w : Nat → Int32} {o_w : Nat → Int32} (hf : f_X8_cuts x1 x2 w = some o_w) : Ct l yX8_cuts cX8_cuts 5 none 1 22 0 0 D E [.ref a, .int x1, .int x2] [(a, .inr (8, [.ref a_w, .int isImage, .ref a_tape, .int taped, .ref a_lane, .ref a_size, .ref a_items, .ref a_up, .ref a_down, .int above, .int below, .ref a_fell, .int fallen, .int torn, .int at_, .int start, .int number, .ref a_read, .ref a_comesUp, .ref a_comesDown, .ref a_held])), (a_w, .inl (E 1, 1142, .inl w))] (Pn none [(a, .inr (8, [.ref a_w, .int isImage, .ref a_tape, .int taped, .ref a_lane, .ref a_size, .ref a_items, .ref a_up, .ref a_down, .int above, .int below, .ref a_fell, .int fallen, .int torn, .int at_, .int start, .int number, .ref a_read, .ref a_comesUp, .ref a_comesDown, .ref a_held])), (a_w, .inl (E 1, 1142, .inl o_w))]) := by
  refine ct_of (own := RX8) (plainFor_of_name (by decide)) rfl (fle rfl) rfl ?_
  intro X hl hD hE hnL hXF h hR hF hnm
  subst hl; subst hD; subst hE
  have hL : ∀ i, i < 5 → i < X.nL := fun i hi => by rw [hnL]; exact hi
  unfold f_X8_cuts at hf
  refine g_iload_n h 2 dX8_cuts_0 rfl rfl ?_
  refine g_istore_n (lv' := [(3, .int x2), (0, .ref a), (1, .int x1), (2, .int x2)]) h dX8_cuts_1 rfl (hL 3 (fle rfl)) rfl ?_
  refine g_iload_n h 3 dX8_cuts_2 rfl rfl ?_
  refine g_iconst (v := 1) h dX8_cuts_3 kiconst_1 ?_
  refine g_iadd h dX8_cuts_4 ?_
  refine g_istore (lv' := [(4, .int (x2 + 1)), (3, .int x2), (0, .ref a), (1, .int x1), (2, .int x2)]) h dX8_cuts_5 (hL 4 (fle rfl)) rfl ?_
  refine G.lsub (lv' := [(0, .ref a), (1, .int x1), (3, .int x2), (4, .int (x2 + 1))]) [2, 3, 1, 0] rfl ?_
  obtain ⟨x3_6, hv, hf⟩ := ob1 hf
  refine w_X8_cuts_L7 (x1 := x1) (isImage := isImage) (taped := taped) (above := above) (below := below) (fallen := fallen) (torn := torn) (at_ := at_) (start := start) (number := number) (w := w) h hR hL (fle rfl) (fle rfl) FU _ _ hv ?_
  · clear hv
    refine g_aload_n h 0 dX8_cuts_56 rfl rfl ?_
    refine g_get (ci := 8) (v := .ref a_w) h in_X8 0 0 rfl rfl (fle rfl) rfl q1166 rfl dX8_cuts_57 ?_
    refine g_iload_n h 1 dX8_cuts_60 rfl rfl ?_
    refine g_bipush (v := 52) h dX8_cuts_61 kbipush_52 ?_
    refine g_iadd h dX8_cuts_63 ?_
    refine g_iload_n h 2 dX8_cuts_64 rfl rfl ?_
    refine g_iadd h dX8_cuts_65 ?_
    refine g_iconst (v := 1) h dX8_cuts_66 kiconst_1 ?_
    obtain ⟨g7, hf⟩ := gn hf
    refine g_iastore (ws' := [(a, .inr (8, [.ref a_w, .int isImage, .ref a_tape, .int taped, .ref a_lane, .ref a_size, .ref a_items, .ref a_up, .ref a_down, .int above, .int below, .ref a_fell, .int fallen, .int torn, .int at_, .int start, .int number, .ref a_read, .ref a_comesUp, .ref a_comesDown, .ref a_held])), (a_w, .inl (X.E 1, 1142, .inl (upd w ((x1 + 52) + x3_6).toNatClampNeg 1)))]) h 1 rfl g7 rfl dX8_cuts_67 ?_
    obtain rfl := sj1 hf
    exact g_vret h hF [0, 1] rfl rfl ⟨rfl, rfl⟩ (fle rfl) (fle rfl) dX8_cuts_68
set_option maxHeartbeats 4000000 in
set_option maxRecDepth 100000 in
theorem ct_X8_layPulled {l : Launch} {D : va_G} {E : Ety} {a a_w a_tape a_lane a_size a_items a_up a_down a_fell a_read a_comesUp a_comesDown a_held : Nat} {x1 : Int32} {x2 : Int32} {isImage : Int32} {taped : Int32} {above : Int32} {below : Int32} {fallen : Int32} {torn : Int32} {at_ : Int32} {start : Int32} {number : Int32} {w : Nat → Int32} {up : Nat → Int32} {down : Nat → Int32} {o_above : Int32} {o_below : Int32} (hf : f_X8_layPulled x1 x2 w up down = some (o_above, o_below)) : Ct l yX8_layPulled cX8_layPulled 7 none 1 22 0 0 D E [.ref a, .int x1, .int x2] [(a, .inr (8, [.ref a_w, .int isImage, .ref a_tape, .int taped, .ref a_lane, .ref a_size, .ref a_items, .ref a_up, .ref a_down, .int above, .int below, .ref a_fell, .int fallen, .int torn, .int at_, .int start, .int number, .ref a_read, .ref a_comesUp, .ref a_comesDown, .ref a_held])), (a_w, .inl (E 1, 1142, .inl w)), (a_up, .inl (E 1, 8, .inl up)), (a_down, .inl (E 1, 8, .inl down))] (Pn none [(a, .inr (8, [.ref a_w, .int isImage, .ref a_tape, .int taped, .ref a_lane, .ref a_size, .ref a_items, .ref a_up, .ref a_down, .int o_above, .int o_below, .ref a_fell, .int fallen, .int torn, .int at_, .int start, .int number, .ref a_read, .ref a_comesUp, .ref a_comesDown, .ref a_held])), (a_w, .inl (E 1, 1142, .inl w)), (a_up, .inl (E 1, 8, .inl up)), (a_down, .inl (E 1, 8, .inl down))]) := by
  refine ct_of (own := RX8) (plainFor_of_name (by decide)) rfl (fle rfl) rfl ?_
  intro X hl hD hE hnL hXF h hR hF hnm
  subst hl; subst hD; subst hE
  have hL : ∀ i, i < 7 → i < X.nL := fun i hi => by rw [hnL]; exact hi
  unfold f_X8_layPulled at hf
  refine g_iload_n h 2 dX8_layPulled_0 rfl rfl ?_
  refine g_iconst (v := 1) h dX8_layPulled_1 kiconst_1 ?_
  refine g_iadd h dX8_layPulled_2 ?_
  refine g_aload_n h 0 dX8_layPulled_3 rfl rfl ?_
  refine g_get (ci := 8) (v := .ref a_w) h in_X8 0 0 rfl rfl (fle rfl) rfl q1166 rfl dX8_layPulled_4 ?_
  refine g_iload_n h 1 dX8_layPulled_7 rfl rfl ?_
  refine g_iconst (v := 0) h dX8_layPulled_8 kiconst_0 ?_
  refine g_iadd h dX8_layPulled_9 ?_
  obtain ⟨g1, hf⟩ := gn hf
  refine g_iaload h 1 rfl g1 dX8_layPulled_10 ?_
  obtain ⟨z_4, hw, hf⟩ := ob1 hf
  have K11 : G X [(a, .inr (8, [.ref a_w, .int isImage, .ref a_tape, .int taped, .ref a_lane, .ref a_size, .ref a_items, .ref a_up, .ref a_down, .int above, .int below, .ref a_fell, .int fallen, .int torn, .int at_, .int start, .int number, .ref a_read, .ref a_comesUp, .ref a_comesDown, .ref a_held])), (a_w, .inl (X.E 1, 1142, .inl w)), (a_up, .inl (X.E 1, 8, .inl up)), (a_down, .inl (X.E 1, 8, .inl down))] [(0, .ref a), (1, .int x1), (2, .int x2)] 0 0 24 [.int z_4] := by
    clear hw
    refine g_istore_n (lv' := [(3, .int z_4), (0, .ref a), (1, .int x1), (2, .int x2)]) h dX8_layPulled_24 rfl (hL 3 (fle rfl)) rfl ?_
    refine g_iload_n h 3 dX8_layPulled_25 rfl rfl ?_
    refine g_iconst (v := 1) h dX8_layPulled_26 kiconst_1 ?_
    refine g_iadd h dX8_layPulled_27 ?_
    refine g_aload_n h 1 dX8_layPulled_28 rfl rfl ?_
    refine g_get (ci := 8) (v := .ref a_w) h in_X8 0 0 rfl rfl (fle rfl) rfl q1166 rfl dX8_layPulled_29 ?_
    refine g_iload_n h 2 dX8_layPulled_32 rfl rfl ?_
    refine g_iconst (v := 0) h dX8_layPulled_33 kiconst_0 ?_
    refine g_iadd h dX8_layPulled_34 ?_
    refine g_iaload h 1 rfl g1 dX8_layPulled_35 ?_
    obtain ⟨z_8, hw, hf⟩ := ob1 hf
    have K36 : G X [(a, .inr (8, [.ref a_w, .int isImage, .ref a_tape, .int taped, .ref a_lane, .ref a_size, .ref a_items, .ref a_up, .ref a_down, .int above, .int below, .ref a_fell, .int fallen, .int torn, .int at_, .int start, .int number, .ref a_read, .ref a_comesUp, .ref a_comesDown, .ref a_held])), (a_w, .inl (X.E 1, 1142, .inl w)), (a_up, .inl (X.E 1, 8, .inl up)), (a_down, .inl (X.E 1, 8, .inl down))] [(0, .ref a), (1, .int x1), (2, .int x2), (3, .int z_4)] 0 0 49 [.int z_8] := by
      clear hw
      refine g_istore (lv' := [(4, .int z_8), (0, .ref a), (1, .int x1), (2, .int x2), (3, .int z_4)]) h dX8_layPulled_49 (hL 4 (fle rfl)) rfl ?_
      refine g_iload_n h 3 dX8_layPulled_51 rfl rfl ?_
      obtain ⟨z_12, hw, hf⟩ := ob1 hf
      have K52 : G X [(a, .inr (8, [.ref a_w, .int isImage, .ref a_tape, .int taped, .ref a_lane, .ref a_size, .ref a_items, .ref a_up, .ref a_down, .int above, .int below, .ref a_fell, .int fallen, .int torn, .int at_, .int start, .int number, .ref a_read, .ref a_comesUp, .ref a_comesDown, .ref a_held])), (a_w, .inl (X.E 1, 1142, .inl w)), (a_up, .inl (X.E 1, 8, .inl up)), (a_down, .inl (X.E 1, 8, .inl down))] [(0, .ref a), (1, .int x1), (2, .int x2), (3, .int z_4), (4, .int z_8)] 0 0 67 [.int z_12] := by
        clear hw
        refine g_istore (lv' := [(5, .int z_12), (0, .ref a), (1, .int x1), (2, .int x2), (3, .int z_4), (4, .int z_8)]) h dX8_layPulled_67 (hL 5 (fle rfl)) rfl ?_
        refine g_iload_n h 3 dX8_layPulled_69 rfl rfl ?_
        obtain ⟨z_16, hw, hf⟩ := ob1 hf
        have K70 : G X [(a, .inr (8, [.ref a_w, .int isImage, .ref a_tape, .int taped, .ref a_lane, .ref a_size, .ref a_items, .ref a_up, .ref a_down, .int above, .int below, .ref a_fell, .int fallen, .int torn, .int at_, .int start, .int number, .ref a_read, .ref a_comesUp, .ref a_comesDown, .ref a_held])), (a_w, .inl (X.E 1, 1142, .inl w)), (a_up, .inl (X.E 1, 8, .inl up)), (a_down, .inl (X.E 1, 8, .inl down))] [(0, .ref a), (1, .int x1), (2, .int x2), (3, .int z_4), (4, .int z_8), (5, .int z_12)] 0 0 85 [.int z_16] := by
          clear hw
          refine g_istore (lv' := [(6, .int z_16), (0, .ref a), (1, .int x1), (2, .int x2), (3, .int z_4), (4, .int z_8), (5, .int z_12)]) h dX8_layPulled_85 (hL 6 (fle rfl)) rfl ?_
          refine g_aload_n h 1 dX8_layPulled_87 rfl rfl ?_
          refine g_aload_n h 1 dX8_layPulled_88 rfl rfl ?_
          refine g_iload_n h 2 dX8_layPulled_89 rfl rfl ?_
          refine g_iload_n h 3 dX8_layPulled_90 rfl rfl ?_
          obtain ⟨r_18, hv, hf⟩ := ob1 hf
          refine g_callV (ci := 8) (q0 := 0) (n := 2) (As := [.int x1, .int x2]) (st := [.ref a]) (wr := [(a_up, .inl (X.E 1, 8, .inl up)), (a_down, .inl (X.E 1, 8, .inl down))]) (isC := [0, 1]) (isR := [2, 3]) h hR (ct_X8_holds (a := a) (a_w := a_w) (a_tape := a_tape) (a_lane := a_lane) (a_size := a_size) (a_items := a_items) (a_up := a_up) (a_down := a_down) (a_fell := a_fell) (a_read := a_read) (a_comesUp := a_comesUp) (a_comesDown := a_comesDown) (a_held := a_held) (x1 := x1) (x2 := x2) (isImage := isImage) (taped := taped) (above := above) (below := below) (fallen := fallen) (torn := torn) (at_ := at_) (start := start) (number := number) (w := w) hv) rfl rfl (lw_V q1284 q1286 qs37 q80 q1287) (by decide +kernel) rfl ⟨rfl, rfl, rfl, rfl, by decide⟩ ⟨fle rfl, fle rfl, fle rfl, fle rfl, fle rfl⟩ rfl dX8_layPulled_91 (pin (perm := [2, 3, 0, 1]) (ws' := [(a, .inr (8, [.ref a_w, .int isImage, .ref a_tape, .int taped, .ref a_lane, .ref a_size, .ref a_items, .ref a_up, .ref a_down, .int above, .int below, .ref a_fell, .int fallen, .int torn, .int at_, .int start, .int number, .ref a_read, .ref a_comesUp, .ref a_comesDown, .ref a_held])), (a_w, .inl (X.E 1, 1142, .inl w)), (a_up, .inl (X.E 1, 8, .inl up)), (a_down, .inl (X.E 1, 8, .inl down))]) (stk := [.int r_18, .ref a]) rfl rfl rfl ?_)
          clear hv
          obtain ⟨z_20, hw, hf⟩ := ob1 hf
          have K94 : G X [(a, .inr (8, [.ref a_w, .int isImage, .ref a_tape, .int taped, .ref a_lane, .ref a_size, .ref a_items, .ref a_up, .ref a_down, .int above, .int below, .ref a_fell, .int fallen, .int torn, .int at_, .int start, .int number, .ref a_read, .ref a_comesUp, .ref a_comesDown, .ref a_held])), (a_w, .inl (X.E 1, 1142, .inl w)), (a_up, .inl (X.E 1, 8, .inl up)), (a_down, .inl (X.E 1, 8, .inl down))] [(0, .ref a), (1, .int x1), (2, .int x2), (4, .int z_8), (6, .int z_16)] 0 0 111 [.int z_20, .ref a] := by
            clear hw
            refine g_put (ci := 8) (ty := tyX8 9) (ws' := [(a, .inr (8, [.ref a_w, .int isImage, .ref a_tape, .int taped, .ref a_lane, .ref a_size, .ref a_items, .ref a_up, .ref a_down, .int z_20, .int below, .ref a_fell, .int fallen, .int torn, .int at_, .int start, .int number, .ref a_read, .ref a_comesUp, .ref a_comesDown, .ref a_held])), (a_w, .inl (X.E 1, 1142, .inl w)), (a_up, .inl (X.E 1, 8, .inl up)), (a_down, .inl (X.E 1, 8, .inl down))]) h in_X8 tyX8 tyX8_ok nmX8 0 9 rfl rfl (fle rfl) ⟨rfl, rfl⟩ q1175 rfl rfl rfl (fle rfl) rfl dX8_layPulled_111 ?_
            refine g_aload_n h 0 dX8_layPulled_114 rfl rfl ?_
            refine g_aload_n h 0 dX8_layPulled_115 rfl rfl ?_
            refine g_iload_n h 1 dX8_layPulled_116 rfl rfl ?_
            refine g_iload_n h 2 dX8_layPulled_117 rfl rfl ?_
            obtain ⟨r_21, hv, hf⟩ := ob1 hf
            refine g_callV (ci := 8) (q0 := 0) (n := 2) (As := [.int x1, .int x2]) (st := [.ref a]) (wr := [(a_up, .inl (X.E 1, 8, .inl up)), (a_down, .inl (X.E 1, 8, .inl down))]) (isC := [0, 1]) (isR := [2, 3]) h hR (ct_X8_holds (a := a) (a_w := a_w) (a_tape := a_tape) (a_lane := a_lane) (a_size := a_size) (a_items := a_items) (a_up := a_up) (a_down := a_down) (a_fell := a_fell) (a_read := a_read) (a_comesUp := a_comesUp) (a_comesDown := a_comesDown) (a_held := a_held) (x1 := x1) (x2 := x2) (isImage := isImage) (taped := taped) (above := z_20) (below := below) (fallen := fallen) (torn := torn) (at_ := at_) (start := start) (number := number) (w := w) hv) rfl rfl (lw_V q1284 q1286 qs37 q80 q1287) (by decide +kernel) rfl ⟨rfl, rfl, rfl, rfl, by decide⟩ ⟨fle rfl, fle rfl, fle rfl, fle rfl, fle rfl⟩ rfl dX8_layPulled_118 (pin (perm := [2, 3, 0, 1]) (ws' := [(a, .inr (8, [.ref a_w, .int isImage, .ref a_tape, .int taped, .ref a_lane, .ref a_size, .ref a_items, .ref a_up, .ref a_down, .int z_20, .int below, .ref a_fell, .int fallen, .int torn, .int at_, .int start, .int number, .ref a_read, .ref a_comesUp, .ref a_comesDown, .ref a_held])), (a_w, .inl (X.E 1, 1142, .inl w)), (a_up, .inl (X.E 1, 8, .inl up)), (a_down, .inl (X.E 1, 8, .inl down))]) (stk := [.int r_21, .ref a]) rfl rfl rfl ?_)
            clear hv
            refine g_if_eq (tgt := 132) h dX8_layPulled_121 rfl hf (fun c22 hf => ?_) (fun c22 hf => ?_)
            · refine g_iconst (v := 1) h dX8_layPulled_132 kiconst_1 ?_
              refine g_put (ci := 8) (ty := tyX8 10) (ws' := [(a, .inr (8, [.ref a_w, .int isImage, .ref a_tape, .int taped, .ref a_lane, .ref a_size, .ref a_items, .ref a_up, .ref a_down, .int z_20, .int 1, .ref a_fell, .int fallen, .int torn, .int at_, .int start, .int number, .ref a_read, .ref a_comesUp, .ref a_comesDown, .ref a_held])), (a_w, .inl (X.E 1, 1142, .inl w)), (a_up, .inl (X.E 1, 8, .inl up)), (a_down, .inl (X.E 1, 8, .inl down))]) h in_X8 tyX8 tyX8_ok nmX8 0 10 rfl rfl (fle rfl) ⟨rfl, rfl⟩ q1176 rfl rfl rfl (fle rfl) rfl dX8_layPulled_133 ?_
              obtain ⟨rfl, rfl⟩ := sj2 hf
              exact g_vret h hF [0, 1, 2, 3] rfl rfl ⟨rfl, rfl⟩ (fle rfl) (fle rfl) dX8_layPulled_136
            · refine g_iload h 3 dX8_layPulled_124 rfl ?_
              refine g_iload h 4 dX8_layPulled_126 rfl ?_
              refine g_imul h dX8_layPulled_128 ?_
              refine g_goto (tgt := 133) h dX8_layPulled_129 rfl ?_
              refine g_put (ci := 8) (ty := tyX8 10) (ws' := [(a, .inr (8, [.ref a_w, .int isImage, .ref a_tape, .int taped, .ref a_lane, .ref a_size, .ref a_items, .ref a_up, .ref a_down, .int z_20, .int (z_8 * z_16), .ref a_fell, .int fallen, .int torn, .int at_, .int start, .int number, .ref a_read, .ref a_comesUp, .ref a_comesDown, .ref a_held])), (a_w, .inl (X.E 1, 1142, .inl w)), (a_up, .inl (X.E 1, 8, .inl up)), (a_down, .inl (X.E 1, 8, .inl down))]) h in_X8 tyX8 tyX8_ok nmX8 0 10 rfl rfl (fle rfl) ⟨rfl, rfl⟩ q1176 rfl rfl rfl (fle rfl) rfl dX8_layPulled_133 ?_
              obtain ⟨rfl, rfl⟩ := sj2 hf
              exact g_vret h hF [0, 1, 2, 3] rfl rfl ⟨rfl, rfl⟩ (fle rfl) (fle rfl) dX8_layPulled_136
          clear hf
          have hf := hw
          clear hw
          refine g_if_eq (tgt := 110) h dX8_layPulled_94 rfl hf (fun c19 hf => ?_) (fun c19 hf => ?_)
          · refine g_iconst (v := 0) h dX8_layPulled_110 kiconst_0 ?_
            obtain rfl := sj1 hf
            exact G.lsub [1, 2, 3, 5, 0] rfl K94
          · refine g_iload_n h 4 dX8_layPulled_97 rfl rfl ?_
            refine g_iload h 0 dX8_layPulled_98 rfl ?_
            refine g_imul h dX8_layPulled_100 ?_
            refine g_iload h 6 dX8_layPulled_101 rfl ?_
            refine g_iload h 5 dX8_layPulled_103 rfl ?_
            refine g_imul h dX8_layPulled_105 ?_
            refine g_isub h dX8_layPulled_106 ?_
            refine g_goto (tgt := 111) h dX8_layPulled_107 rfl ?_
            obtain rfl := sj1 hf
            exact G.lsub [1, 2, 3, 5, 0] rfl K94
        clear hf
        have hf := hw
        clear hw
        refine g_if_le (tgt := 84) h dX8_layPulled_70 rfl hf (fun c14 hf => ?_) (fun c14 hf => ?_)
        · refine g_iconst (v := 1) h dX8_layPulled_84 kiconst_1 ?_
          obtain rfl := sj1 hf
          exact G.lsub [1, 2, 3, 4, 5, 0] rfl K70
        · refine g_aload_n h 1 dX8_layPulled_73 rfl rfl ?_
          refine g_get (ci := 8) (v := .ref a_down) h in_X8 0 8 rfl rfl (fle rfl) rfl q1174 rfl dX8_layPulled_74 ?_
          refine g_iload_n h 3 dX8_layPulled_77 rfl rfl ?_
          refine g_iconst (v := 1) h dX8_layPulled_78 kiconst_1 ?_
          refine g_isub h dX8_layPulled_79 ?_
          obtain ⟨g17, hf⟩ := gn hf
          refine g_iaload h 3 rfl g17 dX8_layPulled_80 ?_
          refine g_goto (tgt := 85) h dX8_layPulled_81 rfl ?_
          obtain rfl := sj1 hf
          exact G.lsub [1, 2, 3, 4, 5, 0] rfl K70
      clear hf
      have hf := hw
      clear hw
      refine g_if_le (tgt := 66) h dX8_layPulled_52 rfl hf (fun c10 hf => ?_) (fun c10 hf => ?_)
      · refine g_iconst (v := 0) h dX8_layPulled_66 kiconst_0 ?_
        obtain rfl := sj1 hf
        exact G.lsub [1, 2, 3, 4, 0] rfl K52
      · refine g_aload_n h 1 dX8_layPulled_55 rfl rfl ?_
        refine g_get (ci := 8) (v := .ref a_up) h in_X8 0 7 rfl rfl (fle rfl) rfl q1173 rfl dX8_layPulled_56 ?_
        refine g_iload_n h 3 dX8_layPulled_59 rfl rfl ?_
        refine g_iconst (v := 1) h dX8_layPulled_60 kiconst_1 ?_
        refine g_isub h dX8_layPulled_61 ?_
        obtain ⟨g13, hf⟩ := gn hf
        refine g_iaload h 2 rfl g13 dX8_layPulled_62 ?_
        refine g_goto (tgt := 67) h dX8_layPulled_63 rfl ?_
        obtain rfl := sj1 hf
        exact G.lsub [1, 2, 3, 4, 0] rfl K52
    clear hf
    have hf := hw
    clear hw
    refine g_icmp_ge (tgt := 48) h dX8_layPulled_36 rfl hf (fun c6 hf => ?_) (fun c6 hf => ?_)
    · refine g_iconst (v := 1) h dX8_layPulled_48 kiconst_1 ?_
      obtain rfl := sj1 hf
      exact G.lsub [1, 2, 3, 0] rfl K36
    · refine g_aload_n h 1 dX8_layPulled_39 rfl rfl ?_
      refine g_get (ci := 8) (v := .ref a_down) h in_X8 0 8 rfl rfl (fle rfl) rfl q1174 rfl dX8_layPulled_40 ?_
      refine g_iload_n h 3 dX8_layPulled_43 rfl rfl ?_
      obtain ⟨g9, hf⟩ := gn hf
      refine g_iaload h 3 rfl g9 dX8_layPulled_44 ?_
      refine g_goto (tgt := 49) h dX8_layPulled_45 rfl ?_
      obtain rfl := sj1 hf
      exact G.lsub [1, 2, 3, 0] rfl K36
  clear hf
  have hf := hw
  clear hw
  refine g_icmp_ge (tgt := 23) h dX8_layPulled_11 rfl hf (fun c2 hf => ?_) (fun c2 hf => ?_)
  · refine g_iconst (v := 0) h dX8_layPulled_23 kiconst_0 ?_
    obtain rfl := sj1 hf
    exact G.lsub [0, 1, 2] rfl K11
  · refine g_aload_n h 0 dX8_layPulled_14 rfl rfl ?_
    refine g_get (ci := 8) (v := .ref a_up) h in_X8 0 7 rfl rfl (fle rfl) rfl q1173 rfl dX8_layPulled_15 ?_
    refine g_iload_n h 2 dX8_layPulled_18 rfl rfl ?_
    obtain ⟨g5, hf⟩ := gn hf
    refine g_iaload h 2 rfl g5 dX8_layPulled_19 ?_
    refine g_goto (tgt := 24) h dX8_layPulled_20 rfl ?_
    obtain rfl := sj1 hf
    exact G.lsub [0, 1, 2] rfl K11
set_option maxHeartbeats 4000000 in
set_option maxRecDepth 100000 in
theorem ct_X8_stout {l : Launch} {D : va_G} {E : Ety}  {x0 : Int32} {x1 : Int32} {r_ : Int32} (hf : f_X8_stout x0 x1 = some r_) : Ct l yX8_stout cX8_stout 2 (some .int) 1 25 0 0 D E [.int x0, .int x1] [] (Pn (some (.int r_)) []) := by
  refine ct_of (own := RX8) (plainFor_of_name (by decide)) rfl (fle rfl) rfl ?_
  intro X hl hD hE hnL hXF h hR hF hnm
  subst hl; subst hD; subst hE
  have hL : ∀ i, i < 2 → i < X.nL := fun i hi => by rw [hnL]; exact hi
  unfold f_X8_stout at hf
  refine g_iload_n h 1 dX8_stout_0 rfl rfl ?_
  refine g_i2l h dX8_stout_1 ?_
  refine g_ldc2 h q1319 dX8_stout_2 ?_
  refine g_ldc2 h q1320 dX8_stout_5 ?_
  obtain ⟨r_1, hv, hf⟩ := ob1 hf
  refine g_callS (n := 3) (As := [.long x1.toInt64, .long 7, .long 8]) (st := []) (wr := []) (isC := []) (isR := []) h hR (ct_X8_in (x0 := x1.toInt64) (x2 := 7) (x4 := 8) hv) (lw_S q1236 q1237 q80 q1238) (by decide +kernel) rfl ⟨rfl, rfl, rfl, rfl, by decide⟩ ⟨fle rfl, fle rfl, fle rfl, fle rfl, fle rfl⟩ rfl dX8_stout_8 (pin (perm := []) (ws' := []) (stk := [.int r_1]) rfl rfl rfl ?_)
  clear hv
  refine g_if_eq (tgt := 18) h dX8_stout_11 rfl hf (fun c2 hf => ?_) (fun c2 hf => ?_)
  · refine g_iconst (v := 2) h dX8_stout_18 kiconst_2 ?_
    refine g_iload_n h 0 dX8_stout_19 rfl rfl ?_
    refine g_imul h dX8_stout_20 ?_
    obtain rfl := sj1 hf
    exact g_iret h hF [] rfl rfl ⟨rfl, rfl⟩ (fle rfl) (fle rfl) dX8_stout_21
  · refine g_iload_n h 0 dX8_stout_14 rfl rfl ?_
    refine g_goto (tgt := 21) h dX8_stout_15 rfl ?_
    obtain rfl := sj1 hf
    exact g_iret h hF [] rfl rfl ⟨rfl, rfl⟩ (fle rfl) (fle rfl) dX8_stout_21
set_option maxHeartbeats 4000000 in
set_option maxRecDepth 100000 in
theorem ct_X8_parson {l : Launch} {D : va_G} {E : Ety}  {x0 : Int32} {x1 : Int32} {r_ : Int32} (hf : f_X8_parson x0 x1 = some r_) : Ct l yX8_parson cX8_parson 3 (some .int) 2 46 0 0 D E [.int x0, .int x1] [] (Pn (some (.int r_)) []) := by
  refine ct_of (own := RX8) (plainFor_of_name (by decide)) rfl (fle rfl) rfl ?_
  intro X hl hD hE hnL hXF h hR hF hnm
  subst hl; subst hD; subst hE
  have hL : ∀ i, i < 3 → i < X.nL := fun i hi => by rw [hnL]; exact hi
  unfold f_X8_parson at hf
  refine g_iload_n h 0 dX8_parson_0 rfl rfl ?_
  refine g_iload_n h 1 dX8_parson_1 rfl rfl ?_
  obtain ⟨r_1, hv, hf⟩ := ob1 hf
  refine g_callS (n := 2) (As := [.int x0, .int x1]) (st := []) (wr := []) (isC := []) (isR := []) h hR (ct_X8_stout (x0 := x0) (x1 := x1) hv) (lw_S q1316 q1317 q80 q1318) (by decide +kernel) rfl ⟨rfl, rfl, rfl, rfl, by decide⟩ ⟨fle rfl, fle rfl, fle rfl, fle rfl, fle rfl⟩ rfl dX8_parson_2 (pin (perm := []) (ws' := []) (stk := [.int r_1]) rfl rfl rfl ?_)
  clear hv
  refine g_istore_n (lv' := [(2, .int r_1), (0, .int x0), (1, .int x1)]) h dX8_parson_5 rfl (hL 2 (fle rfl)) rfl ?_
  refine g_iload_n h 2 dX8_parson_6 rfl rfl ?_
  refine g_i2l h dX8_parson_7 ?_
  refine g_ldc2 h q1324 dX8_parson_8 ?_
  refine g_ldc2 h q1325 dX8_parson_11 ?_
  obtain ⟨r_2, hv, hf⟩ := ob1 hf
  refine g_callS (n := 3) (As := [.long x1.toInt64, .long 9, .long 11]) (st := []) (wr := []) (isC := []) (isR := []) h hR (ct_X8_in (x0 := x1.toInt64) (x2 := 9) (x4 := 11) hv) (lw_S q1236 q1237 q80 q1238) (by decide +kernel) rfl ⟨rfl, rfl, rfl, rfl, by decide⟩ ⟨fle rfl, fle rfl, fle rfl, fle rfl, fle rfl⟩ rfl dX8_parson_14 (pin (perm := []) (ws' := []) (stk := [.int r_2]) rfl rfl rfl ?_)
  clear hv
  refine g_if_ne (tgt := 24) h dX8_parson_17 rfl hf (fun c3 hf => ?_) (fun c3 hf => ?_)
  · refine g_iload_n h 0 dX8_parson_20 rfl rfl ?_
    refine g_goto (tgt := 36) h dX8_parson_21 rfl ?_
    obtain rfl := sj1 hf
    exact g_iret h hF [] rfl rfl ⟨rfl, rfl⟩ (fle rfl) (fle rfl) dX8_parson_36
  · refine g_iload_n h 0 dX8_parson_24 rfl rfl ?_
    refine g_iconst (v := 2) h dX8_parson_25 kiconst_2 ?_
    refine g_icmp_ge (tgt := 33) h dX8_parson_26 rfl hf (fun c4 hf => ?_) (fun c4 hf => ?_)
    · refine g_iload_n h 0 dX8_parson_33 rfl rfl ?_
      refine g_iconst (v := 2) h dX8_parson_34 kiconst_2 ?_
      refine g_isub h dX8_parson_35 ?_
      obtain rfl := sj1 hf
      exact g_iret h hF [] rfl rfl ⟨rfl, rfl⟩ (fle rfl) (fle rfl) dX8_parson_36
    · refine g_iconst (v := 0) h dX8_parson_29 kiconst_0 ?_
      refine g_goto (tgt := 36) h dX8_parson_30 rfl ?_
      obtain rfl := sj1 hf
      exact g_iret h hF [] rfl rfl ⟨rfl, rfl⟩ (fle rfl) (fle rfl) dX8_parson_36
set_option maxHeartbeats 4000000 in
set_option maxRecDepth 100000 in
theorem ct_X8_outOf {l : Launch} {D : va_G} {E : Ety} {a a_w a_tape a_lane a_size a_items a_up a_down a_fell a_read a_comesUp a_comesDown a_held : Nat} {x1 : Int32} {x2 : Int32} {isImage : Int32} {taped : Int32} {above : Int32} {below : Int32} {fallen : Int32} {torn : Int32} {at_ : Int32} {start : Int32} {number : Int32} {w : Nat → Int32} {r_ : Int32} (hf : f_X8_outOf x1 x2 w = some r_) : Ct l yX8_outOf cX8_outOf 5 (some .int) 3 68 0 0 D E [.ref a, .int x1, .int x2] [(a, .inr (8, [.ref a_w, .int isImage, .ref a_tape, .int taped, .ref a_lane, .ref a_size, .ref a_items, .ref a_up, .ref a_down, .int above, .int below, .ref a_fell, .int fallen, .int torn, .int at_, .int start, .int number, .ref a_read, .ref a_comesUp, .ref a_comesDown, .ref a_held])), (a_w, .inl (E 1, 1142, .inl w))] (Pn (some (.int r_)) [(a, .inr (8, [.ref a_w, .int isImage, .ref a_tape, .int taped, .ref a_lane, .ref a_size, .ref a_items, .ref a_up, .ref a_down, .int above, .int below, .ref a_fell, .int fallen, .int torn, .int at_, .int start, .int number, .ref a_read, .ref a_comesUp, .ref a_comesDown, .ref a_held])), (a_w, .inl (E 1, 1142, .inl w))]) := by
  refine ct_of (own := RX8) (plainFor_of_name (by decide)) rfl (fle rfl) rfl ?_
  intro X hl hD hE hnL hXF h hR hF hnm
  subst hl; subst hD; subst hE
  have hL : ∀ i, i < 5 → i < X.nL := fun i hi => by rw [hnL]; exact hi
  unfold f_X8_outOf at hf
  refine g_aload_n h 0 dX8_outOf_0 rfl rfl ?_
  refine g_get (ci := 8) (v := .ref a_w) h in_X8 0 0 rfl rfl (fle rfl) rfl q1166 rfl dX8_outOf_1 ?_
  refine g_iload_n h 1 dX8_outOf_4 rfl rfl ?_
  refine g_bipush (v := 12) h dX8_outOf_5 kbipush_12 ?_
  refine g_iadd h dX8_outOf_7 ?_
  refine g_iload_n h 2 dX8_outOf_8 rfl rfl ?_
  refine g_iadd h dX8_outOf_9 ?_
  obtain ⟨g1, hf⟩ := gn hf
  refine g_iaload h 1 rfl g1 dX8_outOf_10 ?_
  refine g_istore_n (lv' := [(3, .int (w ((x1 + 12) + x2).toNatClampNeg)), (0, .ref a), (1, .int x1), (2, .int x2)]) h dX8_outOf_11 rfl (hL 3 (fle rfl)) rfl ?_
  refine g_aload_n h 1 dX8_outOf_12 rfl rfl ?_
  refine g_get (ci := 8) (v := .ref a_w) h in_X8 0 0 rfl rfl (fle rfl) rfl q1166 rfl dX8_outOf_13 ?_
  refine g_iload_n h 2 dX8_outOf_16 rfl rfl ?_
  refine g_iconst (v := 2) h dX8_outOf_17 kiconst_2 ?_
  refine g_iadd h dX8_outOf_18 ?_
  obtain ⟨g2, hf⟩ := gn hf
  refine g_iaload h 1 rfl g2 dX8_outOf_19 ?_
  refine g_istore (lv' := [(4, .int (w (x1 + 2).toNatClampNeg)), (3, .int (w ((x1 + 12) + x2).toNatClampNeg)), (0, .ref a), (1, .int x1), (2, .int x2)]) h dX8_outOf_20 (hL 4 (fle rfl)) rfl ?_
  refine g_aload_n h 2 dX8_outOf_22 rfl rfl ?_
  refine g_get (ci := 8) (v := .ref a_w) h in_X8 0 0 rfl rfl (fle rfl) rfl q1166 rfl dX8_outOf_23 ?_
  refine g_iload_n h 3 dX8_outOf_26 rfl rfl ?_
  refine g_iconst (v := 4) h dX8_outOf_27 kiconst_4 ?_
  refine g_iadd h dX8_outOf_28 ?_
  refine g_iload_n h 4 dX8_outOf_29 rfl rfl ?_
  refine g_iadd h dX8_outOf_30 ?_
  obtain ⟨g3, hf⟩ := gn hf
  refine g_iaload h 1 rfl g3 dX8_outOf_31 ?_
  refine hf_if hf (fun c4 hf => ?_) (fun c4 hf => ?_)
  · refine g_tabIn (c := 1) (tgt := 64) h dX8_outOf_32 c4 (by decide) (by decide) rfl rfl ?_
    refine g_iload_n h 1 dX8_outOf_64 rfl rfl ?_
    refine g_iload h 0 dX8_outOf_65 rfl ?_
    obtain ⟨r_5, hv, hf⟩ := ob1 hf
    refine g_callS (n := 2) (As := [.int (w ((x1 + 12) + x2).toNatClampNeg), .int (w (x1 + 2).toNatClampNeg)]) (st := []) (wr := [(a, .inr (8, [.ref a_w, .int isImage, .ref a_tape, .int taped, .ref a_lane, .ref a_size, .ref a_items, .ref a_up, .ref a_down, .int above, .int below, .ref a_fell, .int fallen, .int torn, .int at_, .int start, .int number, .ref a_read, .ref a_comesUp, .ref a_comesDown, .ref a_held])), (a_w, .inl (X.E 1, 1142, .inl w))]) (isC := []) (isR := [0, 1]) h hR (ct_X8_stout (x0 := (w ((x1 + 12) + x2).toNatClampNeg)) (x1 := (w (x1 + 2).toNatClampNeg)) hv) (lw_S q1316 q1317 q80 q1318) (by decide +kernel) rfl ⟨rfl, rfl, rfl, rfl, by decide⟩ ⟨fle rfl, fle rfl, fle rfl, fle rfl, fle rfl⟩ rfl dX8_outOf_67 (pin (perm := [0, 1]) (ws' := [(a, .inr (8, [.ref a_w, .int isImage, .ref a_tape, .int taped, .ref a_lane, .ref a_size, .ref a_items, .ref a_up, .ref a_down, .int above, .int below, .ref a_fell, .int fallen, .int torn, .int at_, .int start, .int number, .ref a_read, .ref a_comesUp, .ref a_comesDown, .ref a_held])), (a_w, .inl (X.E 1, 1142, .inl w))]) (stk := [.int r_5]) rfl rfl rfl ?_)
    clear hv
    obtain rfl := sj1 hf
    exact g_iret h hF [0, 1] rfl rfl ⟨rfl, rfl⟩ (fle rfl) (fle rfl) dX8_outOf_70
  · refine hf_if hf (fun c6 hf => ?_) (fun c6 hf => ?_)
    · refine g_tabIn (c := 2) (tgt := 71) h dX8_outOf_32 c6 (by decide) (by decide) rfl rfl ?_
      refine g_iload_n h 1 dX8_outOf_71 rfl rfl ?_
      refine g_iload h 0 dX8_outOf_72 rfl ?_
      obtain ⟨r_7, hv, hf⟩ := ob1 hf
      refine g_callS (n := 2) (As := [.int (w ((x1 + 12) + x2).toNatClampNeg), .int (w (x1 + 2).toNatClampNeg)]) (st := []) (wr := [(a, .inr (8, [.ref a_w, .int isImage, .ref a_tape, .int taped, .ref a_lane, .ref a_size, .ref a_items, .ref a_up, .ref a_down, .int above, .int below, .ref a_fell, .int fallen, .int torn, .int at_, .int start, .int number, .ref a_read, .ref a_comesUp, .ref a_comesDown, .ref a_held])), (a_w, .inl (X.E 1, 1142, .inl w))]) (isC := []) (isR := [0, 1]) h hR (ct_X8_parson (x0 := (w ((x1 + 12) + x2).toNatClampNeg)) (x1 := (w (x1 + 2).toNatClampNeg)) hv) (lw_S q1321 q1322 q80 q1323) (by decide +kernel) rfl ⟨rfl, rfl, rfl, rfl, by decide⟩ ⟨fle rfl, fle rfl, fle rfl, fle rfl, fle rfl⟩ rfl dX8_outOf_74 (pin (perm := [0, 1]) (ws' := [(a, .inr (8, [.ref a_w, .int isImage, .ref a_tape, .int taped, .ref a_lane, .ref a_size, .ref a_items, .ref a_up, .ref a_down, .int above, .int below, .ref a_fell, .int fallen, .int torn, .int at_, .int start, .int number, .ref a_read, .ref a_comesUp, .ref a_comesDown, .ref a_held])), (a_w, .inl (X.E 1, 1142, .inl w))]) (stk := [.int r_7]) rfl rfl rfl ?_)
      clear hv
      obtain rfl := sj1 hf
      exact g_iret h hF [0, 1] rfl rfl ⟨rfl, rfl⟩ (fle rfl) (fle rfl) dX8_outOf_77
    · refine hf_if hf (fun c8 hf => ?_) (fun c8 hf => ?_)
      · refine g_tabIn (c := 3) (tgt := 78) h dX8_outOf_32 c8 (by decide) (by decide) rfl rfl ?_
        refine g_iload h 0 dX8_outOf_78 rfl ?_
        refine g_i2l h dX8_outOf_80 ?_
        refine g_ldc2 h q1326 dX8_outOf_81 ?_
        refine g_ldc2 h q1327 dX8_outOf_84 ?_
        obtain ⟨r_9, hv, hf⟩ := ob1 hf
        refine g_callS (n := 3) (As := [.long ((w (x1 + 2).toNatClampNeg).toInt64), .long 15, .long 16]) (st := []) (wr := [(a, .inr (8, [.ref a_w, .int isImage, .ref a_tape, .int taped, .ref a_lane, .ref a_size, .ref a_items, .ref a_up, .ref a_down, .int above, .int below, .ref a_fell, .int fallen, .int torn, .int at_, .int start, .int number, .ref a_read, .ref a_comesUp, .ref a_comesDown, .ref a_held])), (a_w, .inl (X.E 1, 1142, .inl w))]) (isC := []) (isR := [0, 1]) h hR (ct_X8_in (x0 := (w (x1 + 2).toNatClampNeg).toInt64) (x2 := 15) (x4 := 16) hv) (lw_S q1236 q1237 q80 q1238) (by decide +kernel) rfl ⟨rfl, rfl, rfl, rfl, by decide⟩ ⟨fle rfl, fle rfl, fle rfl, fle rfl, fle rfl⟩ rfl dX8_outOf_87 (pin (perm := [0, 1]) (ws' := [(a, .inr (8, [.ref a_w, .int isImage, .ref a_tape, .int taped, .ref a_lane, .ref a_size, .ref a_items, .ref a_up, .ref a_down, .int above, .int below, .ref a_fell, .int fallen, .int torn, .int at_, .int start, .int number, .ref a_read, .ref a_comesUp, .ref a_comesDown, .ref a_held])), (a_w, .inl (X.E 1, 1142, .inl w))]) (stk := [.int r_9]) rfl rfl rfl ?_)
        clear hv
        refine g_if_eq (tgt := 97) h dX8_outOf_90 rfl hf (fun c10 hf => ?_) (fun c10 hf => ?_)
        · refine g_iload_n h 1 dX8_outOf_97 rfl rfl ?_
          refine g_iload h 0 dX8_outOf_98 rfl ?_
          obtain ⟨r_11, hv, hf⟩ := ob1 hf
          refine g_callS (n := 2) (As := [.int (w ((x1 + 12) + x2).toNatClampNeg), .int (w (x1 + 2).toNatClampNeg)]) (st := []) (wr := [(a, .inr (8, [.ref a_w, .int isImage, .ref a_tape, .int taped, .ref a_lane, .ref a_size, .ref a_items, .ref a_up, .ref a_down, .int above, .int below, .ref a_fell, .int fallen, .int torn, .int at_, .int start, .int number, .ref a_read, .ref a_comesUp, .ref a_comesDown, .ref a_held])), (a_w, .inl (X.E 1, 1142, .inl w))]) (isC := []) (isR := [0, 1]) h hR (ct_X8_parson (x0 := (w ((x1 + 12) + x2).toNatClampNeg)) (x1 := (w (x1 + 2).toNatClampNeg)) hv) (lw_S q1321 q1322 q80 q1323) (by decide +kernel) rfl ⟨rfl, rfl, rfl, rfl, by decide⟩ ⟨fle rfl, fle rfl, fle rfl, fle rfl, fle rfl⟩ rfl dX8_outOf_100 (pin (perm := [0, 1]) (ws' := [(a, .inr (8, [.ref a_w, .int isImage, .ref a_tape, .int taped, .ref a_lane, .ref a_size, .ref a_items, .ref a_up, .ref a_down, .int above, .int below, .ref a_fell, .int fallen, .int torn, .int at_, .int start, .int number, .ref a_read, .ref a_comesUp, .ref a_comesDown, .ref a_held])), (a_w, .inl (X.E 1, 1142, .inl w))]) (stk := [.int r_11]) rfl rfl rfl ?_)
          clear hv
          obtain rfl := sj1 hf
          exact g_iret h hF [0, 1] rfl rfl ⟨rfl, rfl⟩ (fle rfl) (fle rfl) dX8_outOf_103
        · refine g_iconst (v := 0) h dX8_outOf_93 kiconst_0 ?_
          refine g_goto (tgt := 103) h dX8_outOf_94 rfl ?_
          obtain rfl := sj1 hf
          exact g_iret h hF [0, 1] rfl rfl ⟨rfl, rfl⟩ (fle rfl) (fle rfl) dX8_outOf_103
      · refine hf_if hf (fun c12 hf => ?_) (fun c12 hf => ?_)
        · refine g_tabIn (c := 4) (tgt := 104) h dX8_outOf_32 c12 (by decide) (by decide) rfl rfl ?_
          refine g_iload_n h 1 dX8_outOf_104 rfl rfl ?_
          refine g_iload_n h 4 dX8_outOf_105 rfl rfl ?_
          obtain ⟨z_16, hw, hf⟩ := ob1 hf
          have K106 : G X [(a, .inr (8, [.ref a_w, .int isImage, .ref a_tape, .int taped, .ref a_lane, .ref a_size, .ref a_items, .ref a_up, .ref a_down, .int above, .int below, .ref a_fell, .int fallen, .int torn, .int at_, .int start, .int number, .ref a_read, .ref a_comesUp, .ref a_comesDown, .ref a_held])), (a_w, .inl (X.E 1, 1142, .inl w))] [(0, .ref a), (1, .int x1), (2, .int x2)] 0 0 125 [.int z_16, .int (w ((x1 + 12) + x2).toNatClampNeg)] := by
            clear hw
            refine g_iadd h dX8_outOf_125 ?_
            refine g_iload_n h 2 dX8_outOf_126 rfl rfl ?_
            refine g_iconst (v := 1) h dX8_outOf_127 kiconst_1 ?_
            refine g_iadd h dX8_outOf_128 ?_
            refine g_aload_n h 0 dX8_outOf_129 rfl rfl ?_
            refine g_get (ci := 8) (v := .ref a_w) h in_X8 0 0 rfl rfl (fle rfl) rfl q1166 rfl dX8_outOf_130 ?_
            refine g_iload_n h 1 dX8_outOf_133 rfl rfl ?_
            refine g_iconst (v := 0) h dX8_outOf_134 kiconst_0 ?_
            refine g_iadd h dX8_outOf_135 ?_
            obtain ⟨g19, hf⟩ := gn hf
            refine g_iaload h 1 rfl g19 dX8_outOf_136 ?_
            refine g_icmp_ge (tgt := 155) h dX8_outOf_137 rfl hf (fun c20 hf => ?_) (fun c20 hf => ?_)
            · refine g_iconst (v := 0) h dX8_outOf_155 kiconst_0 ?_
              refine g_iadd h dX8_outOf_156 ?_
              obtain rfl := sj1 hf
              exact g_iret h hF [0, 1] rfl rfl ⟨rfl, rfl⟩ (fle rfl) (fle rfl) dX8_outOf_157
            · refine g_aload_n h 0 dX8_outOf_140 rfl rfl ?_
              refine g_iload_n h 1 dX8_outOf_141 rfl rfl ?_
              refine g_iload_n h 2 dX8_outOf_142 rfl rfl ?_
              refine g_iconst (v := 1) h dX8_outOf_143 kiconst_1 ?_
              refine g_iadd h dX8_outOf_144 ?_
              obtain ⟨r_21, hv, hf⟩ := ob1 hf
              refine g_callV (ci := 8) (q0 := 0) (n := 2) (As := [.int x1, .int (x2 + 1)]) (st := [.int ((w ((x1 + 12) + x2).toNatClampNeg) + z_16)]) (wr := []) (isC := [0, 1]) (isR := []) h hR (ct_X8_holds (a := a) (a_w := a_w) (a_tape := a_tape) (a_lane := a_lane) (a_size := a_size) (a_items := a_items) (a_up := a_up) (a_down := a_down) (a_fell := a_fell) (a_read := a_read) (a_comesUp := a_comesUp) (a_comesDown := a_comesDown) (a_held := a_held) (x1 := x1) (x2 := (x2 + 1)) (isImage := isImage) (taped := taped) (above := above) (below := below) (fallen := fallen) (torn := torn) (at_ := at_) (start := start) (number := number) (w := w) hv) rfl rfl (lw_V q1284 q1286 qs37 q80 q1287) (by decide +kernel) rfl ⟨rfl, rfl, rfl, rfl, by decide⟩ ⟨fle rfl, fle rfl, fle rfl, fle rfl, fle rfl⟩ rfl dX8_outOf_145 (pin (perm := [0, 1]) (ws' := [(a, .inr (8, [.ref a_w, .int isImage, .ref a_tape, .int taped, .ref a_lane, .ref a_size, .ref a_items, .ref a_up, .ref a_down, .int above, .int below, .ref a_fell, .int fallen, .int torn, .int at_, .int start, .int number, .ref a_read, .ref a_comesUp, .ref a_comesDown, .ref a_held])), (a_w, .inl (X.E 1, 1142, .inl w))]) (stk := [.int r_21, .int ((w ((x1 + 12) + x2).toNatClampNeg) + z_16)]) rfl rfl rfl ?_)
              clear hv
              refine g_if_ne (tgt := 155) h dX8_outOf_148 rfl hf (fun c22 hf => ?_) (fun c22 hf => ?_)
              · refine g_iconst (v := 1) h dX8_outOf_151 kiconst_1 ?_
                refine g_goto (tgt := 156) h dX8_outOf_152 rfl ?_
                refine g_iadd h dX8_outOf_156 ?_
                obtain rfl := sj1 hf
                exact g_iret h hF [0, 1] rfl rfl ⟨rfl, rfl⟩ (fle rfl) (fle rfl) dX8_outOf_157
              · refine g_iconst (v := 0) h dX8_outOf_155 kiconst_0 ?_
                refine g_iadd h dX8_outOf_156 ?_
                obtain rfl := sj1 hf
                exact g_iret h hF [0, 1] rfl rfl ⟨rfl, rfl⟩ (fle rfl) (fle rfl) dX8_outOf_157
          clear hf
          have hf := hw
          clear hw
          refine g_if_le (tgt := 124) h dX8_outOf_106 rfl hf (fun c13 hf => ?_) (fun c13 hf => ?_)
          · refine g_iconst (v := 0) h dX8_outOf_124 kiconst_0 ?_
            obtain rfl := sj1 hf
            exact G.lsub [2, 3, 4] rfl K106
          · refine g_aload_n h 2 dX8_outOf_109 rfl rfl ?_
            refine g_iload_n h 3 dX8_outOf_110 rfl rfl ?_
            refine g_iload_n h 4 dX8_outOf_111 rfl rfl ?_
            refine g_iconst (v := 1) h dX8_outOf_112 kiconst_1 ?_
            refine g_isub h dX8_outOf_113 ?_
            obtain ⟨r_17, hv, hf⟩ := ob1 hf
            refine g_callV (ci := 8) (q0 := 0) (n := 2) (As := [.int x1, .int (x2 - 1)]) (st := [.int (w ((x1 + 12) + x2).toNatClampNeg)]) (wr := []) (isC := [0, 1]) (isR := []) h hR (ct_X8_holds (a := a) (a_w := a_w) (a_tape := a_tape) (a_lane := a_lane) (a_size := a_size) (a_items := a_items) (a_up := a_up) (a_down := a_down) (a_fell := a_fell) (a_read := a_read) (a_comesUp := a_comesUp) (a_comesDown := a_comesDown) (a_held := a_held) (x1 := x1) (x2 := (x2 - 1)) (isImage := isImage) (taped := taped) (above := above) (below := below) (fallen := fallen) (torn := torn) (at_ := at_) (start := start) (number := number) (w := w) hv) rfl rfl (lw_V q1284 q1286 qs37 q80 q1287) (by decide +kernel) rfl ⟨rfl, rfl, rfl, rfl, by decide⟩ ⟨fle rfl, fle rfl, fle rfl, fle rfl, fle rfl⟩ rfl dX8_outOf_114 (pin (perm := [0, 1]) (ws' := [(a, .inr (8, [.ref a_w, .int isImage, .ref a_tape, .int taped, .ref a_lane, .ref a_size, .ref a_items, .ref a_up, .ref a_down, .int above, .int below, .ref a_fell, .int fallen, .int torn, .int at_, .int start, .int number, .ref a_read, .ref a_comesUp, .ref a_comesDown, .ref a_held])), (a_w, .inl (X.E 1, 1142, .inl w))]) (stk := [.int r_17, .int (w ((x1 + 12) + x2).toNatClampNeg)]) rfl rfl rfl ?_)
            clear hv
            refine g_if_ne (tgt := 124) h dX8_outOf_117 rfl hf (fun c18 hf => ?_) (fun c18 hf => ?_)
            · refine g_iconst (v := 1) h dX8_outOf_120 kiconst_1 ?_
              refine g_goto (tgt := 125) h dX8_outOf_121 rfl ?_
              obtain rfl := sj1 hf
              exact G.lsub [2, 3, 4] rfl K106
            · refine g_iconst (v := 0) h dX8_outOf_124 kiconst_0 ?_
              obtain rfl := sj1 hf
              exact G.lsub [2, 3, 4] rfl K106
        · refine g_tabOut (tgt := 158) h dX8_outOf_32 (tab_out 1 4 (by decide) (by intro c z1 z2; rcases (show c = 1 ∨ c = 2 ∨ c = 3 ∨ c = 4 by omega) with rfl | rfl | rfl | rfl <;> assumption)) rfl ?_
          refine g_iload_n h 1 dX8_outOf_158 rfl rfl ?_
          obtain rfl := sj1 hf
          exact g_iret h hF [0, 1] rfl rfl ⟨rfl, rfl⟩ (fle rfl) (fle rfl) dX8_outOf_159
set_option maxHeartbeats 4000000 in
set_option maxRecDepth 100000 in
theorem ct_X8_isPulledOff {l : Launch} {D : va_G} {E : Ety} {a a_w a_tape a_lane a_size a_items a_up a_down a_fell a_read a_comesUp a_comesDown a_held : Nat} {x1 : Int32} {x2 : Int32} {isImage : Int32} {taped : Int32} {above : Int32} {below : Int32} {fallen : Int32} {torn : Int32} {at_ : Int32} {start : Int32} {number : Int32} {w : Nat → Int32} {up : Nat → Int32} {down : Nat → Int32} {r_ : Int32} {o_above : Int32} {o_below : Int32} (hf : f_X8_isPulledOff x1 x2 w up down = some (r_, o_above, o_below)) : Ct l yX8_isPulledOff cX8_isPulledOff 4 (some .boolean) 4 92 0 0 D E [.ref a, .int x1, .int x2] [(a, .inr (8, [.ref a_w, .int isImage, .ref a_tape, .int taped, .ref a_lane, .ref a_size, .ref a_items, .ref a_up, .ref a_down, .int above, .int below, .ref a_fell, .int fallen, .int torn, .int at_, .int start, .int number, .ref a_read, .ref a_comesUp, .ref a_comesDown, .ref a_held])), (a_w, .inl (E 1, 1142, .inl w)), (a_up, .inl (E 1, 8, .inl up)), (a_down, .inl (E 1, 8, .inl down))] (Pn (some (.int r_)) [(a, .inr (8, [.ref a_w, .int isImage, .ref a_tape, .int taped, .ref a_lane, .ref a_size, .ref a_items, .ref a_up, .ref a_down, .int o_above, .int o_below, .ref a_fell, .int fallen, .int torn, .int at_, .int start, .int number, .ref a_read, .ref a_comesUp, .ref a_comesDown, .ref a_held])), (a_w, .inl (E 1, 1142, .inl w)), (a_up, .inl (E 1, 8, .inl up)), (a_down, .inl (E 1, 8, .inl down))]) := by
  refine ct_of (own := RX8) (plainFor_of_name (by decide)) rfl (fle rfl) rfl ?_
  intro X hl hD hE hnL hXF h hR hF hnm
  subst hl; subst hD; subst hE
  have hL : ∀ i, i < 4 → i < X.nL := fun i hi => by rw [hnL]; exact hi
  unfold f_X8_isPulledOff at hf
  refine g_aload_n h 0 dX8_isPulledOff_0 rfl rfl ?_
  refine g_iload_n h 1 dX8_isPulledOff_1 rfl rfl ?_
  refine g_iload_n h 2 dX8_isPulledOff_2 rfl rfl ?_
  obtain ⟨above_1, below_2, hv, hf⟩ := ob2 hf
  refine g_callV (ci := 8) (q0 := 0) (n := 2) (As := [.int x1, .int x2]) (st := []) (wr := []) (isC := [0, 1, 2, 3]) (isR := []) h hR (ct_X8_layPulled (a := a) (a_w := a_w) (a_tape := a_tape) (a_lane := a_lane) (a_size := a_size) (a_items := a_items) (a_up := a_up) (a_down := a_down) (a_fell := a_fell) (a_read := a_read) (a_comesUp := a_comesUp) (a_comesDown := a_comesDown) (a_held := a_held) (x1 := x1) (x2 := x2) (isImage := isImage) (taped := taped) (above := above) (below := below) (fallen := fallen) (torn := torn) (at_ := at_) (start := start) (number := number) (w := w) (up := up) (down := down) hv) rfl rfl (lw_V q1308 q1310 qs43 q80 q1311) (by decide +kernel) rfl ⟨rfl, rfl, rfl, rfl, by decide⟩ ⟨fle rfl, fle rfl, fle rfl, fle rfl, fle rfl⟩ rfl dX8_isPulledOff_3 (pin (perm := [0, 1, 2, 3]) (ws' := [(a, .inr (8, [.ref a_w, .int isImage, .ref a_tape, .int taped, .ref a_lane, .ref a_size, .ref a_items, .ref a_up, .ref a_down, .int above_1, .int below_2, .ref a_fell, .int fallen, .int torn, .int at_, .int start, .int number, .ref a_read, .ref a_comesUp, .ref a_comesDown, .ref a_held])), (a_w, .inl (X.E 1, 1142, .inl w)), (a_up, .inl (X.E 1, 8, .inl up)), (a_down, .inl (X.E 1, 8, .inl down))]) (stk := []) rfl rfl rfl ?_)
  clear hv
  refine g_aload_n h 0 dX8_isPulledOff_6 rfl rfl ?_
  refine g_get (ci := 8) (v := .int above_1) h in_X8 0 9 rfl rfl (fle rfl) rfl q1175 rfl dX8_isPulledOff_7 ?_
  obtain ⟨z_4, hw, hf⟩ := ob1 hf
  have K10 : G X [(a, .inr (8, [.ref a_w, .int isImage, .ref a_tape, .int taped, .ref a_lane, .ref a_size, .ref a_items, .ref a_up, .ref a_down, .int above_1, .int below_2, .ref a_fell, .int fallen, .int torn, .int at_, .int start, .int number, .ref a_read, .ref a_comesUp, .ref a_comesDown, .ref a_held])), (a_w, .inl (X.E 1, 1142, .inl w)), (a_up, .inl (X.E 1, 8, .inl up)), (a_down, .inl (X.E 1, 8, .inl down))] [(0, .ref a), (1, .int x1), (2, .int x2)] 0 0 25 [.int z_4] := by
    clear hw
    refine g_istore_n (lv' := [(3, .int z_4), (0, .ref a), (1, .int x1), (2, .int x2)]) h dX8_isPulledOff_25 rfl (hL 3 (fle rfl)) rfl ?_
    refine g_aload_n h 1 dX8_isPulledOff_26 rfl rfl ?_
    refine g_iload_n h 2 dX8_isPulledOff_27 rfl rfl ?_
    refine g_iload_n h 3 dX8_isPulledOff_28 rfl rfl ?_
    obtain ⟨r_5, hv, hf⟩ := ob1 hf
    refine g_callV (ci := 8) (q0 := 0) (n := 2) (As := [.int x1, .int x2]) (st := []) (wr := [(a_up, .inl (X.E 1, 8, .inl up)), (a_down, .inl (X.E 1, 8, .inl down))]) (isC := [0, 1]) (isR := [2, 3]) h hR (ct_X8_holds (a := a) (a_w := a_w) (a_tape := a_tape) (a_lane := a_lane) (a_size := a_size) (a_items := a_items) (a_up := a_up) (a_down := a_down) (a_fell := a_fell) (a_read := a_read) (a_comesUp := a_comesUp) (a_comesDown := a_comesDown) (a_held := a_held) (x1 := x1) (x2 := x2) (isImage := isImage) (taped := taped) (above := above_1) (below := below_2) (fallen := fallen) (torn := torn) (at_ := at_) (start := start) (number := number) (w := w) hv) rfl rfl (lw_V q1284 q1286 qs37 q80 q1287) (by decide +kernel) rfl ⟨rfl, rfl, rfl, rfl, by decide⟩ ⟨fle rfl, fle rfl, fle rfl, fle rfl, fle rfl⟩ rfl dX8_isPulledOff_29 (pin (perm := [2, 3, 0, 1]) (ws' := [(a, .inr (8, [.ref a_w, .int isImage, .ref a_tape, .int taped, .ref a_lane, .ref a_size, .ref a_items, .ref a_up, .ref a_down, .int above_1, .int below_2, .ref a_fell, .int fallen, .int torn, .int at_, .int start, .int number, .ref a_read, .ref a_comesUp, .ref a_comesDown, .ref a_held])), (a_w, .inl (X.E 1, 1142, .inl w)), (a_up, .inl (X.E 1, 8, .inl up)), (a_down, .inl (X.E 1, 8, .inl down))]) (stk := [.int r_5]) rfl rfl rfl ?_)
    clear hv
    refine g_if_eq (tgt := 54) h dX8_isPulledOff_32 rfl hf (fun c6 hf => ?_) (fun c6 hf => ?_)
    · refine g_iconst (v := 0) h dX8_isPulledOff_54 kiconst_0 ?_
      obtain ⟨rfl, rfl, rfl⟩ := sj3 hf
      exact g_zret h hF rfl [0, 1, 2, 3] rfl rfl ⟨rfl, rfl⟩ (fle rfl) (fle rfl) dX8_isPulledOff_55
    · refine g_iload_n h 0 dX8_isPulledOff_35 rfl rfl ?_
      refine g_aload_n h 1 dX8_isPulledOff_36 rfl rfl ?_
      refine g_iload_n h 2 dX8_isPulledOff_37 rfl rfl ?_
      refine g_iload_n h 3 dX8_isPulledOff_38 rfl rfl ?_
      obtain ⟨r_7, hv, hf⟩ := ob1 hf
      refine g_callV (ci := 8) (q0 := 0) (n := 2) (As := [.int x1, .int x2]) (st := [.int z_4]) (wr := [(a_up, .inl (X.E 1, 8, .inl up)), (a_down, .inl (X.E 1, 8, .inl down))]) (isC := [0, 1]) (isR := [2, 3]) h hR (ct_X8_outOf (a := a) (a_w := a_w) (a_tape := a_tape) (a_lane := a_lane) (a_size := a_size) (a_items := a_items) (a_up := a_up) (a_down := a_down) (a_fell := a_fell) (a_read := a_read) (a_comesUp := a_comesUp) (a_comesDown := a_comesDown) (a_held := a_held) (x1 := x1) (x2 := x2) (isImage := isImage) (taped := taped) (above := above_1) (below := below_2) (fallen := fallen) (torn := torn) (at_ := at_) (start := start) (number := number) (w := w) hv) rfl rfl (lw_V q1312 q1314 qs44 q80 q1315) (by decide +kernel) rfl ⟨rfl, rfl, rfl, rfl, by decide⟩ ⟨fle rfl, fle rfl, fle rfl, fle rfl, fle rfl⟩ rfl dX8_isPulledOff_39 (pin (perm := [2, 3, 0, 1]) (ws' := [(a, .inr (8, [.ref a_w, .int isImage, .ref a_tape, .int taped, .ref a_lane, .ref a_size, .ref a_items, .ref a_up, .ref a_down, .int above_1, .int below_2, .ref a_fell, .int fallen, .int torn, .int at_, .int start, .int number, .ref a_read, .ref a_comesUp, .ref a_comesDown, .ref a_held])), (a_w, .inl (X.E 1, 1142, .inl w)), (a_up, .inl (X.E 1, 8, .inl up)), (a_down, .inl (X.E 1, 8, .inl down))]) (stk := [.int r_7, .int z_4]) rfl rfl rfl ?_)
      clear hv
      refine g_aload_n h 1 dX8_isPulledOff_42 rfl rfl ?_
      refine g_get (ci := 8) (v := .int below_2) h in_X8 0 10 rfl rfl (fle rfl) rfl q1176 rfl dX8_isPulledOff_43 ?_
      refine g_imul h dX8_isPulledOff_46 ?_
      refine g_icmp_le (tgt := 54) h dX8_isPulledOff_47 rfl hf (fun c8 hf => ?_) (fun c8 hf => ?_)
      · refine g_iconst (v := 0) h dX8_isPulledOff_54 kiconst_0 ?_
        obtain ⟨rfl, rfl, rfl⟩ := sj3 hf
        exact g_zret h hF rfl [0, 1, 2, 3] rfl rfl ⟨rfl, rfl⟩ (fle rfl) (fle rfl) dX8_isPulledOff_55
      · refine g_iconst (v := 1) h dX8_isPulledOff_50 kiconst_1 ?_
        refine g_goto (tgt := 55) h dX8_isPulledOff_51 rfl ?_
        obtain ⟨rfl, rfl, rfl⟩ := sj3 hf
        exact g_zret h hF rfl [0, 1, 2, 3] rfl rfl ⟨rfl, rfl⟩ (fle rfl) (fle rfl) dX8_isPulledOff_55
  clear hf
  have hf := hw
  clear hw
  refine g_if_ge (tgt := 21) h dX8_isPulledOff_10 rfl hf (fun c3 hf => ?_) (fun c3 hf => ?_)
  · refine g_aload_n h 0 dX8_isPulledOff_21 rfl rfl ?_
    refine g_get (ci := 8) (v := .int above_1) h in_X8 0 9 rfl rfl (fle rfl) rfl q1175 rfl dX8_isPulledOff_22 ?_
    obtain rfl := sj1 hf
    exact G.lsub [0, 1, 2] rfl K10
  · refine g_aload_n h 0 dX8_isPulledOff_13 rfl rfl ?_
    refine g_get (ci := 8) (v := .int above_1) h in_X8 0 9 rfl rfl (fle rfl) rfl q1175 rfl dX8_isPulledOff_14 ?_
    refine g_ineg h dX8_isPulledOff_17 ?_
    refine g_goto (tgt := 25) h dX8_isPulledOff_18 rfl ?_
    obtain rfl := sj1 hf
    exact G.lsub [0, 1, 2] rfl K10
set_option maxHeartbeats 4000000 in
set_option maxRecDepth 100000 in
theorem w_X8_settles_L60 {X : Cx} {a a_comesDown a_comesUp a_down a_fell a_held a_items a_lane a_read a_size a_tape a_up a_w : Nat} {x1 : Int32} {isImage : Int32} {taped : Int32} {torn : Int32} {at_ : Int32} {start : Int32} {number : Int32} {up : Nat → Int32} {down : Nat → Int32} {ce sl : Nat} (h : Ok X cX8_settles RX8) (hR : Rm X 5 115 0 0) (hL : ∀ i, i < 5 → i < X.nL) (hce : ce ≤ 0) (hsl : sl ≤ 0) : ∀ (n0 : Nat) (x2 : Int32) (x4 : Int32) (above : Int32) (below : Int32) (fallen : Int32) (w : Nat → Int32) (fell : Nat → Int32) {o_x2 : Int32} {o_above : Int32} {o_below : Int32} {o_fallen : Int32} {o_w : Nat → Int32} {o_fell : Nat → Int32}, f_X8_settles_L60 x1 up down n0 x2 x4 above below fallen w fell = some (o_x2, o_above, o_below, o_fallen, o_w, o_fell) → (G X [(a, .inr (8, [.ref a_w, .int isImage, .ref a_tape, .int taped, .ref a_lane, .ref a_size, .ref a_items, .ref a_up, .ref a_down, .int o_above, .int o_below, .ref a_fell, .int o_fallen, .int torn, .int at_, .int start, .int number, .ref a_read, .ref a_comesUp, .ref a_comesDown, .ref a_held])), (a_w, .inl (X.E 1, 1142, .inl o_w)), (a_up, .inl (X.E 1, 8, .inl up)), (a_down, .inl (X.E 1, 8, .inl down)), (a_fell, .inl (X.E 1, 8, .inl o_fell))] [(0, .ref a), (1, .int x1), (2, .int o_x2)] ce sl 129 []) → G X [(a, .inr (8, [.ref a_w, .int isImage, .ref a_tape, .int taped, .ref a_lane, .ref a_size, .ref a_items, .ref a_up, .ref a_down, .int above, .int below, .ref a_fell, .int fallen, .int torn, .int at_, .int start, .int number, .ref a_read, .ref a_comesUp, .ref a_comesDown, .ref a_held])), (a_w, .inl (X.E 1, 1142, .inl w)), (a_up, .inl (X.E 1, 8, .inl up)), (a_down, .inl (X.E 1, 8, .inl down)), (a_fell, .inl (X.E 1, 8, .inl fell))] [(0, .ref a), (1, .int x1), (2, .int x2), (4, .int x4)] ce sl 60 [] := by
  intro n0
  induction n0 with
  | zero => intro x2 x4 above below fallen w fell o_x2 o_above o_below o_fallen o_w o_fell hf; exact nomatch (show (none : Option _) = some _ from hf)
  | succ n0 ih =>
    intro x2 x4 above below fallen w fell o_x2 o_above o_below o_fallen o_w o_fell hf k0
    replace hf : t_X8_settles_L60 x1 up down (f_X8_settles_L60 x1 up down n0) x2 x4 above below fallen w fell = some (o_x2, o_above, o_below, o_fallen, o_w, o_fell) := hf
    unfold t_X8_settles_L60 at hf
    refine g_iload h 3 dX8_settles_60 rfl ?_
    refine g_aload_n h 0 dX8_settles_62 rfl rfl ?_
    refine g_get (ci := 8) (v := .ref a_w) h in_X8 0 0 rfl rfl (fle rfl) rfl q1166 rfl dX8_settles_63 ?_
    refine g_iload_n h 1 dX8_settles_66 rfl rfl ?_
    refine g_iconst (v := 0) h dX8_settles_67 kiconst_0 ?_
    refine g_iadd h dX8_settles_68 ?_
    obtain ⟨g12, hf⟩ := gn hf
    refine g_iaload h 1 rfl g12 dX8_settles_69 ?_
    refine g_icmp_ge (tgt := 129) h dX8_settles_70 rfl hf (fun c13 hf => ?_) (fun c13 hf => ?_)
    · obtain ⟨rfl, rfl, rfl, rfl, rfl, rfl⟩ := sj6 hf
      exact G.lsub [0, 1, 2] rfl k0
    · refine g_iload_n h 2 dX8_settles_73 rfl rfl ?_
      refine g_if_ne (tgt := 129) h dX8_settles_74 rfl hf (fun c14 hf => ?_) (fun c14 hf => ?_)
      · refine g_aload_n h 0 dX8_settles_77 rfl rfl ?_
        refine g_iload_n h 1 dX8_settles_78 rfl rfl ?_
        refine g_iload h 3 dX8_settles_79 rfl ?_
        obtain ⟨r_15, above_16, below_17, hv, hf⟩ := ob3 hf
        refine g_callV (ci := 8) (q0 := 0) (n := 2) (As := [.int x1, .int x4]) (st := []) (wr := [(a_fell, .inl (X.E 1, 8, .inl fell))]) (isC := [0, 1, 2, 3]) (isR := [4]) h hR (ct_X8_isPulledOff (a := a) (a_w := a_w) (a_tape := a_tape) (a_lane := a_lane) (a_size := a_size) (a_items := a_items) (a_up := a_up) (a_down := a_down) (a_fell := a_fell) (a_read := a_read) (a_comesUp := a_comesUp) (a_comesDown := a_comesDown) (a_held := a_held) (x1 := x1) (x2 := x4) (isImage := isImage) (taped := taped) (above := above) (below := below) (fallen := fallen) (torn := torn) (at_ := at_) (start := start) (number := number) (w := w) (up := up) (down := down) hv) rfl rfl (lw_V q1304 q1306 qs42 q80 q1307) (by decide +kernel) rfl ⟨rfl, rfl, rfl, rfl, by decide⟩ ⟨hce, hsl, fle rfl, fle rfl, fle rfl⟩ rfl dX8_settles_81 (pin (perm := [1, 2, 3, 4, 0]) (ws' := [(a, .inr (8, [.ref a_w, .int isImage, .ref a_tape, .int taped, .ref a_lane, .ref a_size, .ref a_items, .ref a_up, .ref a_down, .int above_16, .int below_17, .ref a_fell, .int fallen, .int torn, .int at_, .int start, .int number, .ref a_read, .ref a_comesUp, .ref a_comesDown, .ref a_held])), (a_w, .inl (X.E 1, 1142, .inl w)), (a_up, .inl (X.E 1, 8, .inl up)), (a_down, .inl (X.E 1, 8, .inl down)), (a_fell, .inl (X.E 1, 8, .inl fell))]) (stk := [.int r_15]) rfl rfl rfl ?_)
        clear hv
        refine g_if_eq (tgt := 123) h dX8_settles_84 rfl hf (fun c18 hf => ?_) (fun c18 hf => ?_)
        · refine g_iinc (j := 3) (v := (x4 + 1)) (lv' := [(4, .int (x4 + 1)), (0, .ref a), (1, .int x1), (2, .int x2)]) h dX8_settles_123 rfl (kinc_1 _) (hL 4 (fle rfl)) rfl ?_
          refine g_goto (tgt := 60) h dX8_settles_126 rfl ?_
          exact G.lsub [1, 2, 3, 0] rfl (ih _ _ _ _ _ _ _ hf k0)
        · refine g_aload_n h 0 dX8_settles_87 rfl rfl ?_
          refine g_get (ci := 8) (v := .ref a_w) h in_X8 0 0 rfl rfl (fle rfl) rfl q1166 rfl dX8_settles_88 ?_
          refine g_iload_n h 1 dX8_settles_91 rfl rfl ?_
          refine g_bipush (v := 20) h dX8_settles_92 kbipush_20 ?_
          refine g_iadd h dX8_settles_94 ?_
          refine g_iload h 3 dX8_settles_95 rfl ?_
          refine g_iadd h dX8_settles_97 ?_
          refine g_iconst (v := 0) h dX8_settles_98 kiconst_0 ?_
          obtain ⟨g19, hf⟩ := gn hf
          refine g_iastore (ws' := [(a, .inr (8, [.ref a_w, .int isImage, .ref a_tape, .int taped, .ref a_lane, .ref a_size, .ref a_items, .ref a_up, .ref a_down, .int above_16, .int below_17, .ref a_fell, .int fallen, .int torn, .int at_, .int start, .int number, .ref a_read, .ref a_comesUp, .ref a_comesDown, .ref a_held])), (a_w, .inl (X.E 1, 1142, .inl (upd w ((x1 + 20) + x4).toNatClampNeg 0))), (a_up, .inl (X.E 1, 8, .inl up)), (a_down, .inl (X.E 1, 8, .inl down)), (a_fell, .inl (X.E 1, 8, .inl fell))]) h 1 rfl g19 rfl dX8_settles_99 ?_
          refine g_aload_n h 0 dX8_settles_100 rfl rfl ?_
          refine g_get (ci := 8) (v := .ref a_fell) h in_X8 0 11 rfl rfl (fle rfl) rfl q1177 rfl dX8_settles_101 ?_
          refine g_aload_n h 0 dX8_settles_104 rfl rfl ?_
          refine g_get (ci := 8) (v := .int fallen) h in_X8 0 12 rfl rfl (fle rfl) rfl q1178 rfl dX8_settles_105 ?_
          refine g_iload h 3 dX8_settles_108 rfl ?_
          obtain ⟨g20, hf⟩ := gn hf
          refine g_iastore (ws' := [(a, .inr (8, [.ref a_w, .int isImage, .ref a_tape, .int taped, .ref a_lane, .ref a_size, .ref a_items, .ref a_up, .ref a_down, .int above_16, .int below_17, .ref a_fell, .int fallen, .int torn, .int at_, .int start, .int number, .ref a_read, .ref a_comesUp, .ref a_comesDown, .ref a_held])), (a_w, .inl (X.E 1, 1142, .inl (upd w ((x1 + 20) + x4).toNatClampNeg 0))), (a_up, .inl (X.E 1, 8, .inl up)), (a_down, .inl (X.E 1, 8, .inl down)), (a_fell, .inl (X.E 1, 8, .inl (upd fell fallen.toNatClampNeg x4)))]) h 4 rfl g20 rfl dX8_settles_110 ?_
          refine g_aload_n h 0 dX8_settles_111 rfl rfl ?_
          refine g_dup h dX8_settles_112 rfl ?_
          refine g_get (ci := 8) (v := .int fallen) h in_X8 0 12 rfl rfl (fle rfl) rfl q1178 rfl dX8_settles_113 ?_
          refine g_iconst (v := 1) h dX8_settles_116 kiconst_1 ?_
          refine g_iadd h dX8_settles_117 ?_
          refine g_put (ci := 8) (ty := tyX8 12) (ws' := [(a, .inr (8, [.ref a_w, .int isImage, .ref a_tape, .int taped, .ref a_lane, .ref a_size, .ref a_items, .ref a_up, .ref a_down, .int above_16, .int below_17, .ref a_fell, .int (fallen + 1), .int torn, .int at_, .int start, .int number, .ref a_read, .ref a_comesUp, .ref a_comesDown, .ref a_held])), (a_w, .inl (X.E 1, 1142, .inl (upd w ((x1 + 20) + x4).toNatClampNeg 0))), (a_up, .inl (X.E 1, 8, .inl up)), (a_down, .inl (X.E 1, 8, .inl down)), (a_fell, .inl (X.E 1, 8, .inl (upd fell fallen.toNatClampNeg x4)))]) h in_X8 tyX8 tyX8_ok nmX8 0 12 rfl rfl (fle rfl) ⟨rfl, rfl⟩ q1178 rfl rfl rfl (fle rfl) rfl dX8_settles_118 ?_
          refine g_iconst (v := 1) h dX8_settles_121 kiconst_1 ?_
          refine g_istore_n (lv' := [(2, .int 1), (0, .ref a), (1, .int x1), (4, .int x4)]) h dX8_settles_122 rfl (hL 2 (fle rfl)) rfl ?_
          refine g_iinc (j := 3) (v := (x4 + 1)) (lv' := [(4, .int (x4 + 1)), (2, .int 1), (0, .ref a), (1, .int x1)]) h dX8_settles_123 rfl (kinc_1 _) (hL 4 (fle rfl)) rfl ?_
          refine g_goto (tgt := 60) h dX8_settles_126 rfl ?_
          exact G.lsub [2, 3, 1, 0] rfl (ih _ _ _ _ _ _ _ hf k0)
      · obtain ⟨rfl, rfl, rfl, rfl, rfl, rfl⟩ := sj6 hf
        exact G.lsub [0, 1, 2] rfl k0
set_option maxHeartbeats 4000000 in
set_option maxRecDepth 100000 in
theorem w_X8_settles_L12 {X : Cx} {a a_comesDown a_comesUp a_down a_fell a_held a_items a_lane a_read a_size a_tape a_up a_w : Nat} {x1 : Int32} {isImage : Int32} {taped : Int32} {at_ : Int32} {start : Int32} {number : Int32} {ce sl : Nat} (h : Ok X cX8_settles RX8) (hR : Rm X 5 115 0 0) (hL : ∀ i, i < 5 → i < X.nL) (hce : ce ≤ 0) (hsl : sl ≤ 0) : ∀ (n0 : Nat) (x2 : Int32) (above : Int32) (below : Int32) (fallen : Int32) (torn : Int32) (w : Nat → Int32) (up : Nat → Int32) (down : Nat → Int32) (fell : Nat → Int32) {o_above : Int32} {o_below : Int32} {o_fallen : Int32} {o_torn : Int32} {o_w : Nat → Int32} {o_up : Nat → Int32} {o_down : Nat → Int32} {o_fell : Nat → Int32}, f_X8_settles_L12 x1 n0 x2 above below fallen torn w up down fell = some (o_above, o_below, o_fallen, o_torn, o_w, o_up, o_down, o_fell) → (G X [(a, .inr (8, [.ref a_w, .int isImage, .ref a_tape, .int taped, .ref a_lane, .ref a_size, .ref a_items, .ref a_up, .ref a_down, .int o_above, .int o_below, .ref a_fell, .int o_fallen, .int o_torn, .int at_, .int start, .int number, .ref a_read, .ref a_comesUp, .ref a_comesDown, .ref a_held])), (a_w, .inl (X.E 1, 1142, .inl o_w)), (a_up, .inl (X.E 1, 8, .inl o_up)), (a_down, .inl (X.E 1, 8, .inl o_down)), (a_fell, .inl (X.E 1, 8, .inl o_fell))] [] ce sl 132 []) → G X [(a, .inr (8, [.ref a_w, .int isImage, .ref a_tape, .int taped, .ref a_lane, .ref a_size, .ref a_items, .ref a_up, .ref a_down, .int above, .int below, .ref a_fell, .int fallen, .int torn, .int at_, .int start, .int number, .ref a_read, .ref a_comesUp, .ref a_comesDown, .ref a_held])), (a_w, .inl (X.E 1, 1142, .inl w)), (a_up, .inl (X.E 1, 8, .inl up)), (a_down, .inl (X.E 1, 8, .inl down)), (a_fell, .inl (X.E 1, 8, .inl fell))] [(0, .ref a), (1, .int x1), (2, .int x2)] ce sl 12 [] := by
  intro n0
  induction n0 with
  | zero => intro x2 above below fallen torn w up down fell o_above o_below o_fallen o_torn o_w o_up o_down o_fell hf; exact nomatch (show (none : Option _) = some _ from hf)
  | succ n0 ih =>
    intro x2 above below fallen torn w up down fell o_above o_below o_fallen o_torn o_w o_up o_down o_fell hf k0
    replace hf : t_X8_settles_L12 x1 (f_X8_settles_L12 x1 n0) x2 above below fallen torn w up down fell = some (o_above, o_below, o_fallen, o_torn, o_w, o_up, o_down, o_fell) := hf
    unfold t_X8_settles_L12 at hf
    refine g_iload_n h 2 dX8_settles_12 rfl rfl ?_
    refine g_if_eq (tgt := 132) h dX8_settles_13 rfl hf (fun c1 hf => ?_) (fun c1 hf => ?_)
    · obtain ⟨rfl, rfl, rfl, rfl, rfl, rfl, rfl, rfl⟩ := sj8 hf
      exact G.lsub [] rfl k0
    · refine g_aload_n h 0 dX8_settles_16 rfl rfl ?_
      refine g_iload_n h 1 dX8_settles_17 rfl rfl ?_
      obtain ⟨up_2, down_3, hv, hf⟩ := ob2 hf
      refine g_callV (ci := 8) (q0 := 0) (n := 1) (As := [.int x1]) (st := []) (wr := [(a_fell, .inl (X.E 1, 8, .inl fell))]) (isC := [0, 1, 2, 3]) (isR := [4]) h hR (ct_X8_layPulls (a := a) (a_w := a_w) (a_tape := a_tape) (a_lane := a_lane) (a_size := a_size) (a_items := a_items) (a_up := a_up) (a_down := a_down) (a_fell := a_fell) (a_read := a_read) (a_comesUp := a_comesUp) (a_comesDown := a_comesDown) (a_held := a_held) (x1 := x1) (isImage := isImage) (taped := taped) (above := above) (below := below) (fallen := fallen) (torn := torn) (at_ := at_) (start := start) (number := number) (w := w) (up := up) (down := down) hv) rfl rfl (lw_V q1280 q1282 qs36 q80 q1283) (by decide +kernel) rfl ⟨rfl, rfl, rfl, rfl, by decide⟩ ⟨hce, hsl, fle rfl, fle rfl, fle rfl⟩ rfl dX8_settles_18 (pin (perm := [1, 2, 3, 4, 0]) (ws' := [(a, .inr (8, [.ref a_w, .int isImage, .ref a_tape, .int taped, .ref a_lane, .ref a_size, .ref a_items, .ref a_up, .ref a_down, .int above, .int below, .ref a_fell, .int fallen, .int torn, .int at_, .int start, .int number, .ref a_read, .ref a_comesUp, .ref a_comesDown, .ref a_held])), (a_w, .inl (X.E 1, 1142, .inl w)), (a_up, .inl (X.E 1, 8, .inl up_2)), (a_down, .inl (X.E 1, 8, .inl down_3)), (a_fell, .inl (X.E 1, 8, .inl fell))]) (stk := []) rfl rfl rfl ?_)
      clear hv
      refine g_aload_n h 0 dX8_settles_21 rfl rfl ?_
      refine g_iload_n h 1 dX8_settles_22 rfl rfl ?_
      obtain ⟨r_4, hv, hf⟩ := ob1 hf
      refine g_callV (ci := 8) (q0 := 0) (n := 1) (As := [.int x1]) (st := []) (wr := [(a_fell, .inl (X.E 1, 8, .inl fell))]) (isC := [0, 1, 2, 3]) (isR := [4]) h hR (ct_X8_tornSeam (a := a) (a_w := a_w) (a_tape := a_tape) (a_lane := a_lane) (a_size := a_size) (a_items := a_items) (a_up := a_up) (a_down := a_down) (a_fell := a_fell) (a_read := a_read) (a_comesUp := a_comesUp) (a_comesDown := a_comesDown) (a_held := a_held) (x1 := x1) (isImage := isImage) (taped := taped) (above := above) (below := below) (fallen := fallen) (torn := torn) (at_ := at_) (start := start) (number := number) (w := w) (up := up_2) (down := down_3) hv) rfl rfl (lw_V q1296 q1298 qs40 q80 q1299) (by decide +kernel) rfl ⟨rfl, rfl, rfl, rfl, by decide⟩ ⟨hce, hsl, fle rfl, fle rfl, fle rfl⟩ rfl dX8_settles_23 (pin (perm := [1, 2, 3, 4, 0]) (ws' := [(a, .inr (8, [.ref a_w, .int isImage, .ref a_tape, .int taped, .ref a_lane, .ref a_size, .ref a_items, .ref a_up, .ref a_down, .int above, .int below, .ref a_fell, .int fallen, .int torn, .int at_, .int start, .int number, .ref a_read, .ref a_comesUp, .ref a_comesDown, .ref a_held])), (a_w, .inl (X.E 1, 1142, .inl w)), (a_up, .inl (X.E 1, 8, .inl up_2)), (a_down, .inl (X.E 1, 8, .inl down_3)), (a_fell, .inl (X.E 1, 8, .inl fell))]) (stk := [.int r_4]) rfl rfl rfl ?_)
      clear hv
      refine g_istore_n (lv' := [(3, .int r_4), (0, .ref a), (1, .int x1), (2, .int x2)]) h dX8_settles_26 rfl (hL 3 (fle rfl)) rfl ?_
      refine g_iload_n h 0 dX8_settles_27 rfl rfl ?_
      obtain ⟨z_6, hw, hf⟩ := ob1 hf
      have K28 : G X [(a, .inr (8, [.ref a_w, .int isImage, .ref a_tape, .int taped, .ref a_lane, .ref a_size, .ref a_items, .ref a_up, .ref a_down, .int above, .int below, .ref a_fell, .int fallen, .int torn, .int at_, .int start, .int number, .ref a_read, .ref a_comesUp, .ref a_comesDown, .ref a_held])), (a_w, .inl (X.E 1, 1142, .inl w)), (a_up, .inl (X.E 1, 8, .inl up_2)), (a_down, .inl (X.E 1, 8, .inl down_3)), (a_fell, .inl (X.E 1, 8, .inl fell))] [(0, .ref a), (1, .int x1), (3, .int r_4)] ce sl 36 [.int z_6] := by
        clear hw
        refine g_istore_n (lv' := [(2, .int z_6), (0, .ref a), (1, .int x1), (3, .int r_4)]) h dX8_settles_36 rfl (hL 2 (fle rfl)) rfl ?_
        refine g_iload_n h 0 dX8_settles_37 rfl rfl ?_
        obtain ⟨torn_9, w_10, hw, hf⟩ := ob2 hf
        have K38 : G X [(a, .inr (8, [.ref a_w, .int isImage, .ref a_tape, .int taped, .ref a_lane, .ref a_size, .ref a_items, .ref a_up, .ref a_down, .int above, .int below, .ref a_fell, .int fallen, .int torn_9, .int at_, .int start, .int number, .ref a_read, .ref a_comesUp, .ref a_comesDown, .ref a_held])), (a_w, .inl (X.E 1, 1142, .inl w_10)), (a_up, .inl (X.E 1, 8, .inl up_2)), (a_down, .inl (X.E 1, 8, .inl down_3)), (a_fell, .inl (X.E 1, 8, .inl fell))] [(0, .ref a), (1, .int x1), (2, .int z_6)] ce sl 57 [] := by
          clear hw
          refine g_iconst (v := 0) h dX8_settles_57 kiconst_0 ?_
          refine g_istore (lv' := [(4, .int 0), (0, .ref a), (1, .int x1), (2, .int z_6)]) h dX8_settles_58 (hL 4 (fle rfl)) rfl ?_
          refine G.lsub (lv' := [(0, .ref a), (1, .int x1), (2, .int z_6), (4, .int 0)]) [1, 2, 3, 0] rfl ?_
          obtain ⟨x2_21, above_22, below_23, fallen_24, w_25, fell_26, hv, hf⟩ := ob6 hf
          refine w_X8_settles_L60 (x1 := x1) (isImage := isImage) (taped := taped) (torn := torn_9) (at_ := at_) (start := start) (number := number) (up := up_2) (down := down_3) h hR hL hce hsl FU _ _ _ _ _ _ _ hv ?_
          · clear hv
            refine g_goto (tgt := 12) h dX8_settles_129 rfl ?_
            exact G.lsub [0, 1, 2] rfl (ih _ _ _ _ _ _ _ _ _ hf k0)
        clear hf
        have hf := hw
        clear hw
        refine g_if_eq (tgt := 57) h dX8_settles_38 rfl hf (fun c7 hf => ?_) (fun c7 hf => ?_)
        · obtain ⟨rfl, rfl⟩ := sj2 hf
          exact G.lsub [1, 2, 0] rfl K38
        · refine g_aload_n h 1 dX8_settles_41 rfl rfl ?_
          refine g_iload_n h 2 dX8_settles_42 rfl rfl ?_
          refine g_iload_n h 3 dX8_settles_43 rfl rfl ?_
          obtain ⟨w_11, hv, hf⟩ := ob1 hf
          refine g_callV (ci := 8) (q0 := 0) (n := 2) (As := [.int x1, .int r_4]) (st := []) (wr := [(a_up, .inl (X.E 1, 8, .inl up_2)), (a_down, .inl (X.E 1, 8, .inl down_3)), (a_fell, .inl (X.E 1, 8, .inl fell))]) (isC := [0, 1]) (isR := [2, 3, 4]) h hR (ct_X8_cuts (a := a) (a_w := a_w) (a_tape := a_tape) (a_lane := a_lane) (a_size := a_size) (a_items := a_items) (a_up := a_up) (a_down := a_down) (a_fell := a_fell) (a_read := a_read) (a_comesUp := a_comesUp) (a_comesDown := a_comesDown) (a_held := a_held) (x1 := x1) (x2 := r_4) (isImage := isImage) (taped := taped) (above := above) (below := below) (fallen := fallen) (torn := torn) (at_ := at_) (start := start) (number := number) (w := w) hv) rfl rfl (lw_V q1300 q1302 qs41 q80 q1303) (by decide +kernel) rfl ⟨rfl, rfl, rfl, rfl, by decide⟩ ⟨hce, hsl, fle rfl, fle rfl, fle rfl⟩ rfl dX8_settles_44 (pin (perm := [3, 4, 0, 1, 2]) (ws' := [(a, .inr (8, [.ref a_w, .int isImage, .ref a_tape, .int taped, .ref a_lane, .ref a_size, .ref a_items, .ref a_up, .ref a_down, .int above, .int below, .ref a_fell, .int fallen, .int torn, .int at_, .int start, .int number, .ref a_read, .ref a_comesUp, .ref a_comesDown, .ref a_held])), (a_w, .inl (X.E 1, 1142, .inl w_11)), (a_up, .inl (X.E 1, 8, .inl up_2)), (a_down, .inl (X.E 1, 8, .inl down_3)), (a_fell, .inl (X.E 1, 8, .inl fell))]) (stk := []) rfl rfl rfl ?_)
          clear hv
          refine g_aload_n h 1 dX8_settles_47 rfl rfl ?_
          refine g_dup h dX8_settles_48 rfl ?_
          refine g_get (ci := 8) (v := .int torn) h in_X8 0 13 rfl rfl (fle rfl) rfl q1179 rfl dX8_settles_49 ?_
          refine g_iconst (v := 1) h dX8_settles_52 kiconst_1 ?_
          refine g_iadd h dX8_settles_53 ?_
          refine g_put (ci := 8) (ty := tyX8 13) (ws' := [(a, .inr (8, [.ref a_w, .int isImage, .ref a_tape, .int taped, .ref a_lane, .ref a_size, .ref a_items, .ref a_up, .ref a_down, .int above, .int below, .ref a_fell, .int fallen, .int (torn + 1), .int at_, .int start, .int number, .ref a_read, .ref a_comesUp, .ref a_comesDown, .ref a_held])), (a_w, .inl (X.E 1, 1142, .inl w_11)), (a_up, .inl (X.E 1, 8, .inl up_2)), (a_down, .inl (X.E 1, 8, .inl down_3)), (a_fell, .inl (X.E 1, 8, .inl fell))]) h in_X8 tyX8 tyX8_ok nmX8 0 13 rfl rfl (fle rfl) ⟨rfl, rfl⟩ q1179 rfl rfl rfl (fle rfl) rfl dX8_settles_54 ?_
          obtain ⟨rfl, rfl⟩ := sj2 hf
          exact G.lsub [1, 2, 0] rfl K38
      clear hf
      have hf := hw
      clear hw
      refine g_if_lt (tgt := 35) h dX8_settles_28 rfl hf (fun c5 hf => ?_) (fun c5 hf => ?_)
      · refine g_iconst (v := 0) h dX8_settles_35 kiconst_0 ?_
        obtain rfl := sj1 hf
        exact G.lsub [1, 2, 0] rfl K28
      · refine g_iconst (v := 1) h dX8_settles_31 kiconst_1 ?_
        refine g_goto (tgt := 36) h dX8_settles_32 rfl ?_
        obtain rfl := sj1 hf
        exact G.lsub [1, 2, 0] rfl K28
set_option maxHeartbeats 4000000 in
set_option maxRecDepth 100000 in
theorem ct_X8_settles {l : Launch} {D : va_G} {E : Ety} {a a_w a_tape a_lane a_size a_items a_up a_down a_fell a_read a_comesUp a_comesDown a_held : Nat} {x1 : Int32} {isImage : Int32} {taped : Int32} {above : Int32} {below : Int32} {fallen : Int32} {torn : Int32} {at_ : Int32} {start : Int32} {number : Int32} {w : Nat → Int32} {up : Nat → Int32} {down : Nat → Int32} {fell : Nat → Int32} {o_above : Int32} {o_below : Int32} {o_fallen : Int32} {o_torn : Int32} {o_w : Nat → Int32} {o_up : Nat → Int32} {o_down : Nat → Int32} {o_fell : Nat → Int32} (hf : f_X8_settles x1 above below w up down fell = some (o_above, o_below, o_fallen, o_torn, o_w, o_up, o_down, o_fell)) : Ct l yX8_settles cX8_settles 5 none 5 115 0 0 D E [.ref a, .int x1] [(a, .inr (8, [.ref a_w, .int isImage, .ref a_tape, .int taped, .ref a_lane, .ref a_size, .ref a_items, .ref a_up, .ref a_down, .int above, .int below, .ref a_fell, .int fallen, .int torn, .int at_, .int start, .int number, .ref a_read, .ref a_comesUp, .ref a_comesDown, .ref a_held])), (a_w, .inl (E 1, 1142, .inl w)), (a_up, .inl (E 1, 8, .inl up)), (a_down, .inl (E 1, 8, .inl down)), (a_fell, .inl (E 1, 8, .inl fell))] (Pn none [(a, .inr (8, [.ref a_w, .int isImage, .ref a_tape, .int taped, .ref a_lane, .ref a_size, .ref a_items, .ref a_up, .ref a_down, .int o_above, .int o_below, .ref a_fell, .int o_fallen, .int o_torn, .int at_, .int start, .int number, .ref a_read, .ref a_comesUp, .ref a_comesDown, .ref a_held])), (a_w, .inl (E 1, 1142, .inl o_w)), (a_up, .inl (E 1, 8, .inl o_up)), (a_down, .inl (E 1, 8, .inl o_down)), (a_fell, .inl (E 1, 8, .inl o_fell))]) := by
  refine ct_of (own := RX8) (plainFor_of_name (by decide)) rfl (fle rfl) rfl ?_
  intro X hl hD hE hnL hXF h hR hF hnm
  subst hl; subst hD; subst hE
  have hL : ∀ i, i < 5 → i < X.nL := fun i hi => by rw [hnL]; exact hi
  unfold f_X8_settles at hf
  refine g_aload_n h 0 dX8_settles_0 rfl rfl ?_
  refine g_iconst (v := 0) h dX8_settles_1 kiconst_0 ?_
  refine g_put (ci := 8) (ty := tyX8 12) (ws' := [(a, .inr (8, [.ref a_w, .int isImage, .ref a_tape, .int taped, .ref a_lane, .ref a_size, .ref a_items, .ref a_up, .ref a_down, .int above, .int below, .ref a_fell, .int 0, .int torn, .int at_, .int start, .int number, .ref a_read, .ref a_comesUp, .ref a_comesDown, .ref a_held])), (a_w, .inl (X.E 1, 1142, .inl w)), (a_up, .inl (X.E 1, 8, .inl up)), (a_down, .inl (X.E 1, 8, .inl down)), (a_fell, .inl (X.E 1, 8, .inl fell))]) h in_X8 tyX8 tyX8_ok nmX8 0 12 rfl rfl (fle rfl) ⟨rfl, rfl⟩ q1178 rfl rfl rfl (fle rfl) rfl dX8_settles_2 ?_
  refine g_aload_n h 0 dX8_settles_5 rfl rfl ?_
  refine g_iconst (v := 0) h dX8_settles_6 kiconst_0 ?_
  refine g_put (ci := 8) (ty := tyX8 13) (ws' := [(a, .inr (8, [.ref a_w, .int isImage, .ref a_tape, .int taped, .ref a_lane, .ref a_size, .ref a_items, .ref a_up, .ref a_down, .int above, .int below, .ref a_fell, .int 0, .int 0, .int at_, .int start, .int number, .ref a_read, .ref a_comesUp, .ref a_comesDown, .ref a_held])), (a_w, .inl (X.E 1, 1142, .inl w)), (a_up, .inl (X.E 1, 8, .inl up)), (a_down, .inl (X.E 1, 8, .inl down)), (a_fell, .inl (X.E 1, 8, .inl fell))]) h in_X8 tyX8 tyX8_ok nmX8 0 13 rfl rfl (fle rfl) ⟨rfl, rfl⟩ q1179 rfl rfl rfl (fle rfl) rfl dX8_settles_7 ?_
  refine g_iconst (v := 1) h dX8_settles_10 kiconst_1 ?_
  refine g_istore_n (lv' := [(2, .int 1), (0, .ref a), (1, .int x1)]) h dX8_settles_11 rfl (hL 2 (fle rfl)) rfl ?_
  refine G.lsub (lv' := [(0, .ref a), (1, .int x1), (2, .int 1)]) [1, 2, 0] rfl ?_
  obtain ⟨above_27, below_28, fallen_29, torn_30, w_31, up_32, down_33, fell_34, hv, hf⟩ := ob8 hf
  refine w_X8_settles_L12 (x1 := x1) (isImage := isImage) (taped := taped) (at_ := at_) (start := start) (number := number) h hR hL (fle rfl) (fle rfl) FU _ _ _ _ _ _ _ _ _ hv ?_
  · clear hv
    obtain ⟨rfl, rfl, rfl, rfl, rfl, rfl, rfl, rfl⟩ := sj8 hf
    exact g_vret h hF [0, 1, 2, 3, 4] rfl rfl ⟨rfl, rfl⟩ (fle rfl) (fle rfl) dX8_settles_132
set_option maxHeartbeats 4000000 in
set_option maxRecDepth 100000 in
theorem w_X8_street_L44 {X : Cx} {a a_comesDown a_comesUp a_down a_fell a_held a_items a_lane a_read a_size a_tape a_up a_w : Nat} {isImage : Int32} {taped : Int32} {above : Int32} {below : Int32} {fallen : Int32} {torn : Int32} {at_ : Int32} {start : Int32} {number : Int32} {tape : Nat → Int32} {up : Nat → Int32} {down : Nat → Int32} {fell : Nat → Int32} {read : Nat → Int32} {ce sl : Nat} (h : Ok X cX8_street RX8) (hR : Rm X 6 139 0 0) (hL : ∀ i, i < 3 → i < X.nL) (hce : ce ≤ 0) (hsl : sl ≤ 0) : ∀ (n0 : Nat) (x2 : Int32) (w : Nat → Int32) {o_w : Nat → Int32}, f_X8_street_L44 read n0 x2 w = some o_w → (G X [(a, .inr (8, [.ref a_w, .int isImage, .ref a_tape, .int taped, .ref a_lane, .ref a_size, .ref a_items, .ref a_up, .ref a_down, .int above, .int below, .ref a_fell, .int fallen, .int torn, .int at_, .int start, .int number, .ref a_read, .ref a_comesUp, .ref a_comesDown, .ref a_held])), (a_w, .inl (X.E 1, 1142, .inl o_w)), (a_tape, .inl (X.E 1, 90, .inl tape)), (a_up, .inl (X.E 1, 8, .inl up)), (a_down, .inl (X.E 1, 8, .inl down)), (a_fell, .inl (X.E 1, 8, .inl fell)), (a_read, .inl (X.E 1, 60, .inl read))] [(0, .ref a)] ce sl 68 []) → G X [(a, .inr (8, [.ref a_w, .int isImage, .ref a_tape, .int taped, .ref a_lane, .ref a_size, .ref a_items, .ref a_up, .ref a_down, .int above, .int below, .ref a_fell, .int fallen, .int torn, .int at_, .int start, .int number, .ref a_read, .ref a_comesUp, .ref a_comesDown, .ref a_held])), (a_w, .inl (X.E 1, 1142, .inl w)), (a_tape, .inl (X.E 1, 90, .inl tape)), (a_up, .inl (X.E 1, 8, .inl up)), (a_down, .inl (X.E 1, 8, .inl down)), (a_fell, .inl (X.E 1, 8, .inl fell)), (a_read, .inl (X.E 1, 60, .inl read))] [(0, .ref a), (2, .int x2)] ce sl 44 [] := by
  intro n0
  induction n0 with
  | zero => intro x2 w o_w hf; exact nomatch (show (none : Option _) = some _ from hf)
  | succ n0 ih =>
    intro x2 w o_w hf k0
    replace hf : t_X8_street_L44 read (f_X8_street_L44 read n0) x2 w = some o_w := hf
    unfold t_X8_street_L44 at hf
    refine g_iload_n h 1 dX8_street_44 rfl rfl ?_
    refine g_bipush (v := 60) h dX8_street_45 kbipush_60 ?_
    refine g_icmp_ge (tgt := 68) h dX8_street_47 rfl hf (fun c7 hf => ?_) (fun c7 hf => ?_)
    · obtain rfl := sj1 hf
      exact G.lsub [0] rfl k0
    · refine g_aload_n h 0 dX8_street_50 rfl rfl ?_
      refine g_get (ci := 8) (v := .ref a_w) h in_X8 0 0 rfl rfl (fle rfl) rfl q1166 rfl dX8_street_51 ?_
      refine g_iload_n h 1 dX8_street_54 rfl rfl ?_
      refine g_aload_n h 0 dX8_street_55 rfl rfl ?_
      refine g_get (ci := 8) (v := .ref a_read) h in_X8 0 17 rfl rfl (fle rfl) rfl q1183 rfl dX8_street_56 ?_
      refine g_iload_n h 1 dX8_street_59 rfl rfl ?_
      obtain ⟨g8, hf⟩ := gn hf
      refine g_iaload h 6 rfl g8 dX8_street_60 ?_
      obtain ⟨g9, hf⟩ := gn hf
      refine g_iastore (ws' := [(a, .inr (8, [.ref a_w, .int isImage, .ref a_tape, .int taped, .ref a_lane, .ref a_size, .ref a_items, .ref a_up, .ref a_down, .int above, .int below, .ref a_fell, .int fallen, .int torn, .int at_, .int start, .int number, .ref a_read, .ref a_comesUp, .ref a_comesDown, .ref a_held])), (a_w, .inl (X.E 1, 1142, .inl (upd w x2.toNatClampNeg (read x2.toNatClampNeg)))), (a_tape, .inl (X.E 1, 90, .inl tape)), (a_up, .inl (X.E 1, 8, .inl up)), (a_down, .inl (X.E 1, 8, .inl down)), (a_fell, .inl (X.E 1, 8, .inl fell)), (a_read, .inl (X.E 1, 60, .inl read))]) h 1 rfl g9 rfl dX8_street_61 ?_
      refine g_iinc (j := 1) (v := (x2 + 1)) (lv' := [(2, .int (x2 + 1)), (0, .ref a)]) h dX8_street_62 rfl (kinc_1 _) (hL 2 (fle rfl)) rfl ?_
      refine g_goto (tgt := 44) h dX8_street_65 rfl ?_
      exact G.lsub [1, 0] rfl (ih _ _ hf k0)
set_option maxHeartbeats 4000000 in
set_option maxRecDepth 100000 in
theorem ct_X8_street {l : Launch} {D : va_G} {E : Ety} {a a_w a_tape a_lane a_size a_items a_up a_down a_fell a_read a_comesUp a_comesDown a_held : Nat} {isImage : Int32} {taped : Int32} {above : Int32} {below : Int32} {fallen : Int32} {torn : Int32} {at_ : Int32} {start : Int32} {number : Int32} {w : Nat → Int32} {tape : Nat → Int32} {up : Nat → Int32} {down : Nat → Int32} {fell : Nat → Int32} {read : Nat → Int32} {r_ : Int32} {o_taped : Int32} {o_above : Int32} {o_below : Int32} {o_fallen : Int32} {o_torn : Int32} {o_at_ : Int32} {o_start : Int32} {o_number : Int32} {o_w : Nat → Int32} {o_up : Nat → Int32} {o_down : Nat → Int32} {o_fell : Nat → Int32} {o_read : Nat → Int32} (hf : f_X8_street taped above below fallen torn w tape up down fell read = some (r_, o_taped, o_above, o_below, o_fallen, o_torn, o_at_, o_start, o_number, o_w, o_up, o_down, o_fell, o_read)) : Ct l yX8_street cX8_street 3 (some .int) 6 139 0 0 D E [.ref a] [(a, .inr (8, [.ref a_w, .int isImage, .ref a_tape, .int taped, .ref a_lane, .ref a_size, .ref a_items, .ref a_up, .ref a_down, .int above, .int below, .ref a_fell, .int fallen, .int torn, .int at_, .int start, .int number, .ref a_read, .ref a_comesUp, .ref a_comesDown, .ref a_held])), (a_w, .inl (E 1, 1142, .inl w)), (a_tape, .inl (E 1, 90, .inl tape)), (a_up, .inl (E 1, 8, .inl up)), (a_down, .inl (E 1, 8, .inl down)), (a_fell, .inl (E 1, 8, .inl fell)), (a_read, .inl (E 1, 60, .inl read))] (Pn (some (.int r_)) [(a, .inr (8, [.ref a_w, .int isImage, .ref a_tape, .int o_taped, .ref a_lane, .ref a_size, .ref a_items, .ref a_up, .ref a_down, .int o_above, .int o_below, .ref a_fell, .int o_fallen, .int o_torn, .int o_at_, .int o_start, .int o_number, .ref a_read, .ref a_comesUp, .ref a_comesDown, .ref a_held])), (a_w, .inl (E 1, 1142, .inl o_w)), (a_tape, .inl (E 1, 90, .inl tape)), (a_up, .inl (E 1, 8, .inl o_up)), (a_down, .inl (E 1, 8, .inl o_down)), (a_fell, .inl (E 1, 8, .inl o_fell)), (a_read, .inl (E 1, 60, .inl o_read))]) := by
  refine ct_of (own := RX8) (plainFor_of_name (by decide)) rfl (fle rfl) rfl ?_
  intro X hl hD hE hnL hXF h hR hF hnm
  subst hl; subst hD; subst hE
  have hL : ∀ i, i < 3 → i < X.nL := fun i hi => by rw [hnL]; exact hi
  unfold f_X8_street at hf
  refine g_aload_n h 0 dX8_street_0 rfl rfl ?_
  obtain ⟨r_1, at__2, start_3, number_4, read_5, hv, hf⟩ := ob5 hf
  refine g_callV (ci := 8) (q0 := 0) (n := 0) (As := []) (st := []) (wr := [(a_w, .inl (X.E 1, 1142, .inl w)), (a_up, .inl (X.E 1, 8, .inl up)), (a_down, .inl (X.E 1, 8, .inl down)), (a_fell, .inl (X.E 1, 8, .inl fell))]) (isC := [0, 2, 6]) (isR := [1, 3, 4, 5]) h hR (ct_X8_readsAll (a := a) (a_w := a_w) (a_tape := a_tape) (a_lane := a_lane) (a_size := a_size) (a_items := a_items) (a_up := a_up) (a_down := a_down) (a_fell := a_fell) (a_read := a_read) (a_comesUp := a_comesUp) (a_comesDown := a_comesDown) (a_held := a_held) (isImage := isImage) (taped := taped) (above := above) (below := below) (fallen := fallen) (torn := torn) (at_ := at_) (start := start) (number := number) (tape := tape) (read := read) hv) rfl rfl (lw_V q1243 q1245 qs28 q80 q1246) (by decide +kernel) rfl ⟨rfl, rfl, rfl, rfl, by decide⟩ ⟨fle rfl, fle rfl, fle rfl, fle rfl, fle rfl⟩ rfl dX8_street_1 (pin (perm := [4, 0, 5, 1, 2, 3, 6]) (ws' := [(a, .inr (8, [.ref a_w, .int isImage, .ref a_tape, .int taped, .ref a_lane, .ref a_size, .ref a_items, .ref a_up, .ref a_down, .int above, .int below, .ref a_fell, .int fallen, .int torn, .int at__2, .int start_3, .int number_4, .ref a_read, .ref a_comesUp, .ref a_comesDown, .ref a_held])), (a_w, .inl (X.E 1, 1142, .inl w)), (a_tape, .inl (X.E 1, 90, .inl tape)), (a_up, .inl (X.E 1, 8, .inl up)), (a_down, .inl (X.E 1, 8, .inl down)), (a_fell, .inl (X.E 1, 8, .inl fell)), (a_read, .inl (X.E 1, 60, .inl read_5))]) (stk := [.int r_1]) rfl rfl rfl ?_)
  clear hv
  refine g_istore_n (lv' := [(1, .int r_1), (0, .ref a)]) h dX8_street_4 rfl (hL 1 (fle rfl)) rfl ?_
  refine g_aload_n h 1 dX8_street_5 rfl rfl ?_
  refine g_iconst (v := 0) h dX8_street_6 kiconst_0 ?_
  refine g_put (ci := 8) (ty := tyX8 3) (ws' := [(a, .inr (8, [.ref a_w, .int isImage, .ref a_tape, .int 0, .ref a_lane, .ref a_size, .ref a_items, .ref a_up, .ref a_down, .int above, .int below, .ref a_fell, .int fallen, .int torn, .int at__2, .int start_3, .int number_4, .ref a_read, .ref a_comesUp, .ref a_comesDown, .ref a_held])), (a_w, .inl (X.E 1, 1142, .inl w)), (a_tape, .inl (X.E 1, 90, .inl tape)), (a_up, .inl (X.E 1, 8, .inl up)), (a_down, .inl (X.E 1, 8, .inl down)), (a_fell, .inl (X.E 1, 8, .inl fell)), (a_read, .inl (X.E 1, 60, .inl read_5))]) h in_X8 tyX8 tyX8_ok nmX8 0 3 rfl rfl (fle rfl) ⟨rfl, rfl⟩ q1169 rfl rfl rfl (fle rfl) rfl dX8_street_7 ?_
  refine g_iload_n h 0 dX8_street_10 rfl rfl ?_
  refine g_if_ne (tgt := 22) h dX8_street_11 rfl hf (fun c6 hf => ?_) (fun c6 hf => ?_)
  · refine g_bipush (v := (-20)) h dX8_street_14 kbipush_m20 ?_
    refine g_aload_n h 1 dX8_street_16 rfl rfl ?_
    refine g_get (ci := 8) (v := .int start_3) h in_X8 0 15 rfl rfl (fle rfl) rfl q1181 rfl dX8_street_17 ?_
    refine g_isub h dX8_street_20 ?_
    obtain ⟨rfl, rfl, rfl, rfl, rfl, rfl, rfl, rfl, rfl, rfl, rfl, rfl, rfl, rfl⟩ := sj14 hf
    exact g_iret h hF [0, 1, 2, 3, 4, 5, 6] rfl rfl ⟨rfl, rfl⟩ (fle rfl) (fle rfl) dX8_street_21
  · refine g_aload_n h 1 dX8_street_22 rfl rfl ?_
    refine g_get (ci := 8) (v := .ref a_read) h in_X8 0 17 rfl rfl (fle rfl) rfl q1183 rfl dX8_street_23 ?_
    refine g_iconst (v := 2) h dX8_street_26 kiconst_2 ?_
    refine g_bipush (v := 8) h dX8_street_27 kbipush_8 ?_
    refine g_iastore (ws' := [(a, .inr (8, [.ref a_w, .int isImage, .ref a_tape, .int 0, .ref a_lane, .ref a_size, .ref a_items, .ref a_up, .ref a_down, .int above, .int below, .ref a_fell, .int fallen, .int torn, .int at__2, .int start_3, .int number_4, .ref a_read, .ref a_comesUp, .ref a_comesDown, .ref a_held])), (a_w, .inl (X.E 1, 1142, .inl w)), (a_tape, .inl (X.E 1, 90, .inl tape)), (a_up, .inl (X.E 1, 8, .inl up)), (a_down, .inl (X.E 1, 8, .inl down)), (a_fell, .inl (X.E 1, 8, .inl fell)), (a_read, .inl (X.E 1, 60, .inl (upd read_5 (2 : Int32).toNatClampNeg 8)))]) h 6 rfl (by decide) rfl dX8_street_29 ?_
    refine g_aload_n h 1 dX8_street_30 rfl rfl ?_
    refine g_get (ci := 8) (v := .ref a_read) h in_X8 0 17 rfl rfl (fle rfl) rfl q1183 rfl dX8_street_31 ?_
    refine g_iconst (v := 3) h dX8_street_34 kiconst_3 ?_
    refine g_aload_n h 1 dX8_street_35 rfl rfl ?_
    refine g_get (ci := 8) (v := .ref a_w) h in_X8 0 0 rfl rfl (fle rfl) rfl q1166 rfl dX8_street_36 ?_
    refine g_iconst (v := 3) h dX8_street_39 kiconst_3 ?_
    refine g_iaload h 1 rfl (by decide) dX8_street_40 ?_
    refine g_iastore (ws' := [(a, .inr (8, [.ref a_w, .int isImage, .ref a_tape, .int 0, .ref a_lane, .ref a_size, .ref a_items, .ref a_up, .ref a_down, .int above, .int below, .ref a_fell, .int fallen, .int torn, .int at__2, .int start_3, .int number_4, .ref a_read, .ref a_comesUp, .ref a_comesDown, .ref a_held])), (a_w, .inl (X.E 1, 1142, .inl w)), (a_tape, .inl (X.E 1, 90, .inl tape)), (a_up, .inl (X.E 1, 8, .inl up)), (a_down, .inl (X.E 1, 8, .inl down)), (a_fell, .inl (X.E 1, 8, .inl fell)), (a_read, .inl (X.E 1, 60, .inl (upd (upd read_5 (2 : Int32).toNatClampNeg 8) (3 : Int32).toNatClampNeg (w (3 : Int32).toNatClampNeg))))]) h 6 rfl (by decide) rfl dX8_street_41 ?_
    refine g_iconst (v := 0) h dX8_street_42 kiconst_0 ?_
    refine g_istore_n (lv' := [(2, .int 0), (1, .int r_1), (0, .ref a)]) h dX8_street_43 rfl (hL 2 (fle rfl)) rfl ?_
    refine G.lsub (lv' := [(0, .ref a), (2, .int 0)]) [2, 0] rfl ?_
    obtain ⟨w_10, hv, hf⟩ := ob1 hf
    refine w_X8_street_L44 (isImage := isImage) (taped := 0) (above := above) (below := below) (fallen := fallen) (torn := torn) (at_ := at__2) (start := start_3) (number := number_4) (tape := tape) (up := up) (down := down) (fell := fell) (read := upd (upd read_5 (2 : Int32).toNatClampNeg 8) (3 : Int32).toNatClampNeg (w (3 : Int32).toNatClampNeg)) h hR hL (fle rfl) (fle rfl) FU _ _ hv ?_
    · clear hv
      refine g_aload_n h 0 dX8_street_68 rfl rfl ?_
      refine g_get (ci := 8) (v := .ref a_w) h in_X8 0 0 rfl rfl (fle rfl) rfl q1166 rfl dX8_street_69 ?_
      refine g_bipush (v := 60) h dX8_street_72 kbipush_60 ?_
      refine g_iconst (v := 0) h dX8_street_74 kiconst_0 ?_
      refine g_iastore (ws' := [(a, .inr (8, [.ref a_w, .int isImage, .ref a_tape, .int 0, .ref a_lane, .ref a_size, .ref a_items, .ref a_up, .ref a_down, .int above, .int below, .ref a_fell, .int fallen, .int torn, .int at__2, .int start_3, .int number_4, .ref a_read, .ref a_comesUp, .ref a_comesDown, .ref a_held])), (a_w, .inl (X.E 1, 1142, .inl (upd w_10 (60 : Int32).toNatClampNeg 0))), (a_tape, .inl (X.E 1, 90, .inl tape)), (a_up, .inl (X.E 1, 8, .inl up)), (a_down, .inl (X.E 1, 8, .inl down)), (a_fell, .inl (X.E 1, 8, .inl fell)), (a_read, .inl (X.E 1, 60, .inl (upd (upd read_5 (2 : Int32).toNatClampNeg 8) (3 : Int32).toNatClampNeg (w (3 : Int32).toNatClampNeg))))]) h 1 rfl (by decide) rfl dX8_street_75 ?_
      refine g_aload_n h 0 dX8_street_76 rfl rfl ?_
      refine g_iconst (v := 0) h dX8_street_77 kiconst_0 ?_
      obtain ⟨above_11, below_12, fallen_13, torn_14, w_15, up_16, down_17, fell_18, hv, hf⟩ := ob8 hf
      refine g_callV (ci := 8) (q0 := 0) (n := 1) (As := [.int 0]) (st := []) (wr := [(a_tape, .inl (X.E 1, 90, .inl tape)), (a_read, .inl (X.E 1, 60, .inl (upd (upd read_5 (2 : Int32).toNatClampNeg 8) (3 : Int32).toNatClampNeg (w (3 : Int32).toNatClampNeg))))]) (isC := [0, 1, 3, 4, 5]) (isR := [2, 6]) h hR (ct_X8_settles (a := a) (a_w := a_w) (a_tape := a_tape) (a_lane := a_lane) (a_size := a_size) (a_items := a_items) (a_up := a_up) (a_down := a_down) (a_fell := a_fell) (a_read := a_read) (a_comesUp := a_comesUp) (a_comesDown := a_comesDown) (a_held := a_held) (x1 := 0) (isImage := isImage) (taped := 0) (above := above) (below := below) (fallen := fallen) (torn := torn) (at_ := at__2) (start := start_3) (number := number_4) (w := upd w_10 (60 : Int32).toNatClampNeg 0) (up := up) (down := down) (fell := fell) hv) rfl rfl (lw_V q1276 q1278 qs35 q80 q1279) (by decide +kernel) rfl ⟨rfl, rfl, rfl, rfl, by decide⟩ ⟨fle rfl, fle rfl, fle rfl, fle rfl, fle rfl⟩ rfl dX8_street_78 (pin (perm := [2, 3, 0, 4, 5, 6, 1]) (ws' := [(a, .inr (8, [.ref a_w, .int isImage, .ref a_tape, .int 0, .ref a_lane, .ref a_size, .ref a_items, .ref a_up, .ref a_down, .int above_11, .int below_12, .ref a_fell, .int fallen_13, .int torn_14, .int at__2, .int start_3, .int number_4, .ref a_read, .ref a_comesUp, .ref a_comesDown, .ref a_held])), (a_w, .inl (X.E 1, 1142, .inl w_15)), (a_tape, .inl (X.E 1, 90, .inl tape)), (a_up, .inl (X.E 1, 8, .inl up_16)), (a_down, .inl (X.E 1, 8, .inl down_17)), (a_fell, .inl (X.E 1, 8, .inl fell_18)), (a_read, .inl (X.E 1, 60, .inl (upd (upd read_5 (2 : Int32).toNatClampNeg 8) (3 : Int32).toNatClampNeg (w (3 : Int32).toNatClampNeg))))]) (stk := []) rfl rfl rfl ?_)
      clear hv
      refine g_aload_n h 0 dX8_street_81 rfl rfl ?_
      refine g_get (ci := 8) (v := .ref a_w) h in_X8 0 0 rfl rfl (fle rfl) rfl q1166 rfl dX8_street_82 ?_
      refine g_iconst (v := 0) h dX8_street_85 kiconst_0 ?_
      refine g_iaload h 1 rfl (by decide) dX8_street_86 ?_
      obtain ⟨rfl, rfl, rfl, rfl, rfl, rfl, rfl, rfl, rfl, rfl, rfl, rfl, rfl, rfl⟩ := sj14 hf
      exact g_iret h hF [0, 1, 2, 3, 4, 5, 6] rfl rfl ⟨rfl, rfl⟩ (fle rfl) (fle rfl) dX8_street_87
set_option maxHeartbeats 4000000 in
set_option maxRecDepth 100000 in
theorem ct_X8_person {l : Launch} {D : va_G} {E : Ety} {a a_w a_tape a_lane a_size a_items a_up a_down a_fell a_read a_comesUp a_comesDown a_held : Nat} {x1 : Int32} {x2 : Int32} {x3 : Int32} {x4 : Int32} {x5 : Int32} {isImage : Int32} {taped : Int32} {above : Int32} {below : Int32} {fallen : Int32} {torn : Int32} {at_ : Int32} {start : Int32} {number : Int32} {w : Nat → Int32} {up : Nat → Int32} {down : Nat → Int32} {fell : Nat → Int32} {r_ : Int32} {o_above : Int32} {o_below : Int32} {o_fallen : Int32} {o_torn : Int32} {o_w : Nat → Int32} {o_up : Nat → Int32} {o_down : Nat → Int32} {o_fell : Nat → Int32} (hf : f_X8_person x1 x2 x3 x4 x5 above below fallen torn w up down fell = some (r_, o_above, o_below, o_fallen, o_torn, o_w, o_up, o_down, o_fell)) : Ct l yX8_person cX8_person 7 (some .int) 6 139 0 0 D E [.ref a, .int x1, .int x2, .int x3, .int x4, .int x5] [(a, .inr (8, [.ref a_w, .int isImage, .ref a_tape, .int taped, .ref a_lane, .ref a_size, .ref a_items, .ref a_up, .ref a_down, .int above, .int below, .ref a_fell, .int fallen, .int torn, .int at_, .int start, .int number, .ref a_read, .ref a_comesUp, .ref a_comesDown, .ref a_held])), (a_w, .inl (E 1, 1142, .inl w)), (a_up, .inl (E 1, 8, .inl up)), (a_down, .inl (E 1, 8, .inl down)), (a_fell, .inl (E 1, 8, .inl fell))] (Pn (some (.int r_)) [(a, .inr (8, [.ref a_w, .int isImage, .ref a_tape, .int taped, .ref a_lane, .ref a_size, .ref a_items, .ref a_up, .ref a_down, .int o_above, .int o_below, .ref a_fell, .int o_fallen, .int o_torn, .int at_, .int start, .int number, .ref a_read, .ref a_comesUp, .ref a_comesDown, .ref a_held])), (a_w, .inl (E 1, 1142, .inl o_w)), (a_up, .inl (E 1, 8, .inl o_up)), (a_down, .inl (E 1, 8, .inl o_down)), (a_fell, .inl (E 1, 8, .inl o_fell))]) := by
  refine ct_of (own := RX8) (plainFor_of_name (by decide)) rfl (fle rfl) rfl ?_
  intro X hl hD hE hnL hXF h hR hF hnm
  subst hl; subst hD; subst hE
  have hL : ∀ i, i < 7 → i < X.nL := fun i hi => by rw [hnL]; exact hi
  unfold f_X8_person at hf
  refine g_iload_n h 1 dX8_person_0 rfl rfl ?_
  refine g_i2l h dX8_person_1 ?_
  refine g_lconst (v := 0) h dX8_person_2 rfl ?_
  refine g_ldc2 h q1332 dX8_person_3 ?_
  obtain ⟨r_1, hv, hf⟩ := ob1 hf
  refine g_callS (n := 3) (As := [.long x1.toInt64, .long 0, .long 4]) (st := []) (wr := [(a, .inr (8, [.ref a_w, .int isImage, .ref a_tape, .int taped, .ref a_lane, .ref a_size, .ref a_items, .ref a_up, .ref a_down, .int above, .int below, .ref a_fell, .int fallen, .int torn, .int at_, .int start, .int number, .ref a_read, .ref a_comesUp, .ref a_comesDown, .ref a_held])), (a_w, .inl (X.E 1, 1142, .inl w)), (a_up, .inl (X.E 1, 8, .inl up)), (a_down, .inl (X.E 1, 8, .inl down)), (a_fell, .inl (X.E 1, 8, .inl fell))]) (isC := []) (isR := [0, 1, 2, 3, 4]) h hR (ct_X8_in (x0 := x1.toInt64) (x2 := 0) (x4 := 4) hv) (lw_S q1236 q1237 q80 q1238) (by decide +kernel) rfl ⟨rfl, rfl, rfl, rfl, by decide⟩ ⟨fle rfl, fle rfl, fle rfl, fle rfl, fle rfl⟩ rfl dX8_person_6 (pin (perm := [0, 1, 2, 3, 4]) (ws' := [(a, .inr (8, [.ref a_w, .int isImage, .ref a_tape, .int taped, .ref a_lane, .ref a_size, .ref a_items, .ref a_up, .ref a_down, .int above, .int below, .ref a_fell, .int fallen, .int torn, .int at_, .int start, .int number, .ref a_read, .ref a_comesUp, .ref a_comesDown, .ref a_held])), (a_w, .inl (X.E 1, 1142, .inl w)), (a_up, .inl (X.E 1, 8, .inl up)), (a_down, .inl (X.E 1, 8, .inl down)), (a_fell, .inl (X.E 1, 8, .inl fell))]) (stk := [.int r_1]) rfl rfl rfl ?_)
  clear hv
  refine g_if_eq (tgt := 62) h dX8_person_9 rfl hf (fun c2 hf => ?_) (fun c2 hf => ?_)
  · refine g_iconst (v := (-1)) h dX8_person_62 kiconst_m1 ?_
    obtain ⟨rfl, rfl, rfl, rfl, rfl, rfl, rfl, rfl, rfl⟩ := sj9 hf
    exact g_iret h hF [0, 1, 2, 3, 4] rfl rfl ⟨rfl, rfl⟩ (fle rfl) (fle rfl) dX8_person_63
  · refine g_iload_n h 2 dX8_person_12 rfl rfl ?_
    refine g_i2l h dX8_person_13 ?_
    refine g_lconst (v := 1) h dX8_person_14 rfl ?_
    refine g_ldc2 h q1333 dX8_person_15 ?_
    obtain ⟨r_3, hv, hf⟩ := ob1 hf
    refine g_callS (n := 3) (As := [.long x2.toInt64, .long 1, .long 30]) (st := []) (wr := [(a, .inr (8, [.ref a_w, .int isImage, .ref a_tape, .int taped, .ref a_lane, .ref a_size, .ref a_items, .ref a_up, .ref a_down, .int above, .int below, .ref a_fell, .int fallen, .int torn, .int at_, .int start, .int number, .ref a_read, .ref a_comesUp, .ref a_comesDown, .ref a_held])), (a_w, .inl (X.E 1, 1142, .inl w)), (a_up, .inl (X.E 1, 8, .inl up)), (a_down, .inl (X.E 1, 8, .inl down)), (a_fell, .inl (X.E 1, 8, .inl fell))]) (isC := []) (isR := [0, 1, 2, 3, 4]) h hR (ct_X8_in (x0 := x2.toInt64) (x2 := 1) (x4 := 30) hv) (lw_S q1236 q1237 q80 q1238) (by decide +kernel) rfl ⟨rfl, rfl, rfl, rfl, by decide⟩ ⟨fle rfl, fle rfl, fle rfl, fle rfl, fle rfl⟩ rfl dX8_person_18 (pin (perm := [0, 1, 2, 3, 4]) (ws' := [(a, .inr (8, [.ref a_w, .int isImage, .ref a_tape, .int taped, .ref a_lane, .ref a_size, .ref a_items, .ref a_up, .ref a_down, .int above, .int below, .ref a_fell, .int fallen, .int torn, .int at_, .int start, .int number, .ref a_read, .ref a_comesUp, .ref a_comesDown, .ref a_held])), (a_w, .inl (X.E 1, 1142, .inl w)), (a_up, .inl (X.E 1, 8, .inl up)), (a_down, .inl (X.E 1, 8, .inl down)), (a_fell, .inl (X.E 1, 8, .inl fell))]) (stk := [.int r_3]) rfl rfl rfl ?_)
    clear hv
    refine g_if_eq (tgt := 62) h dX8_person_21 rfl hf (fun c4 hf => ?_) (fun c4 hf => ?_)
    · refine g_iconst (v := (-1)) h dX8_person_62 kiconst_m1 ?_
      obtain ⟨rfl, rfl, rfl, rfl, rfl, rfl, rfl, rfl, rfl⟩ := sj9 hf
      exact g_iret h hF [0, 1, 2, 3, 4] rfl rfl ⟨rfl, rfl⟩ (fle rfl) (fle rfl) dX8_person_63
    · refine g_iload_n h 3 dX8_person_24 rfl rfl ?_
      refine g_i2l h dX8_person_25 ?_
      refine g_lconst (v := 0) h dX8_person_26 rfl ?_
      refine g_ldc2 h q1334 dX8_person_27 ?_
      obtain ⟨r_5, hv, hf⟩ := ob1 hf
      refine g_callS (n := 3) (As := [.long x3.toInt64, .long 0, .long 99]) (st := []) (wr := [(a, .inr (8, [.ref a_w, .int isImage, .ref a_tape, .int taped, .ref a_lane, .ref a_size, .ref a_items, .ref a_up, .ref a_down, .int above, .int below, .ref a_fell, .int fallen, .int torn, .int at_, .int start, .int number, .ref a_read, .ref a_comesUp, .ref a_comesDown, .ref a_held])), (a_w, .inl (X.E 1, 1142, .inl w)), (a_up, .inl (X.E 1, 8, .inl up)), (a_down, .inl (X.E 1, 8, .inl down)), (a_fell, .inl (X.E 1, 8, .inl fell))]) (isC := []) (isR := [0, 1, 2, 3, 4]) h hR (ct_X8_in (x0 := x3.toInt64) (x2 := 0) (x4 := 99) hv) (lw_S q1236 q1237 q80 q1238) (by decide +kernel) rfl ⟨rfl, rfl, rfl, rfl, by decide⟩ ⟨fle rfl, fle rfl, fle rfl, fle rfl, fle rfl⟩ rfl dX8_person_30 (pin (perm := [0, 1, 2, 3, 4]) (ws' := [(a, .inr (8, [.ref a_w, .int isImage, .ref a_tape, .int taped, .ref a_lane, .ref a_size, .ref a_items, .ref a_up, .ref a_down, .int above, .int below, .ref a_fell, .int fallen, .int torn, .int at_, .int start, .int number, .ref a_read, .ref a_comesUp, .ref a_comesDown, .ref a_held])), (a_w, .inl (X.E 1, 1142, .inl w)), (a_up, .inl (X.E 1, 8, .inl up)), (a_down, .inl (X.E 1, 8, .inl down)), (a_fell, .inl (X.E 1, 8, .inl fell))]) (stk := [.int r_5]) rfl rfl rfl ?_)
      clear hv
      refine g_if_eq (tgt := 62) h dX8_person_33 rfl hf (fun c6 hf => ?_) (fun c6 hf => ?_)
      · refine g_iconst (v := (-1)) h dX8_person_62 kiconst_m1 ?_
        obtain ⟨rfl, rfl, rfl, rfl, rfl, rfl, rfl, rfl, rfl⟩ := sj9 hf
        exact g_iret h hF [0, 1, 2, 3, 4] rfl rfl ⟨rfl, rfl⟩ (fle rfl) (fle rfl) dX8_person_63
      · refine g_iload h 4 dX8_person_36 rfl ?_
        refine g_i2l h dX8_person_38 ?_
        refine g_lconst (v := 1) h dX8_person_39 rfl ?_
        refine g_ldc2 h q1335 dX8_person_40 ?_
        obtain ⟨r_7, hv, hf⟩ := ob1 hf
        refine g_callS (n := 3) (As := [.long x4.toInt64, .long 1, .long 20]) (st := []) (wr := [(a, .inr (8, [.ref a_w, .int isImage, .ref a_tape, .int taped, .ref a_lane, .ref a_size, .ref a_items, .ref a_up, .ref a_down, .int above, .int below, .ref a_fell, .int fallen, .int torn, .int at_, .int start, .int number, .ref a_read, .ref a_comesUp, .ref a_comesDown, .ref a_held])), (a_w, .inl (X.E 1, 1142, .inl w)), (a_up, .inl (X.E 1, 8, .inl up)), (a_down, .inl (X.E 1, 8, .inl down)), (a_fell, .inl (X.E 1, 8, .inl fell))]) (isC := []) (isR := [0, 1, 2, 3, 4]) h hR (ct_X8_in (x0 := x4.toInt64) (x2 := 1) (x4 := 20) hv) (lw_S q1236 q1237 q80 q1238) (by decide +kernel) rfl ⟨rfl, rfl, rfl, rfl, by decide⟩ ⟨fle rfl, fle rfl, fle rfl, fle rfl, fle rfl⟩ rfl dX8_person_43 (pin (perm := [0, 1, 2, 3, 4]) (ws' := [(a, .inr (8, [.ref a_w, .int isImage, .ref a_tape, .int taped, .ref a_lane, .ref a_size, .ref a_items, .ref a_up, .ref a_down, .int above, .int below, .ref a_fell, .int fallen, .int torn, .int at_, .int start, .int number, .ref a_read, .ref a_comesUp, .ref a_comesDown, .ref a_held])), (a_w, .inl (X.E 1, 1142, .inl w)), (a_up, .inl (X.E 1, 8, .inl up)), (a_down, .inl (X.E 1, 8, .inl down)), (a_fell, .inl (X.E 1, 8, .inl fell))]) (stk := [.int r_7]) rfl rfl rfl ?_)
        clear hv
        refine g_if_eq (tgt := 62) h dX8_person_46 rfl hf (fun c8 hf => ?_) (fun c8 hf => ?_)
        · refine g_iconst (v := (-1)) h dX8_person_62 kiconst_m1 ?_
          obtain ⟨rfl, rfl, rfl, rfl, rfl, rfl, rfl, rfl, rfl⟩ := sj9 hf
          exact g_iret h hF [0, 1, 2, 3, 4] rfl rfl ⟨rfl, rfl⟩ (fle rfl) (fle rfl) dX8_person_63
        · refine g_iload h 5 dX8_person_49 rfl ?_
          refine g_i2l h dX8_person_51 ?_
          refine g_lconst (v := 1) h dX8_person_52 rfl ?_
          refine g_ldc2 h q1324 dX8_person_53 ?_
          obtain ⟨r_9, hv, hf⟩ := ob1 hf
          refine g_callS (n := 3) (As := [.long x5.toInt64, .long 1, .long 9]) (st := []) (wr := [(a, .inr (8, [.ref a_w, .int isImage, .ref a_tape, .int taped, .ref a_lane, .ref a_size, .ref a_items, .ref a_up, .ref a_down, .int above, .int below, .ref a_fell, .int fallen, .int torn, .int at_, .int start, .int number, .ref a_read, .ref a_comesUp, .ref a_comesDown, .ref a_held])), (a_w, .inl (X.E 1, 1142, .inl w)), (a_up, .inl (X.E 1, 8, .inl up)), (a_down, .inl (X.E 1, 8, .inl down)), (a_fell, .inl (X.E 1, 8, .inl fell))]) (isC := []) (isR := [0, 1, 2, 3, 4]) h hR (ct_X8_in (x0 := x5.toInt64) (x2 := 1) (x4 := 9) hv) (lw_S q1236 q1237 q80 q1238) (by decide +kernel) rfl ⟨rfl, rfl, rfl, rfl, by decide⟩ ⟨fle rfl, fle rfl, fle rfl, fle rfl, fle rfl⟩ rfl dX8_person_56 (pin (perm := [0, 1, 2, 3, 4]) (ws' := [(a, .inr (8, [.ref a_w, .int isImage, .ref a_tape, .int taped, .ref a_lane, .ref a_size, .ref a_items, .ref a_up, .ref a_down, .int above, .int below, .ref a_fell, .int fallen, .int torn, .int at_, .int start, .int number, .ref a_read, .ref a_comesUp, .ref a_comesDown, .ref a_held])), (a_w, .inl (X.E 1, 1142, .inl w)), (a_up, .inl (X.E 1, 8, .inl up)), (a_down, .inl (X.E 1, 8, .inl down)), (a_fell, .inl (X.E 1, 8, .inl fell))]) (stk := [.int r_9]) rfl rfl rfl ?_)
          clear hv
          refine g_if_ne (tgt := 64) h dX8_person_59 rfl hf (fun c10 hf => ?_) (fun c10 hf => ?_)
          · refine g_iconst (v := (-1)) h dX8_person_62 kiconst_m1 ?_
            obtain ⟨rfl, rfl, rfl, rfl, rfl, rfl, rfl, rfl, rfl⟩ := sj9 hf
            exact g_iret h hF [0, 1, 2, 3, 4] rfl rfl ⟨rfl, rfl⟩ (fle rfl) (fle rfl) dX8_person_63
          · refine g_aload_n h 0 dX8_person_64 rfl rfl ?_
            refine g_get (ci := 8) (v := .ref a_w) h in_X8 0 0 rfl rfl (fle rfl) rfl q1166 rfl dX8_person_65 ?_
            refine g_iconst (v := 0) h dX8_person_68 kiconst_0 ?_
            refine g_iaload h 1 rfl (by decide) dX8_person_69 ?_
            refine g_istore (lv' := [(6, .int (w (0 : Int32).toNatClampNeg)), (0, .ref a), (1, .int x1), (2, .int x2), (3, .int x3), (4, .int x4), (5, .int x5)]) h dX8_person_70 (hL 6 (fle rfl)) rfl ?_
            refine g_iload h 0 dX8_person_72 rfl ?_
            refine g_bipush (v := 8) h dX8_person_74 kbipush_8 ?_
            refine g_icmp_ne (tgt := 82) h dX8_person_76 rfl hf (fun c11 hf => ?_) (fun c11 hf => ?_)
            · refine g_bipush (v := (-3)) h dX8_person_79 kbipush_m3 ?_
              obtain ⟨rfl, rfl, rfl, rfl, rfl, rfl, rfl, rfl, rfl⟩ := sj9 hf
              exact g_iret h hF [0, 1, 2, 3, 4] rfl rfl ⟨rfl, rfl⟩ (fle rfl) (fle rfl) dX8_person_81
            · refine g_aload_n h 1 dX8_person_82 rfl rfl ?_
              refine g_get (ci := 8) (v := .ref a_w) h in_X8 0 0 rfl rfl (fle rfl) rfl q1166 rfl dX8_person_83 ?_
              refine g_iconst (v := 4) h dX8_person_86 kiconst_4 ?_
              refine g_iload h 0 dX8_person_87 rfl ?_
              refine g_iadd h dX8_person_89 ?_
              refine g_iload_n h 2 dX8_person_90 rfl rfl ?_
              obtain ⟨g12, hf⟩ := gn hf
              refine g_iastore (ws' := [(a, .inr (8, [.ref a_w, .int isImage, .ref a_tape, .int taped, .ref a_lane, .ref a_size, .ref a_items, .ref a_up, .ref a_down, .int above, .int below, .ref a_fell, .int fallen, .int torn, .int at_, .int start, .int number, .ref a_read, .ref a_comesUp, .ref a_comesDown, .ref a_held])), (a_w, .inl (X.E 1, 1142, .inl (upd w (4 + (w (0 : Int32).toNatClampNeg)).toNatClampNeg x1))), (a_up, .inl (X.E 1, 8, .inl up)), (a_down, .inl (X.E 1, 8, .inl down)), (a_fell, .inl (X.E 1, 8, .inl fell))]) h 1 rfl g12 rfl dX8_person_91 ?_
              refine g_aload_n h 1 dX8_person_92 rfl rfl ?_
              refine g_get (ci := 8) (v := .ref a_w) h in_X8 0 0 rfl rfl (fle rfl) rfl q1166 rfl dX8_person_93 ?_
              refine g_bipush (v := 12) h dX8_person_96 kbipush_12 ?_
              refine g_iload h 0 dX8_person_98 rfl ?_
              refine g_iadd h dX8_person_100 ?_
              refine g_iload_n h 3 dX8_person_101 rfl rfl ?_
              obtain ⟨g13, hf⟩ := gn hf
              refine g_iastore (ws' := [(a, .inr (8, [.ref a_w, .int isImage, .ref a_tape, .int taped, .ref a_lane, .ref a_size, .ref a_items, .ref a_up, .ref a_down, .int above, .int below, .ref a_fell, .int fallen, .int torn, .int at_, .int start, .int number, .ref a_read, .ref a_comesUp, .ref a_comesDown, .ref a_held])), (a_w, .inl (X.E 1, 1142, .inl (upd (upd w (4 + (w (0 : Int32).toNatClampNeg)).toNatClampNeg x1) (12 + (w (0 : Int32).toNatClampNeg)).toNatClampNeg x2))), (a_up, .inl (X.E 1, 8, .inl up)), (a_down, .inl (X.E 1, 8, .inl down)), (a_fell, .inl (X.E 1, 8, .inl fell))]) h 1 rfl g13 rfl dX8_person_102 ?_
              refine g_aload_n h 1 dX8_person_103 rfl rfl ?_
              refine g_get (ci := 8) (v := .ref a_w) h in_X8 0 0 rfl rfl (fle rfl) rfl q1166 rfl dX8_person_104 ?_
              refine g_bipush (v := 20) h dX8_person_107 kbipush_20 ?_
              refine g_iload h 0 dX8_person_109 rfl ?_
              refine g_iadd h dX8_person_111 ?_
              refine g_iconst (v := 1) h dX8_person_112 kiconst_1 ?_
              obtain ⟨g14, hf⟩ := gn hf
              refine g_iastore (ws' := [(a, .inr (8, [.ref a_w, .int isImage, .ref a_tape, .int taped, .ref a_lane, .ref a_size, .ref a_items, .ref a_up, .ref a_down, .int above, .int below, .ref a_fell, .int fallen, .int torn, .int at_, .int start, .int number, .ref a_read, .ref a_comesUp, .ref a_comesDown, .ref a_held])), (a_w, .inl (X.E 1, 1142, .inl (upd (upd (upd w (4 + (w (0 : Int32).toNatClampNeg)).toNatClampNeg x1) (12 + (w (0 : Int32).toNatClampNeg)).toNatClampNeg x2) (20 + (w (0 : Int32).toNatClampNeg)).toNatClampNeg 1))), (a_up, .inl (X.E 1, 8, .inl up)), (a_down, .inl (X.E 1, 8, .inl down)), (a_fell, .inl (X.E 1, 8, .inl fell))]) h 1 rfl g14 rfl dX8_person_113 ?_
              refine g_aload_n h 1 dX8_person_114 rfl rfl ?_
              refine g_get (ci := 8) (v := .ref a_w) h in_X8 0 0 rfl rfl (fle rfl) rfl q1166 rfl dX8_person_115 ?_
              refine g_bipush (v := 28) h dX8_person_118 kbipush_28 ?_
              refine g_iload h 0 dX8_person_120 rfl ?_
              refine g_iadd h dX8_person_122 ?_
              refine g_iload_n h 4 dX8_person_123 rfl rfl ?_
              obtain ⟨g15, hf⟩ := gn hf
              refine g_iastore (ws' := [(a, .inr (8, [.ref a_w, .int isImage, .ref a_tape, .int taped, .ref a_lane, .ref a_size, .ref a_items, .ref a_up, .ref a_down, .int above, .int below, .ref a_fell, .int fallen, .int torn, .int at_, .int start, .int number, .ref a_read, .ref a_comesUp, .ref a_comesDown, .ref a_held])), (a_w, .inl (X.E 1, 1142, .inl (upd (upd (upd (upd w (4 + (w (0 : Int32).toNatClampNeg)).toNatClampNeg x1) (12 + (w (0 : Int32).toNatClampNeg)).toNatClampNeg x2) (20 + (w (0 : Int32).toNatClampNeg)).toNatClampNeg 1) (28 + (w (0 : Int32).toNatClampNeg)).toNatClampNeg x3))), (a_up, .inl (X.E 1, 8, .inl up)), (a_down, .inl (X.E 1, 8, .inl down)), (a_fell, .inl (X.E 1, 8, .inl fell))]) h 1 rfl g15 rfl dX8_person_124 ?_
              refine g_iload h 0 dX8_person_125 rfl ?_
              obtain ⟨w_20, hw, hf⟩ := ob1 hf
              have K127 : G X [(a, .inr (8, [.ref a_w, .int isImage, .ref a_tape, .int taped, .ref a_lane, .ref a_size, .ref a_items, .ref a_up, .ref a_down, .int above, .int below, .ref a_fell, .int fallen, .int torn, .int at_, .int start, .int number, .ref a_read, .ref a_comesUp, .ref a_comesDown, .ref a_held])), (a_w, .inl (X.E 1, 1142, .inl w_20)), (a_up, .inl (X.E 1, 8, .inl up)), (a_down, .inl (X.E 1, 8, .inl down)), (a_fell, .inl (X.E 1, 8, .inl fell))] [(0, .ref a), (6, .int (w (0 : Int32).toNatClampNeg))] 0 0 171 [] := by
                clear hw
                refine g_aload_n h 0 dX8_person_171 rfl rfl ?_
                refine g_get (ci := 8) (v := .ref a_w) h in_X8 0 0 rfl rfl (fle rfl) rfl q1166 rfl dX8_person_172 ?_
                refine g_iconst (v := 0) h dX8_person_175 kiconst_0 ?_
                refine g_dup2 h dX8_person_176 rfl rfl ?_
                refine g_iaload h 1 rfl (by decide) dX8_person_177 ?_
                refine g_iconst (v := 1) h dX8_person_178 kiconst_1 ?_
                refine g_iadd h dX8_person_179 ?_
                refine g_iastore (ws' := [(a, .inr (8, [.ref a_w, .int isImage, .ref a_tape, .int taped, .ref a_lane, .ref a_size, .ref a_items, .ref a_up, .ref a_down, .int above, .int below, .ref a_fell, .int fallen, .int torn, .int at_, .int start, .int number, .ref a_read, .ref a_comesUp, .ref a_comesDown, .ref a_held])), (a_w, .inl (X.E 1, 1142, .inl (upd w_20 (0 : Int32).toNatClampNeg ((w_20 (0 : Int32).toNatClampNeg) + 1)))), (a_up, .inl (X.E 1, 8, .inl up)), (a_down, .inl (X.E 1, 8, .inl down)), (a_fell, .inl (X.E 1, 8, .inl fell))]) h 1 rfl (by decide) rfl dX8_person_180 ?_
                refine g_aload_n h 0 dX8_person_181 rfl rfl ?_
                refine g_get (ci := 8) (v := .ref a_w) h in_X8 0 0 rfl rfl (fle rfl) rfl q1166 rfl dX8_person_182 ?_
                refine g_bipush (v := 60) h dX8_person_185 kbipush_60 ?_
                refine g_iconst (v := 0) h dX8_person_187 kiconst_0 ?_
                refine g_iastore (ws' := [(a, .inr (8, [.ref a_w, .int isImage, .ref a_tape, .int taped, .ref a_lane, .ref a_size, .ref a_items, .ref a_up, .ref a_down, .int above, .int below, .ref a_fell, .int fallen, .int torn, .int at_, .int start, .int number, .ref a_read, .ref a_comesUp, .ref a_comesDown, .ref a_held])), (a_w, .inl (X.E 1, 1142, .inl (upd (upd w_20 (0 : Int32).toNatClampNeg ((w_20 (0 : Int32).toNatClampNeg) + 1)) (60 : Int32).toNatClampNeg 0))), (a_up, .inl (X.E 1, 8, .inl up)), (a_down, .inl (X.E 1, 8, .inl down)), (a_fell, .inl (X.E 1, 8, .inl fell))]) h 1 rfl (by decide) rfl dX8_person_188 ?_
                refine g_aload_n h 0 dX8_person_189 rfl rfl ?_
                refine g_iconst (v := 0) h dX8_person_190 kiconst_0 ?_
                obtain ⟨above_24, below_25, fallen_26, torn_27, w_28, up_29, down_30, fell_31, hv, hf⟩ := ob8 hf
                refine g_callV (ci := 8) (q0 := 0) (n := 1) (As := [.int 0]) (st := []) (wr := []) (isC := [0, 1, 2, 3, 4]) (isR := []) h hR (ct_X8_settles (a := a) (a_w := a_w) (a_tape := a_tape) (a_lane := a_lane) (a_size := a_size) (a_items := a_items) (a_up := a_up) (a_down := a_down) (a_fell := a_fell) (a_read := a_read) (a_comesUp := a_comesUp) (a_comesDown := a_comesDown) (a_held := a_held) (x1 := 0) (isImage := isImage) (taped := taped) (above := above) (below := below) (fallen := fallen) (torn := torn) (at_ := at_) (start := start) (number := number) (w := upd (upd w_20 (0 : Int32).toNatClampNeg ((w_20 (0 : Int32).toNatClampNeg) + 1)) (60 : Int32).toNatClampNeg 0) (up := up) (down := down) (fell := fell) hv) rfl rfl (lw_V q1276 q1278 qs35 q80 q1279) (by decide +kernel) rfl ⟨rfl, rfl, rfl, rfl, by decide⟩ ⟨fle rfl, fle rfl, fle rfl, fle rfl, fle rfl⟩ rfl dX8_person_191 (pin (perm := [0, 1, 2, 3, 4]) (ws' := [(a, .inr (8, [.ref a_w, .int isImage, .ref a_tape, .int taped, .ref a_lane, .ref a_size, .ref a_items, .ref a_up, .ref a_down, .int above_24, .int below_25, .ref a_fell, .int fallen_26, .int torn_27, .int at_, .int start, .int number, .ref a_read, .ref a_comesUp, .ref a_comesDown, .ref a_held])), (a_w, .inl (X.E 1, 1142, .inl w_28)), (a_up, .inl (X.E 1, 8, .inl up_29)), (a_down, .inl (X.E 1, 8, .inl down_30)), (a_fell, .inl (X.E 1, 8, .inl fell_31))]) (stk := []) rfl rfl rfl ?_)
                clear hv
                refine g_iload h 1 dX8_person_194 rfl ?_
                obtain ⟨rfl, rfl, rfl, rfl, rfl, rfl, rfl, rfl, rfl⟩ := sj9 hf
                exact g_iret h hF [0, 1, 2, 3, 4] rfl rfl ⟨rfl, rfl⟩ (fle rfl) (fle rfl) dX8_person_196
              clear hf
              have hf := hw
              clear hw
              refine g_if_le (tgt := 171) h dX8_person_127 rfl hf (fun c16 hf => ?_) (fun c16 hf => ?_)
              · obtain rfl := sj1 hf
                exact G.lsub [1, 0] rfl K127
              · refine g_aload_n h 1 dX8_person_130 rfl rfl ?_
                refine g_get (ci := 8) (v := .ref a_w) h in_X8 0 0 rfl rfl (fle rfl) rfl q1166 rfl dX8_person_131 ?_
                refine g_bipush (v := 36) h dX8_person_134 kbipush_36 ?_
                refine g_iload h 0 dX8_person_136 rfl ?_
                refine g_iadd h dX8_person_138 ?_
                refine g_iconst (v := 1) h dX8_person_139 kiconst_1 ?_
                refine g_isub h dX8_person_140 ?_
                refine g_iload h 5 dX8_person_141 rfl ?_
                obtain ⟨g21, hf⟩ := gn hf
                refine g_iastore (ws' := [(a, .inr (8, [.ref a_w, .int isImage, .ref a_tape, .int taped, .ref a_lane, .ref a_size, .ref a_items, .ref a_up, .ref a_down, .int above, .int below, .ref a_fell, .int fallen, .int torn, .int at_, .int start, .int number, .ref a_read, .ref a_comesUp, .ref a_comesDown, .ref a_held])), (a_w, .inl (X.E 1, 1142, .inl (upd (upd (upd (upd (upd w (4 + (w (0 : Int32).toNatClampNeg)).toNatClampNeg x1) (12 + (w (0 : Int32).toNatClampNeg)).toNatClampNeg x2) (20 + (w (0 : Int32).toNatClampNeg)).toNatClampNeg 1) (28 + (w (0 : Int32).toNatClampNeg)).toNatClampNeg x3) ((36 + (w (0 : Int32).toNatClampNeg)) - 1).toNatClampNeg x4))), (a_up, .inl (X.E 1, 8, .inl up)), (a_down, .inl (X.E 1, 8, .inl down)), (a_fell, .inl (X.E 1, 8, .inl fell))]) h 1 rfl g21 rfl dX8_person_143 ?_
                refine g_aload_n h 1 dX8_person_144 rfl rfl ?_
                refine g_get (ci := 8) (v := .ref a_w) h in_X8 0 0 rfl rfl (fle rfl) rfl q1166 rfl dX8_person_145 ?_
                refine g_bipush (v := 44) h dX8_person_148 kbipush_44 ?_
                refine g_iload h 0 dX8_person_150 rfl ?_
                refine g_iadd h dX8_person_152 ?_
                refine g_iconst (v := 1) h dX8_person_153 kiconst_1 ?_
                refine g_isub h dX8_person_154 ?_
                refine g_iload h 6 dX8_person_155 rfl ?_
                obtain ⟨g22, hf⟩ := gn hf
                refine g_iastore (ws' := [(a, .inr (8, [.ref a_w, .int isImage, .ref a_tape, .int taped, .ref a_lane, .ref a_size, .ref a_items, .ref a_up, .ref a_down, .int above, .int below, .ref a_fell, .int fallen, .int torn, .int at_, .int start, .int number, .ref a_read, .ref a_comesUp, .ref a_comesDown, .ref a_held])), (a_w, .inl (X.E 1, 1142, .inl (upd (upd (upd (upd (upd (upd w (4 + (w (0 : Int32).toNatClampNeg)).toNatClampNeg x1) (12 + (w (0 : Int32).toNatClampNeg)).toNatClampNeg x2) (20 + (w (0 : Int32).toNatClampNeg)).toNatClampNeg 1) (28 + (w (0 : Int32).toNatClampNeg)).toNatClampNeg x3) ((36 + (w (0 : Int32).toNatClampNeg)) - 1).toNatClampNeg x4) ((44 + (w (0 : Int32).toNatClampNeg)) - 1).toNatClampNeg x5))), (a_up, .inl (X.E 1, 8, .inl up)), (a_down, .inl (X.E 1, 8, .inl down)), (a_fell, .inl (X.E 1, 8, .inl fell))]) h 1 rfl g22 rfl dX8_person_157 ?_
                refine g_aload_n h 1 dX8_person_158 rfl rfl ?_
                refine g_get (ci := 8) (v := .ref a_w) h in_X8 0 0 rfl rfl (fle rfl) rfl q1166 rfl dX8_person_159 ?_
                refine g_bipush (v := 52) h dX8_person_162 kbipush_52 ?_
                refine g_iload h 0 dX8_person_164 rfl ?_
                refine g_iadd h dX8_person_166 ?_
                refine g_iconst (v := 1) h dX8_person_167 kiconst_1 ?_
                refine g_isub h dX8_person_168 ?_
                refine g_iconst (v := 0) h dX8_person_169 kiconst_0 ?_
                obtain ⟨g23, hf⟩ := gn hf
                refine g_iastore (ws' := [(a, .inr (8, [.ref a_w, .int isImage, .ref a_tape, .int taped, .ref a_lane, .ref a_size, .ref a_items, .ref a_up, .ref a_down, .int above, .int below, .ref a_fell, .int fallen, .int torn, .int at_, .int start, .int number, .ref a_read, .ref a_comesUp, .ref a_comesDown, .ref a_held])), (a_w, .inl (X.E 1, 1142, .inl (upd (upd (upd (upd (upd (upd (upd w (4 + (w (0 : Int32).toNatClampNeg)).toNatClampNeg x1) (12 + (w (0 : Int32).toNatClampNeg)).toNatClampNeg x2) (20 + (w (0 : Int32).toNatClampNeg)).toNatClampNeg 1) (28 + (w (0 : Int32).toNatClampNeg)).toNatClampNeg x3) ((36 + (w (0 : Int32).toNatClampNeg)) - 1).toNatClampNeg x4) ((44 + (w (0 : Int32).toNatClampNeg)) - 1).toNatClampNeg x5) ((52 + (w (0 : Int32).toNatClampNeg)) - 1).toNatClampNeg 0))), (a_up, .inl (X.E 1, 8, .inl up)), (a_down, .inl (X.E 1, 8, .inl down)), (a_fell, .inl (X.E 1, 8, .inl fell))]) h 1 rfl g23 rfl dX8_person_170 ?_
                obtain rfl := sj1 hf
                exact G.lsub [1, 0] rfl K127
set_option maxHeartbeats 4000000 in
set_option maxRecDepth 100000 in
theorem ct_X8_isPerson {l : Launch} {D : va_G} {E : Ety} {a a_w a_tape a_lane a_size a_items a_up a_down a_fell a_read a_comesUp a_comesDown a_held : Nat} {x1 : Int32} {isImage : Int32} {taped : Int32} {above : Int32} {below : Int32} {fallen : Int32} {torn : Int32} {at_ : Int32} {start : Int32} {number : Int32} {w : Nat → Int32} {r_ : Int32} (hf : f_X8_isPerson x1 w = some r_) : Ct l yX8_isPerson cX8_isPerson 2 (some .boolean) 1 25 0 0 D E [.ref a, .int x1] [(a, .inr (8, [.ref a_w, .int isImage, .ref a_tape, .int taped, .ref a_lane, .ref a_size, .ref a_items, .ref a_up, .ref a_down, .int above, .int below, .ref a_fell, .int fallen, .int torn, .int at_, .int start, .int number, .ref a_read, .ref a_comesUp, .ref a_comesDown, .ref a_held])), (a_w, .inl (E 1, 1142, .inl w))] (Pn (some (.int r_)) [(a, .inr (8, [.ref a_w, .int isImage, .ref a_tape, .int taped, .ref a_lane, .ref a_size, .ref a_items, .ref a_up, .ref a_down, .int above, .int below, .ref a_fell, .int fallen, .int torn, .int at_, .int start, .int number, .ref a_read, .ref a_comesUp, .ref a_comesDown, .ref a_held])), (a_w, .inl (E 1, 1142, .inl w))]) := by
  refine ct_of (own := RX8) (plainFor_of_name (by decide)) rfl (fle rfl) rfl ?_
  intro X hl hD hE hnL hXF h hR hF hnm
  subst hl; subst hD; subst hE
  have hL : ∀ i, i < 2 → i < X.nL := fun i hi => by rw [hnL]; exact hi
  unfold f_X8_isPerson at hf
  refine g_iload_n h 1 dX8_isPerson_0 rfl rfl ?_
  refine g_i2l h dX8_isPerson_1 ?_
  refine g_lconst (v := 0) h dX8_isPerson_2 rfl ?_
  refine g_aload_n h 0 dX8_isPerson_3 rfl rfl ?_
  refine g_get (ci := 8) (v := .ref a_w) h in_X8 0 0 rfl rfl (fle rfl) rfl q1166 rfl dX8_isPerson_4 ?_
  refine g_iconst (v := 0) h dX8_isPerson_7 kiconst_0 ?_
  refine g_iaload h 1 rfl (by decide) dX8_isPerson_8 ?_
  refine g_iconst (v := 1) h dX8_isPerson_9 kiconst_1 ?_
  refine g_isub h dX8_isPerson_10 ?_
  refine g_i2l h dX8_isPerson_11 ?_
  obtain ⟨r_1, hv, hf⟩ := ob1 hf
  refine g_callS (n := 3) (As := [.long x1.toInt64, .long 0, .long (((w (0 : Int32).toNatClampNeg) - 1).toInt64)]) (st := []) (wr := [(a, .inr (8, [.ref a_w, .int isImage, .ref a_tape, .int taped, .ref a_lane, .ref a_size, .ref a_items, .ref a_up, .ref a_down, .int above, .int below, .ref a_fell, .int fallen, .int torn, .int at_, .int start, .int number, .ref a_read, .ref a_comesUp, .ref a_comesDown, .ref a_held])), (a_w, .inl (X.E 1, 1142, .inl w))]) (isC := []) (isR := [0, 1]) h hR (ct_X8_in (x0 := x1.toInt64) (x2 := 0) (x4 := ((w (0 : Int32).toNatClampNeg) - 1).toInt64) hv) (lw_S q1236 q1237 q80 q1238) (by decide +kernel) rfl ⟨rfl, rfl, rfl, rfl, by decide⟩ ⟨fle rfl, fle rfl, fle rfl, fle rfl, fle rfl⟩ rfl dX8_isPerson_12 (pin (perm := [0, 1]) (ws' := [(a, .inr (8, [.ref a_w, .int isImage, .ref a_tape, .int taped, .ref a_lane, .ref a_size, .ref a_items, .ref a_up, .ref a_down, .int above, .int below, .ref a_fell, .int fallen, .int torn, .int at_, .int start, .int number, .ref a_read, .ref a_comesUp, .ref a_comesDown, .ref a_held])), (a_w, .inl (X.E 1, 1142, .inl w))]) (stk := [.int r_1]) rfl rfl rfl ?_)
  clear hv
  obtain ⟨gz, hf⟩ := gy hf
  obtain rfl := sj1 hf
  exact g_zret h hF (nz gz) [0, 1] rfl rfl ⟨rfl, rfl⟩ (fle rfl) (fle rfl) dX8_isPerson_15
set_option maxHeartbeats 4000000 in
set_option maxRecDepth 100000 in
theorem ct_X8_sideOf {l : Launch} {D : va_G} {E : Ety} {a a_w a_tape a_lane a_size a_items a_up a_down a_fell a_read a_comesUp a_comesDown a_held : Nat} {x1 : Int32} {isImage : Int32} {taped : Int32} {above : Int32} {below : Int32} {fallen : Int32} {torn : Int32} {at_ : Int32} {start : Int32} {number : Int32} {w : Nat → Int32} {up : Nat → Int32} {down : Nat → Int32} {r_ : Int32} {o_above : Int32} {o_below : Int32} {o_up : Nat → Int32} {o_down : Nat → Int32} (hf : f_X8_sideOf x1 w up down = some (r_, o_above, o_below, o_up, o_down)) : Ct l yX8_sideOf cX8_sideOf 2 (some .int) 3 70 0 0 D E [.ref a, .int x1] [(a, .inr (8, [.ref a_w, .int isImage, .ref a_tape, .int taped, .ref a_lane, .ref a_size, .ref a_items, .ref a_up, .ref a_down, .int above, .int below, .ref a_fell, .int fallen, .int torn, .int at_, .int start, .int number, .ref a_read, .ref a_comesUp, .ref a_comesDown, .ref a_held])), (a_w, .inl (E 1, 1142, .inl w)), (a_up, .inl (E 1, 8, .inl up)), (a_down, .inl (E 1, 8, .inl down))] (Pn (some (.int r_)) [(a, .inr (8, [.ref a_w, .int isImage, .ref a_tape, .int taped, .ref a_lane, .ref a_size, .ref a_items, .ref a_up, .ref a_down, .int o_above, .int o_below, .ref a_fell, .int fallen, .int torn, .int at_, .int start, .int number, .ref a_read, .ref a_comesUp, .ref a_comesDown, .ref a_held])), (a_w, .inl (E 1, 1142, .inl w)), (a_up, .inl (E 1, 8, .inl o_up)), (a_down, .inl (E 1, 8, .inl o_down))]) := by
  refine ct_of (own := RX8) (plainFor_of_name (by decide)) rfl (fle rfl) rfl ?_
  intro X hl hD hE hnL hXF h hR hF hnm
  subst hl; subst hD; subst hE
  have hL : ∀ i, i < 2 → i < X.nL := fun i hi => by rw [hnL]; exact hi
  unfold f_X8_sideOf at hf
  refine g_aload_n h 0 dX8_sideOf_0 rfl rfl ?_
  refine g_iconst (v := 0) h dX8_sideOf_1 kiconst_0 ?_
  obtain ⟨up_1, down_2, hv, hf⟩ := ob2 hf
  refine g_callV (ci := 8) (q0 := 0) (n := 1) (As := [.int 0]) (st := []) (wr := []) (isC := [0, 1, 2, 3]) (isR := []) h hR (ct_X8_layPulls (a := a) (a_w := a_w) (a_tape := a_tape) (a_lane := a_lane) (a_size := a_size) (a_items := a_items) (a_up := a_up) (a_down := a_down) (a_fell := a_fell) (a_read := a_read) (a_comesUp := a_comesUp) (a_comesDown := a_comesDown) (a_held := a_held) (x1 := 0) (isImage := isImage) (taped := taped) (above := above) (below := below) (fallen := fallen) (torn := torn) (at_ := at_) (start := start) (number := number) (w := w) (up := up) (down := down) hv) rfl rfl (lw_V q1280 q1282 qs36 q80 q1283) (by decide +kernel) rfl ⟨rfl, rfl, rfl, rfl, by decide⟩ ⟨fle rfl, fle rfl, fle rfl, fle rfl, fle rfl⟩ rfl dX8_sideOf_2 (pin (perm := [0, 1, 2, 3]) (ws' := [(a, .inr (8, [.ref a_w, .int isImage, .ref a_tape, .int taped, .ref a_lane, .ref a_size, .ref a_items, .ref a_up, .ref a_down, .int above, .int below, .ref a_fell, .int fallen, .int torn, .int at_, .int start, .int number, .ref a_read, .ref a_comesUp, .ref a_comesDown, .ref a_held])), (a_w, .inl (X.E 1, 1142, .inl w)), (a_up, .inl (X.E 1, 8, .inl up_1)), (a_down, .inl (X.E 1, 8, .inl down_2))]) (stk := []) rfl rfl rfl ?_)
  clear hv
  refine g_aload_n h 0 dX8_sideOf_5 rfl rfl ?_
  refine g_iconst (v := 0) h dX8_sideOf_6 kiconst_0 ?_
  refine g_iload_n h 1 dX8_sideOf_7 rfl rfl ?_
  obtain ⟨above_3, below_4, hv, hf⟩ := ob2 hf
  refine g_callV (ci := 8) (q0 := 0) (n := 2) (As := [.int 0, .int x1]) (st := []) (wr := []) (isC := [0, 1, 2, 3]) (isR := []) h hR (ct_X8_layPulled (a := a) (a_w := a_w) (a_tape := a_tape) (a_lane := a_lane) (a_size := a_size) (a_items := a_items) (a_up := a_up) (a_down := a_down) (a_fell := a_fell) (a_read := a_read) (a_comesUp := a_comesUp) (a_comesDown := a_comesDown) (a_held := a_held) (x1 := 0) (x2 := x1) (isImage := isImage) (taped := taped) (above := above) (below := below) (fallen := fallen) (torn := torn) (at_ := at_) (start := start) (number := number) (w := w) (up := up_1) (down := down_2) hv) rfl rfl (lw_V q1308 q1310 qs43 q80 q1311) (by decide +kernel) rfl ⟨rfl, rfl, rfl, rfl, by decide⟩ ⟨fle rfl, fle rfl, fle rfl, fle rfl, fle rfl⟩ rfl dX8_sideOf_8 (pin (perm := [0, 1, 2, 3]) (ws' := [(a, .inr (8, [.ref a_w, .int isImage, .ref a_tape, .int taped, .ref a_lane, .ref a_size, .ref a_items, .ref a_up, .ref a_down, .int above_3, .int below_4, .ref a_fell, .int fallen, .int torn, .int at_, .int start, .int number, .ref a_read, .ref a_comesUp, .ref a_comesDown, .ref a_held])), (a_w, .inl (X.E 1, 1142, .inl w)), (a_up, .inl (X.E 1, 8, .inl up_1)), (a_down, .inl (X.E 1, 8, .inl down_2))]) (stk := []) rfl rfl rfl ?_)
  clear hv
  refine g_aload_n h 0 dX8_sideOf_11 rfl rfl ?_
  refine g_get (ci := 8) (v := .int above_3) h in_X8 0 9 rfl rfl (fle rfl) rfl q1175 rfl dX8_sideOf_12 ?_
  refine g_if_le (tgt := 22) h dX8_sideOf_15 rfl hf (fun c5 hf => ?_) (fun c5 hf => ?_)
  · refine g_aload_n h 0 dX8_sideOf_22 rfl rfl ?_
    refine g_get (ci := 8) (v := .int above_3) h in_X8 0 9 rfl rfl (fle rfl) rfl q1175 rfl dX8_sideOf_23 ?_
    refine g_if_ge (tgt := 33) h dX8_sideOf_26 rfl hf (fun c6 hf => ?_) (fun c6 hf => ?_)
    · refine g_iconst (v := 0) h dX8_sideOf_33 kiconst_0 ?_
      obtain ⟨rfl, rfl, rfl, rfl, rfl⟩ := sj5 hf
      exact g_iret h hF [0, 1, 2, 3] rfl rfl ⟨rfl, rfl⟩ (fle rfl) (fle rfl) dX8_sideOf_34
    · refine g_iconst (v := 2) h dX8_sideOf_29 kiconst_2 ?_
      refine g_goto (tgt := 34) h dX8_sideOf_30 rfl ?_
      obtain ⟨rfl, rfl, rfl, rfl, rfl⟩ := sj5 hf
      exact g_iret h hF [0, 1, 2, 3] rfl rfl ⟨rfl, rfl⟩ (fle rfl) (fle rfl) dX8_sideOf_34
  · refine g_iconst (v := 1) h dX8_sideOf_18 kiconst_1 ?_
    refine g_goto (tgt := 34) h dX8_sideOf_19 rfl ?_
    obtain ⟨rfl, rfl, rfl, rfl, rfl⟩ := sj5 hf
    exact g_iret h hF [0, 1, 2, 3] rfl rfl ⟨rfl, rfl⟩ (fle rfl) (fle rfl) dX8_sideOf_34
set_option maxHeartbeats 4000000 in
set_option maxRecDepth 100000 in
theorem ct_X8_of {l : Launch} {D : va_G} {E : Ety} {a a_w a_tape a_lane a_size a_items a_up a_down a_fell a_read a_comesUp a_comesDown a_held : Nat} {x1 : Int32} {x2 : Int32} {isImage : Int32} {taped : Int32} {above : Int32} {below : Int32} {fallen : Int32} {torn : Int32} {at_ : Int32} {start : Int32} {number : Int32} {w : Nat → Int32} {up : Nat → Int32} {down : Nat → Int32} {r_ : Int32} {o_above : Int32} {o_below : Int32} {o_up : Nat → Int32} {o_down : Nat → Int32} (hf : f_X8_of x1 x2 above below w up down = some (r_, o_above, o_below, o_up, o_down)) : Ct l yX8_of cX8_of 3 (some .int) 4 92 0 0 D E [.ref a, .int x1, .int x2] [(a, .inr (8, [.ref a_w, .int isImage, .ref a_tape, .int taped, .ref a_lane, .ref a_size, .ref a_items, .ref a_up, .ref a_down, .int above, .int below, .ref a_fell, .int fallen, .int torn, .int at_, .int start, .int number, .ref a_read, .ref a_comesUp, .ref a_comesDown, .ref a_held])), (a_w, .inl (E 1, 1142, .inl w)), (a_up, .inl (E 1, 8, .inl up)), (a_down, .inl (E 1, 8, .inl down))] (Pn (some (.int r_)) [(a, .inr (8, [.ref a_w, .int isImage, .ref a_tape, .int taped, .ref a_lane, .ref a_size, .ref a_items, .ref a_up, .ref a_down, .int o_above, .int o_below, .ref a_fell, .int fallen, .int torn, .int at_, .int start, .int number, .ref a_read, .ref a_comesUp, .ref a_comesDown, .ref a_held])), (a_w, .inl (E 1, 1142, .inl w)), (a_up, .inl (E 1, 8, .inl o_up)), (a_down, .inl (E 1, 8, .inl o_down))]) := by
  refine ct_of (own := RX8) (plainFor_of_name (by decide)) rfl (fle rfl) rfl ?_
  intro X hl hD hE hnL hXF h hR hF hnm
  subst hl; subst hD; subst hE
  have hL : ∀ i, i < 3 → i < X.nL := fun i hi => by rw [hnL]; exact hi
  unfold f_X8_of at hf
  refine g_aload_n h 0 dX8_of_0 rfl rfl ?_
  refine g_iload_n h 1 dX8_of_1 rfl rfl ?_
  obtain ⟨r_1, hv, hf⟩ := ob1 hf
  refine g_callV (ci := 8) (q0 := 0) (n := 1) (As := [.int x1]) (st := []) (wr := [(a_up, .inl (X.E 1, 8, .inl up)), (a_down, .inl (X.E 1, 8, .inl down))]) (isC := [0, 1]) (isR := [2, 3]) h hR (ct_X8_isPerson (a := a) (a_w := a_w) (a_tape := a_tape) (a_lane := a_lane) (a_size := a_size) (a_items := a_items) (a_up := a_up) (a_down := a_down) (a_fell := a_fell) (a_read := a_read) (a_comesUp := a_comesUp) (a_comesDown := a_comesDown) (a_held := a_held) (x1 := x1) (isImage := isImage) (taped := taped) (above := above) (below := below) (fallen := fallen) (torn := torn) (at_ := at_) (start := start) (number := number) (w := w) hv) rfl rfl (lw_V q1340 q1342 qs45 q80 q1343) (by decide +kernel) rfl ⟨rfl, rfl, rfl, rfl, by decide⟩ ⟨fle rfl, fle rfl, fle rfl, fle rfl, fle rfl⟩ rfl dX8_of_2 (pin (perm := [2, 3, 0, 1]) (ws' := [(a, .inr (8, [.ref a_w, .int isImage, .ref a_tape, .int taped, .ref a_lane, .ref a_size, .ref a_items, .ref a_up, .ref a_down, .int above, .int below, .ref a_fell, .int fallen, .int torn, .int at_, .int start, .int number, .ref a_read, .ref a_comesUp, .ref a_comesDown, .ref a_held])), (a_w, .inl (X.E 1, 1142, .inl w)), (a_up, .inl (X.E 1, 8, .inl up)), (a_down, .inl (X.E 1, 8, .inl down))]) (stk := [.int r_1]) rfl rfl rfl ?_)
  clear hv
  refine g_if_ne (tgt := 10) h dX8_of_5 rfl hf (fun c2 hf => ?_) (fun c2 hf => ?_)
  · refine g_iconst (v := (-1)) h dX8_of_8 kiconst_m1 ?_
    obtain ⟨rfl, rfl, rfl, rfl, rfl⟩ := sj5 hf
    exact g_iret h hF [0, 1, 2, 3] rfl rfl ⟨rfl, rfl⟩ (fle rfl) (fle rfl) dX8_of_9
  · refine g_iload_n h 2 dX8_of_10 rfl rfl ?_
    refine hf_if hf (fun c3 hf => ?_) (fun c3 hf => ?_)
    · refine g_tabIn (c := 0) (tgt := 44) h dX8_of_11 c3 (by decide) (by decide) rfl rfl ?_
      refine g_aload_n h 0 dX8_of_44 rfl rfl ?_
      refine g_get (ci := 8) (v := .ref a_w) h in_X8 0 0 rfl rfl (fle rfl) rfl q1166 rfl dX8_of_45 ?_
      refine g_iconst (v := 4) h dX8_of_48 kiconst_4 ?_
      refine g_iload_n h 1 dX8_of_49 rfl rfl ?_
      refine g_iadd h dX8_of_50 ?_
      obtain ⟨g4, hf⟩ := gn hf
      refine g_iaload h 1 rfl g4 dX8_of_51 ?_
      obtain ⟨rfl, rfl, rfl, rfl, rfl⟩ := sj5 hf
      exact g_iret h hF [0, 1, 2, 3] rfl rfl ⟨rfl, rfl⟩ (fle rfl) (fle rfl) dX8_of_52
    · refine hf_if hf (fun c5 hf => ?_) (fun c5 hf => ?_)
      · refine g_tabIn (c := 1) (tgt := 53) h dX8_of_11 c5 (by decide) (by decide) rfl rfl ?_
        refine g_aload_n h 0 dX8_of_53 rfl rfl ?_
        refine g_get (ci := 8) (v := .ref a_w) h in_X8 0 0 rfl rfl (fle rfl) rfl q1166 rfl dX8_of_54 ?_
        refine g_bipush (v := 12) h dX8_of_57 kbipush_12 ?_
        refine g_iload_n h 1 dX8_of_59 rfl rfl ?_
        refine g_iadd h dX8_of_60 ?_
        obtain ⟨g6, hf⟩ := gn hf
        refine g_iaload h 1 rfl g6 dX8_of_61 ?_
        obtain ⟨rfl, rfl, rfl, rfl, rfl⟩ := sj5 hf
        exact g_iret h hF [0, 1, 2, 3] rfl rfl ⟨rfl, rfl⟩ (fle rfl) (fle rfl) dX8_of_62
      · refine hf_if hf (fun c7 hf => ?_) (fun c7 hf => ?_)
        · refine g_tabIn (c := 2) (tgt := 63) h dX8_of_11 c7 (by decide) (by decide) rfl rfl ?_
          refine g_aload_n h 0 dX8_of_63 rfl rfl ?_
          refine g_get (ci := 8) (v := .ref a_w) h in_X8 0 0 rfl rfl (fle rfl) rfl q1166 rfl dX8_of_64 ?_
          refine g_bipush (v := 20) h dX8_of_67 kbipush_20 ?_
          refine g_iload_n h 1 dX8_of_69 rfl rfl ?_
          refine g_iadd h dX8_of_70 ?_
          obtain ⟨g8, hf⟩ := gn hf
          refine g_iaload h 1 rfl g8 dX8_of_71 ?_
          obtain ⟨rfl, rfl, rfl, rfl, rfl⟩ := sj5 hf
          exact g_iret h hF [0, 1, 2, 3] rfl rfl ⟨rfl, rfl⟩ (fle rfl) (fle rfl) dX8_of_72
        · refine hf_if hf (fun c9 hf => ?_) (fun c9 hf => ?_)
          · refine g_tabIn (c := 3) (tgt := 73) h dX8_of_11 c9 (by decide) (by decide) rfl rfl ?_
            refine g_aload_n h 0 dX8_of_73 rfl rfl ?_
            refine g_iconst (v := 0) h dX8_of_74 kiconst_0 ?_
            refine g_iload_n h 1 dX8_of_75 rfl rfl ?_
            obtain ⟨r_10, hv, hf⟩ := ob1 hf
            refine g_callV (ci := 8) (q0 := 0) (n := 2) (As := [.int 0, .int x1]) (st := []) (wr := [(a_up, .inl (X.E 1, 8, .inl up)), (a_down, .inl (X.E 1, 8, .inl down))]) (isC := [0, 1]) (isR := [2, 3]) h hR (ct_X8_outOf (a := a) (a_w := a_w) (a_tape := a_tape) (a_lane := a_lane) (a_size := a_size) (a_items := a_items) (a_up := a_up) (a_down := a_down) (a_fell := a_fell) (a_read := a_read) (a_comesUp := a_comesUp) (a_comesDown := a_comesDown) (a_held := a_held) (x1 := 0) (x2 := x1) (isImage := isImage) (taped := taped) (above := above) (below := below) (fallen := fallen) (torn := torn) (at_ := at_) (start := start) (number := number) (w := w) hv) rfl rfl (lw_V q1312 q1314 qs44 q80 q1315) (by decide +kernel) rfl ⟨rfl, rfl, rfl, rfl, by decide⟩ ⟨fle rfl, fle rfl, fle rfl, fle rfl, fle rfl⟩ rfl dX8_of_76 (pin (perm := [2, 3, 0, 1]) (ws' := [(a, .inr (8, [.ref a_w, .int isImage, .ref a_tape, .int taped, .ref a_lane, .ref a_size, .ref a_items, .ref a_up, .ref a_down, .int above, .int below, .ref a_fell, .int fallen, .int torn, .int at_, .int start, .int number, .ref a_read, .ref a_comesUp, .ref a_comesDown, .ref a_held])), (a_w, .inl (X.E 1, 1142, .inl w)), (a_up, .inl (X.E 1, 8, .inl up)), (a_down, .inl (X.E 1, 8, .inl down))]) (stk := [.int r_10]) rfl rfl rfl ?_)
            clear hv
            obtain ⟨rfl, rfl, rfl, rfl, rfl⟩ := sj5 hf
            exact g_iret h hF [0, 1, 2, 3] rfl rfl ⟨rfl, rfl⟩ (fle rfl) (fle rfl) dX8_of_79
          · refine hf_if hf (fun c11 hf => ?_) (fun c11 hf => ?_)
            · refine g_tabIn (c := 4) (tgt := 80) h dX8_of_11 c11 (by decide) (by decide) rfl rfl ?_
              refine g_aload_n h 0 dX8_of_80 rfl rfl ?_
              refine g_iload_n h 1 dX8_of_81 rfl rfl ?_
              obtain ⟨r_12, above_13, below_14, up_15, down_16, hv, hf⟩ := ob5 hf
              refine g_callV (ci := 8) (q0 := 0) (n := 1) (As := [.int x1]) (st := []) (wr := []) (isC := [0, 1, 2, 3]) (isR := []) h hR (ct_X8_sideOf (a := a) (a_w := a_w) (a_tape := a_tape) (a_lane := a_lane) (a_size := a_size) (a_items := a_items) (a_up := a_up) (a_down := a_down) (a_fell := a_fell) (a_read := a_read) (a_comesUp := a_comesUp) (a_comesDown := a_comesDown) (a_held := a_held) (x1 := x1) (isImage := isImage) (taped := taped) (above := above) (below := below) (fallen := fallen) (torn := torn) (at_ := at_) (start := start) (number := number) (w := w) (up := up) (down := down) hv) rfl rfl (lw_V q1344 q1346 qs46 q80 q1347) (by decide +kernel) rfl ⟨rfl, rfl, rfl, rfl, by decide⟩ ⟨fle rfl, fle rfl, fle rfl, fle rfl, fle rfl⟩ rfl dX8_of_82 (pin (perm := [0, 1, 2, 3]) (ws' := [(a, .inr (8, [.ref a_w, .int isImage, .ref a_tape, .int taped, .ref a_lane, .ref a_size, .ref a_items, .ref a_up, .ref a_down, .int above_13, .int below_14, .ref a_fell, .int fallen, .int torn, .int at_, .int start, .int number, .ref a_read, .ref a_comesUp, .ref a_comesDown, .ref a_held])), (a_w, .inl (X.E 1, 1142, .inl w)), (a_up, .inl (X.E 1, 8, .inl up_15)), (a_down, .inl (X.E 1, 8, .inl down_16))]) (stk := [.int r_12]) rfl rfl rfl ?_)
              clear hv
              obtain ⟨rfl, rfl, rfl, rfl, rfl⟩ := sj5 hf
              exact g_iret h hF [0, 1, 2, 3] rfl rfl ⟨rfl, rfl⟩ (fle rfl) (fle rfl) dX8_of_85
            · refine g_tabOut (tgt := 86) h dX8_of_11 (tab_out 0 4 (by decide) (by intro c z1 z2; rcases (show c = 0 ∨ c = 1 ∨ c = 2 ∨ c = 3 ∨ c = 4 by omega) with rfl | rfl | rfl | rfl | rfl <;> assumption)) rfl ?_
              refine g_iconst (v := (-1)) h dX8_of_86 kiconst_m1 ?_
              obtain ⟨rfl, rfl, rfl, rfl, rfl⟩ := sj5 hf
              exact g_iret h hF [0, 1, 2, 3] rfl rfl ⟨rfl, rfl⟩ (fle rfl) (fle rfl) dX8_of_87
set_option maxHeartbeats 4000000 in
set_option maxRecDepth 100000 in
theorem w_X8_nextLeft_L4 {X : Cx} {a a_comesDown a_comesUp a_down a_fell a_held a_items a_lane a_read a_size a_tape a_up a_w : Nat} {x1 : Int32} {isImage : Int32} {taped : Int32} {above : Int32} {below : Int32} {fallen : Int32} {torn : Int32} {at_ : Int32} {start : Int32} {number : Int32} {w : Nat → Int32} {ce sl : Nat} (h : Ok X cX8_nextLeft RX8) (hR : Rm X 1 22 0 0) (hL : ∀ i, i < 4 → i < X.nL) (hce : ce ≤ 0) (hsl : sl ≤ 0) : ∀ (n0 : Nat) (x3 : Int32) {otag : Nat} {o_x3 : Int32}, f_X8_nextLeft_L4 x1 w n0 x3 = some (otag, o_x3) → (otag = 0 → G X [(a, .inr (8, [.ref a_w, .int isImage, .ref a_tape, .int taped, .ref a_lane, .ref a_size, .ref a_items, .ref a_up, .ref a_down, .int above, .int below, .ref a_fell, .int fallen, .int torn, .int at_, .int start, .int number, .ref a_read, .ref a_comesUp, .ref a_comesDown, .ref a_held])), (a_w, .inl (X.E 1, 1142, .inl w))] [] ce sl 23 []) → (otag = 1 → G X [(a, .inr (8, [.ref a_w, .int isImage, .ref a_tape, .int taped, .ref a_lane, .ref a_size, .ref a_items, .ref a_up, .ref a_down, .int above, .int below, .ref a_fell, .int fallen, .int torn, .int at_, .int start, .int number, .ref a_read, .ref a_comesUp, .ref a_comesDown, .ref a_held])), (a_w, .inl (X.E 1, 1142, .inl w))] [(3, .int o_x3)] ce sl 35 []) → (otag = 2 → G X [(a, .inr (8, [.ref a_w, .int isImage, .ref a_tape, .int taped, .ref a_lane, .ref a_size, .ref a_items, .ref a_up, .ref a_down, .int above, .int below, .ref a_fell, .int fallen, .int torn, .int at_, .int start, .int number, .ref a_read, .ref a_comesUp, .ref a_comesDown, .ref a_held])), (a_w, .inl (X.E 1, 1142, .inl w))] [] ce sl 43 []) → G X [(a, .inr (8, [.ref a_w, .int isImage, .ref a_tape, .int taped, .ref a_lane, .ref a_size, .ref a_items, .ref a_up, .ref a_down, .int above, .int below, .ref a_fell, .int fallen, .int torn, .int at_, .int start, .int number, .ref a_read, .ref a_comesUp, .ref a_comesDown, .ref a_held])), (a_w, .inl (X.E 1, 1142, .inl w))] [(0, .ref a), (1, .int x1), (3, .int x3)] ce sl 4 [] := by
  intro n0
  induction n0 with
  | zero => intro x3 otag o_x3 hf; exact nomatch (show (none : Option _) = some _ from hf)
  | succ n0 ih =>
    intro x3 otag o_x3 hf k0 k1 k2
    replace hf : t_X8_nextLeft_L4 x1 w (f_X8_nextLeft_L4 x1 w n0) x3 = some (otag, o_x3) := hf
    unfold t_X8_nextLeft_L4 at hf
    refine g_iload_n h 2 dX8_nextLeft_4 rfl rfl ?_
    refine g_if_lt (tgt := 43) h dX8_nextLeft_5 rfl hf (fun c1 hf => ?_) (fun c1 hf => ?_)
    · obtain ⟨rfl, rfl⟩ := sj2 hf
      exact G.lsub [] rfl (k2 rfl)
    · refine g_aload_n h 0 dX8_nextLeft_8 rfl rfl ?_
      refine g_get (ci := 8) (v := .ref a_w) h in_X8 0 0 rfl rfl (fle rfl) rfl q1166 rfl dX8_nextLeft_9 ?_
      refine g_iload_n h 1 dX8_nextLeft_12 rfl rfl ?_
      refine g_bipush (v := 52) h dX8_nextLeft_13 kbipush_52 ?_
      refine g_iadd h dX8_nextLeft_15 ?_
      refine g_iload_n h 2 dX8_nextLeft_16 rfl rfl ?_
      refine g_iadd h dX8_nextLeft_17 ?_
      obtain ⟨g2, hf⟩ := gn hf
      refine g_iaload h 1 rfl g2 dX8_nextLeft_18 ?_
      refine g_iconst (v := 1) h dX8_nextLeft_19 kiconst_1 ?_
      refine g_icmp_ne (tgt := 26) h dX8_nextLeft_20 rfl hf (fun c3 hf => ?_) (fun c3 hf => ?_)
      · obtain ⟨rfl, rfl⟩ := sj2 hf
        exact G.lsub [] rfl (k0 rfl)
      · refine g_aload_n h 0 dX8_nextLeft_26 rfl rfl ?_
        refine g_iload_n h 1 dX8_nextLeft_27 rfl rfl ?_
        refine g_iload_n h 2 dX8_nextLeft_28 rfl rfl ?_
        obtain ⟨r_4, hv, hf⟩ := ob1 hf
        refine g_callV (ci := 8) (q0 := 0) (n := 2) (As := [.int x1, .int x3]) (st := []) (wr := []) (isC := [0, 1]) (isR := []) h hR (ct_X8_holds (a := a) (a_w := a_w) (a_tape := a_tape) (a_lane := a_lane) (a_size := a_size) (a_items := a_items) (a_up := a_up) (a_down := a_down) (a_fell := a_fell) (a_read := a_read) (a_comesUp := a_comesUp) (a_comesDown := a_comesDown) (a_held := a_held) (x1 := x1) (x2 := x3) (isImage := isImage) (taped := taped) (above := above) (below := below) (fallen := fallen) (torn := torn) (at_ := at_) (start := start) (number := number) (w := w) hv) rfl rfl (lw_V q1284 q1286 qs37 q80 q1287) (by decide +kernel) rfl ⟨rfl, rfl, rfl, rfl, by decide⟩ ⟨hce, hsl, fle rfl, fle rfl, fle rfl⟩ rfl dX8_nextLeft_29 (pin (perm := [0, 1]) (ws' := [(a, .inr (8, [.ref a_w, .int isImage, .ref a_tape, .int taped, .ref a_lane, .ref a_size, .ref a_items, .ref a_up, .ref a_down, .int above, .int below, .ref a_fell, .int fallen, .int torn, .int at_, .int start, .int number, .ref a_read, .ref a_comesUp, .ref a_comesDown, .ref a_held])), (a_w, .inl (X.E 1, 1142, .inl w))]) (stk := [.int r_4]) rfl rfl rfl ?_)
        clear hv
        refine g_if_eq (tgt := 37) h dX8_nextLeft_32 rfl hf (fun c5 hf => ?_) (fun c5 hf => ?_)
        · refine g_iinc (j := 2) (v := (x3 + (-1))) (lv' := [(3, .int (x3 + (-1))), (0, .ref a), (1, .int x1)]) h dX8_nextLeft_37 rfl (kinc_m1 _) (hL 3 (fle rfl)) rfl ?_
          refine g_goto (tgt := 4) h dX8_nextLeft_40 rfl ?_
          exact G.lsub [1, 2, 0] rfl (ih _ hf k0 k1 k2)
        · obtain ⟨rfl, rfl⟩ := sj2 hf
          exact G.lsub [2] rfl (k1 rfl)
set_option maxHeartbeats 4000000 in
set_option maxRecDepth 100000 in
theorem ct_X8_nextLeft {l : Launch} {D : va_G} {E : Ety} {a a_w a_tape a_lane a_size a_items a_up a_down a_fell a_read a_comesUp a_comesDown a_held : Nat} {x1 : Int32} {x2 : Int32} {isImage : Int32} {taped : Int32} {above : Int32} {below : Int32} {fallen : Int32} {torn : Int32} {at_ : Int32} {start : Int32} {number : Int32} {w : Nat → Int32} {r_ : Int32} (hf : f_X8_nextLeft x1 x2 w = some r_) : Ct l yX8_nextLeft cX8_nextLeft 4 (some .int) 1 22 0 0 D E [.ref a, .int x1, .int x2] [(a, .inr (8, [.ref a_w, .int isImage, .ref a_tape, .int taped, .ref a_lane, .ref a_size, .ref a_items, .ref a_up, .ref a_down, .int above, .int below, .ref a_fell, .int fallen, .int torn, .int at_, .int start, .int number, .ref a_read, .ref a_comesUp, .ref a_comesDown, .ref a_held])), (a_w, .inl (E 1, 1142, .inl w))] (Pn (some (.int r_)) [(a, .inr (8, [.ref a_w, .int isImage, .ref a_tape, .int taped, .ref a_lane, .ref a_size, .ref a_items, .ref a_up, .ref a_down, .int above, .int below, .ref a_fell, .int fallen, .int torn, .int at_, .int start, .int number, .ref a_read, .ref a_comesUp, .ref a_comesDown, .ref a_held])), (a_w, .inl (E 1, 1142, .inl w))]) := by
  refine ct_of (own := RX8) (plainFor_of_name (by decide)) rfl (fle rfl) rfl ?_
  intro X hl hD hE hnL hXF h hR hF hnm
  subst hl; subst hD; subst hE
  have hL : ∀ i, i < 4 → i < X.nL := fun i hi => by rw [hnL]; exact hi
  unfold f_X8_nextLeft at hf
  refine g_iload_n h 2 dX8_nextLeft_0 rfl rfl ?_
  refine g_iconst (v := 1) h dX8_nextLeft_1 kiconst_1 ?_
  refine g_isub h dX8_nextLeft_2 ?_
  refine g_istore_n (lv' := [(3, .int (x2 - 1)), (0, .ref a), (1, .int x1), (2, .int x2)]) h dX8_nextLeft_3 rfl (hL 3 (fle rfl)) rfl ?_
  refine G.lsub (lv' := [(0, .ref a), (1, .int x1), (3, .int (x2 - 1))]) [1, 2, 0] rfl ?_
  obtain ⟨tag_6, x3_7, hv, hf⟩ := ob2 hf
  refine w_X8_nextLeft_L4 (x1 := x1) (isImage := isImage) (taped := taped) (above := above) (below := below) (fallen := fallen) (torn := torn) (at_ := at_) (start := start) (number := number) (w := w) h hR hL (fle rfl) (fle rfl) FU _ hv ?_ ?_ ?_
  · intro ht
    have hf := (if_pos ht).symm.trans hf
    clear hv
    refine g_bipush (v := (-4)) h dX8_nextLeft_23 kbipush_m4 ?_
    obtain rfl := sj1 hf
    exact g_iret h hF [0, 1] rfl rfl ⟨rfl, rfl⟩ (fle rfl) (fle rfl) dX8_nextLeft_25
  · intro ht
    have hf := (if_neg (show ¬ tag_6 = 0 from by rw [ht]; decide)).symm.trans hf
    have hf := (if_pos ht).symm.trans hf
    clear hv
    refine g_iload_n h 0 dX8_nextLeft_35 rfl rfl ?_
    obtain rfl := sj1 hf
    exact g_iret h hF [0, 1] rfl rfl ⟨rfl, rfl⟩ (fle rfl) (fle rfl) dX8_nextLeft_36
  · intro ht
    have hf := (if_neg (show ¬ tag_6 = 0 from by rw [ht]; decide)).symm.trans hf
    have hf := (if_neg (show ¬ tag_6 = 1 from by rw [ht]; decide)).symm.trans hf
    clear hv
    refine g_bipush (v := (-4)) h dX8_nextLeft_43 kbipush_m4 ?_
    obtain rfl := sj1 hf
    exact g_iret h hF [0, 1] rfl rfl ⟨rfl, rfl⟩ (fle rfl) (fle rfl) dX8_nextLeft_45
set_option maxHeartbeats 4000000 in
set_option maxRecDepth 100000 in
theorem ct_X8_layPlace {l : Launch} {D : va_G} {E : Ety} {a a_w a_tape a_lane a_size a_items a_up a_down a_fell a_read a_comesUp a_comesDown a_held : Nat} {x1 : Int32} {x2 : Int32} {isImage : Int32} {taped : Int32} {above : Int32} {below : Int32} {fallen : Int32} {torn : Int32} {at_ : Int32} {start : Int32} {number : Int32} {w : Nat → Int32} {up : Nat → Int32} {down : Nat → Int32} {o_above : Int32} {o_below : Int32} {o_up : Nat → Int32} {o_down : Nat → Int32} (hf : f_X8_layPlace x1 x2 w up down = some (o_above, o_below, o_up, o_down)) : Ct l yX8_layPlace cX8_layPlace 5 none 3 70 0 0 D E [.ref a, .int x1, .int x2] [(a, .inr (8, [.ref a_w, .int isImage, .ref a_tape, .int taped, .ref a_lane, .ref a_size, .ref a_items, .ref a_up, .ref a_down, .int above, .int below, .ref a_fell, .int fallen, .int torn, .int at_, .int start, .int number, .ref a_read, .ref a_comesUp, .ref a_comesDown, .ref a_held])), (a_w, .inl (E 1, 1142, .inl w)), (a_up, .inl (E 1, 8, .inl up)), (a_down, .inl (E 1, 8, .inl down))] (Pn none [(a, .inr (8, [.ref a_w, .int isImage, .ref a_tape, .int taped, .ref a_lane, .ref a_size, .ref a_items, .ref a_up, .ref a_down, .int o_above, .int o_below, .ref a_fell, .int fallen, .int torn, .int at_, .int start, .int number, .ref a_read, .ref a_comesUp, .ref a_comesDown, .ref a_held])), (a_w, .inl (E 1, 1142, .inl w)), (a_up, .inl (E 1, 8, .inl o_up)), (a_down, .inl (E 1, 8, .inl o_down))]) := by
  refine ct_of (own := RX8) (plainFor_of_name (by decide)) rfl (fle rfl) rfl ?_
  intro X hl hD hE hnL hXF h hR hF hnm
  subst hl; subst hD; subst hE
  have hL : ∀ i, i < 5 → i < X.nL := fun i hi => by rw [hnL]; exact hi
  unfold f_X8_layPlace at hf
  refine g_aload_n h 0 dX8_layPlace_0 rfl rfl ?_
  refine g_iconst (v := 1) h dX8_layPlace_1 kiconst_1 ?_
  refine g_put (ci := 8) (ty := tyX8 10) (ws' := [(a, .inr (8, [.ref a_w, .int isImage, .ref a_tape, .int taped, .ref a_lane, .ref a_size, .ref a_items, .ref a_up, .ref a_down, .int above, .int 1, .ref a_fell, .int fallen, .int torn, .int at_, .int start, .int number, .ref a_read, .ref a_comesUp, .ref a_comesDown, .ref a_held])), (a_w, .inl (X.E 1, 1142, .inl w)), (a_up, .inl (X.E 1, 8, .inl up)), (a_down, .inl (X.E 1, 8, .inl down))]) h in_X8 tyX8 tyX8_ok nmX8 0 10 rfl rfl (fle rfl) ⟨rfl, rfl⟩ q1176 rfl rfl rfl (fle rfl) rfl dX8_layPlace_2 ?_
  refine g_aload_n h 0 dX8_layPlace_5 rfl rfl ?_
  refine g_aload_n h 0 dX8_layPlace_6 rfl rfl ?_
  refine g_get (ci := 8) (v := .ref a_w) h in_X8 0 0 rfl rfl (fle rfl) rfl q1166 rfl dX8_layPlace_7 ?_
  refine g_iload_n h 1 dX8_layPlace_10 rfl rfl ?_
  refine g_bipush (v := 28) h dX8_layPlace_11 kbipush_28 ?_
  refine g_iadd h dX8_layPlace_13 ?_
  refine g_iload_n h 2 dX8_layPlace_14 rfl rfl ?_
  refine g_iadd h dX8_layPlace_15 ?_
  obtain ⟨g1, hf⟩ := gn hf
  refine g_iaload h 1 rfl g1 dX8_layPlace_16 ?_
  refine g_put (ci := 8) (ty := tyX8 9) (ws' := [(a, .inr (8, [.ref a_w, .int isImage, .ref a_tape, .int taped, .ref a_lane, .ref a_size, .ref a_items, .ref a_up, .ref a_down, .int (w ((x1 + 28) + x2).toNatClampNeg), .int 1, .ref a_fell, .int fallen, .int torn, .int at_, .int start, .int number, .ref a_read, .ref a_comesUp, .ref a_comesDown, .ref a_held])), (a_w, .inl (X.E 1, 1142, .inl w)), (a_up, .inl (X.E 1, 8, .inl up)), (a_down, .inl (X.E 1, 8, .inl down))]) h in_X8 tyX8 tyX8_ok nmX8 0 9 rfl rfl (fle rfl) ⟨rfl, rfl⟩ q1175 rfl rfl rfl (fle rfl) rfl dX8_layPlace_17 ?_
  refine g_aload_n h 0 dX8_layPlace_20 rfl rfl ?_
  refine g_iload_n h 1 dX8_layPlace_21 rfl rfl ?_
  refine g_iload_n h 2 dX8_layPlace_22 rfl rfl ?_
  obtain ⟨r_2, hv, hf⟩ := ob1 hf
  refine g_callV (ci := 8) (q0 := 0) (n := 2) (As := [.int x1, .int x2]) (st := []) (wr := [(a_up, .inl (X.E 1, 8, .inl up)), (a_down, .inl (X.E 1, 8, .inl down))]) (isC := [0, 1]) (isR := [2, 3]) h hR (ct_X8_holds (a := a) (a_w := a_w) (a_tape := a_tape) (a_lane := a_lane) (a_size := a_size) (a_items := a_items) (a_up := a_up) (a_down := a_down) (a_fell := a_fell) (a_read := a_read) (a_comesUp := a_comesUp) (a_comesDown := a_comesDown) (a_held := a_held) (x1 := x1) (x2 := x2) (isImage := isImage) (taped := taped) (above := (w ((x1 + 28) + x2).toNatClampNeg)) (below := 1) (fallen := fallen) (torn := torn) (at_ := at_) (start := start) (number := number) (w := w) hv) rfl rfl (lw_V q1284 q1286 qs37 q80 q1287) (by decide +kernel) rfl ⟨rfl, rfl, rfl, rfl, by decide⟩ ⟨fle rfl, fle rfl, fle rfl, fle rfl, fle rfl⟩ rfl dX8_layPlace_23 (pin (perm := [2, 3, 0, 1]) (ws' := [(a, .inr (8, [.ref a_w, .int isImage, .ref a_tape, .int taped, .ref a_lane, .ref a_size, .ref a_items, .ref a_up, .ref a_down, .int (w ((x1 + 28) + x2).toNatClampNeg), .int 1, .ref a_fell, .int fallen, .int torn, .int at_, .int start, .int number, .ref a_read, .ref a_comesUp, .ref a_comesDown, .ref a_held])), (a_w, .inl (X.E 1, 1142, .inl w)), (a_up, .inl (X.E 1, 8, .inl up)), (a_down, .inl (X.E 1, 8, .inl down))]) (stk := [.int r_2]) rfl rfl rfl ?_)
  clear hv
  refine g_if_ne (tgt := 162) h dX8_layPlace_26 rfl hf (fun c3 hf => ?_) (fun c3 hf => ?_)
  · refine g_aload_n h 0 dX8_layPlace_29 rfl rfl ?_
    refine g_iload_n h 1 dX8_layPlace_30 rfl rfl ?_
    refine g_iload_n h 2 dX8_layPlace_31 rfl rfl ?_
    obtain ⟨r_4, hv, hf⟩ := ob1 hf
    refine g_callV (ci := 8) (q0 := 0) (n := 2) (As := [.int x1, .int x2]) (st := []) (wr := [(a_up, .inl (X.E 1, 8, .inl up)), (a_down, .inl (X.E 1, 8, .inl down))]) (isC := [0, 1]) (isR := [2, 3]) h hR (ct_X8_nextLeft (a := a) (a_w := a_w) (a_tape := a_tape) (a_lane := a_lane) (a_size := a_size) (a_items := a_items) (a_up := a_up) (a_down := a_down) (a_fell := a_fell) (a_read := a_read) (a_comesUp := a_comesUp) (a_comesDown := a_comesDown) (a_held := a_held) (x1 := x1) (x2 := x2) (isImage := isImage) (taped := taped) (above := (w ((x1 + 28) + x2).toNatClampNeg)) (below := 1) (fallen := fallen) (torn := torn) (at_ := at_) (start := start) (number := number) (w := w) hv) rfl rfl (lw_V q1356 q1358 qs48 q80 q1359) (by decide +kernel) rfl ⟨rfl, rfl, rfl, rfl, by decide⟩ ⟨fle rfl, fle rfl, fle rfl, fle rfl, fle rfl⟩ rfl dX8_layPlace_32 (pin (perm := [2, 3, 0, 1]) (ws' := [(a, .inr (8, [.ref a_w, .int isImage, .ref a_tape, .int taped, .ref a_lane, .ref a_size, .ref a_items, .ref a_up, .ref a_down, .int (w ((x1 + 28) + x2).toNatClampNeg), .int 1, .ref a_fell, .int fallen, .int torn, .int at_, .int start, .int number, .ref a_read, .ref a_comesUp, .ref a_comesDown, .ref a_held])), (a_w, .inl (X.E 1, 1142, .inl w)), (a_up, .inl (X.E 1, 8, .inl up)), (a_down, .inl (X.E 1, 8, .inl down))]) (stk := [.int r_4]) rfl rfl rfl ?_)
    clear hv
    refine g_istore_n (lv' := [(3, .int r_4), (0, .ref a), (1, .int x1), (2, .int x2)]) h dX8_layPlace_35 rfl (hL 3 (fle rfl)) rfl ?_
    refine g_aload_n h 1 dX8_layPlace_36 rfl rfl ?_
    refine g_iload_n h 2 dX8_layPlace_37 rfl rfl ?_
    refine g_iload_n h 3 dX8_layPlace_38 rfl rfl ?_
    obtain ⟨r_5, hv, hf⟩ := ob1 hf
    refine g_callV (ci := 8) (q0 := 0) (n := 2) (As := [.int x1, .int x2]) (st := []) (wr := [(a_up, .inl (X.E 1, 8, .inl up)), (a_down, .inl (X.E 1, 8, .inl down))]) (isC := [0, 1]) (isR := [2, 3]) h hR (ct_X8_nextRight (a := a) (a_w := a_w) (a_tape := a_tape) (a_lane := a_lane) (a_size := a_size) (a_items := a_items) (a_up := a_up) (a_down := a_down) (a_fell := a_fell) (a_read := a_read) (a_comesUp := a_comesUp) (a_comesDown := a_comesDown) (a_held := a_held) (x1 := x1) (x2 := x2) (isImage := isImage) (taped := taped) (above := (w ((x1 + 28) + x2).toNatClampNeg)) (below := 1) (fallen := fallen) (torn := torn) (at_ := at_) (start := start) (number := number) (w := w) hv) rfl rfl (lw_V q1288 q1290 qs38 q80 q1291) (by decide +kernel) rfl ⟨rfl, rfl, rfl, rfl, by decide⟩ ⟨fle rfl, fle rfl, fle rfl, fle rfl, fle rfl⟩ rfl dX8_layPlace_39 (pin (perm := [2, 3, 0, 1]) (ws' := [(a, .inr (8, [.ref a_w, .int isImage, .ref a_tape, .int taped, .ref a_lane, .ref a_size, .ref a_items, .ref a_up, .ref a_down, .int (w ((x1 + 28) + x2).toNatClampNeg), .int 1, .ref a_fell, .int fallen, .int torn, .int at_, .int start, .int number, .ref a_read, .ref a_comesUp, .ref a_comesDown, .ref a_held])), (a_w, .inl (X.E 1, 1142, .inl w)), (a_up, .inl (X.E 1, 8, .inl up)), (a_down, .inl (X.E 1, 8, .inl down))]) (stk := [.int r_5]) rfl rfl rfl ?_)
    clear hv
    refine g_istore (lv' := [(4, .int r_5), (3, .int r_4), (0, .ref a), (1, .int x1), (2, .int x2)]) h dX8_layPlace_42 (hL 4 (fle rfl)) rfl ?_
    refine g_aload_n h 2 dX8_layPlace_44 rfl rfl ?_
    refine g_iload_n h 1 dX8_layPlace_45 rfl rfl ?_
    obtain ⟨z_10, hw, hf⟩ := ob1 hf
    have K46 : G X [(a, .inr (8, [.ref a_w, .int isImage, .ref a_tape, .int taped, .ref a_lane, .ref a_size, .ref a_items, .ref a_up, .ref a_down, .int (w ((x1 + 28) + x2).toNatClampNeg), .int 1, .ref a_fell, .int fallen, .int torn, .int at_, .int start, .int number, .ref a_read, .ref a_comesUp, .ref a_comesDown, .ref a_held])), (a_w, .inl (X.E 1, 1142, .inl w)), (a_up, .inl (X.E 1, 8, .inl up)), (a_down, .inl (X.E 1, 8, .inl down))] [(0, .ref a), (1, .int x1), (2, .int x2), (3, .int r_4), (4, .int r_5)] 0 0 84 [.int z_10, .ref a] := by
      clear hw
      refine g_put (ci := 8) (ty := tyX8 9) (ws' := [(a, .inr (8, [.ref a_w, .int isImage, .ref a_tape, .int taped, .ref a_lane, .ref a_size, .ref a_items, .ref a_up, .ref a_down, .int z_10, .int 1, .ref a_fell, .int fallen, .int torn, .int at_, .int start, .int number, .ref a_read, .ref a_comesUp, .ref a_comesDown, .ref a_held])), (a_w, .inl (X.E 1, 1142, .inl w)), (a_up, .inl (X.E 1, 8, .inl up)), (a_down, .inl (X.E 1, 8, .inl down))]) h in_X8 tyX8 tyX8_ok nmX8 0 9 rfl rfl (fle rfl) ⟨rfl, rfl⟩ q1175 rfl rfl rfl (fle rfl) rfl dX8_layPlace_84 ?_
      refine g_aload_n h 0 dX8_layPlace_87 rfl rfl ?_
      refine g_iload_n h 1 dX8_layPlace_88 rfl rfl ?_
      obtain ⟨up_14, down_15, hv, hf⟩ := ob2 hf
      refine g_callV (ci := 8) (q0 := 0) (n := 1) (As := [.int x1]) (st := []) (wr := []) (isC := [0, 1, 2, 3]) (isR := []) h hR (ct_X8_layPulls (a := a) (a_w := a_w) (a_tape := a_tape) (a_lane := a_lane) (a_size := a_size) (a_items := a_items) (a_up := a_up) (a_down := a_down) (a_fell := a_fell) (a_read := a_read) (a_comesUp := a_comesUp) (a_comesDown := a_comesDown) (a_held := a_held) (x1 := x1) (isImage := isImage) (taped := taped) (above := z_10) (below := 1) (fallen := fallen) (torn := torn) (at_ := at_) (start := start) (number := number) (w := w) (up := up) (down := down) hv) rfl rfl (lw_V q1280 q1282 qs36 q80 q1283) (by decide +kernel) rfl ⟨rfl, rfl, rfl, rfl, by decide⟩ ⟨fle rfl, fle rfl, fle rfl, fle rfl, fle rfl⟩ rfl dX8_layPlace_89 (pin (perm := [0, 1, 2, 3]) (ws' := [(a, .inr (8, [.ref a_w, .int isImage, .ref a_tape, .int taped, .ref a_lane, .ref a_size, .ref a_items, .ref a_up, .ref a_down, .int z_10, .int 1, .ref a_fell, .int fallen, .int torn, .int at_, .int start, .int number, .ref a_read, .ref a_comesUp, .ref a_comesDown, .ref a_held])), (a_w, .inl (X.E 1, 1142, .inl w)), (a_up, .inl (X.E 1, 8, .inl up_14)), (a_down, .inl (X.E 1, 8, .inl down_15))]) (stk := []) rfl rfl rfl ?_)
      clear hv
      refine g_iload_n h 3 dX8_layPlace_92 rfl rfl ?_
      refine g_if_lt (tgt := 162) h dX8_layPlace_93 rfl hf (fun c16 hf => ?_) (fun c16 hf => ?_)
      · obtain ⟨rfl, rfl, rfl, rfl⟩ := sj4 hf
        exact g_vret h hF [0, 1, 2, 3] rfl rfl ⟨rfl, rfl⟩ (fle rfl) (fle rfl) dX8_layPlace_162
      · refine g_iload h 4 dX8_layPlace_96 rfl ?_
        refine g_if_lt (tgt := 162) h dX8_layPlace_98 rfl hf (fun c17 hf => ?_) (fun c17 hf => ?_)
        · obtain ⟨rfl, rfl, rfl, rfl⟩ := sj4 hf
          exact g_vret h hF [0, 1, 2, 3] rfl rfl ⟨rfl, rfl⟩ (fle rfl) (fle rfl) dX8_layPlace_162
        · refine g_aload_n h 0 dX8_layPlace_101 rfl rfl ?_
          refine g_get (ci := 8) (v := .ref a_up) h in_X8 0 7 rfl rfl (fle rfl) rfl q1173 rfl dX8_layPlace_102 ?_
          refine g_iload_n h 3 dX8_layPlace_105 rfl rfl ?_
          obtain ⟨g18, hf⟩ := gn hf
          refine g_iaload h 2 rfl g18 dX8_layPlace_106 ?_
          refine g_if_le (tgt := 162) h dX8_layPlace_107 rfl hf (fun c19 hf => ?_) (fun c19 hf => ?_)
          · obtain ⟨rfl, rfl, rfl, rfl⟩ := sj4 hf
            exact g_vret h hF [0, 1, 2, 3] rfl rfl ⟨rfl, rfl⟩ (fle rfl) (fle rfl) dX8_layPlace_162
          · refine g_aload_n h 0 dX8_layPlace_110 rfl rfl ?_
            refine g_aload_n h 0 dX8_layPlace_111 rfl rfl ?_
            refine g_get (ci := 8) (v := .ref a_down) h in_X8 0 8 rfl rfl (fle rfl) rfl q1174 rfl dX8_layPlace_112 ?_
            refine g_iload_n h 3 dX8_layPlace_115 rfl rfl ?_
            refine g_iaload h 3 rfl g18 dX8_layPlace_116 ?_
            refine g_put (ci := 8) (ty := tyX8 10) (ws' := [(a, .inr (8, [.ref a_w, .int isImage, .ref a_tape, .int taped, .ref a_lane, .ref a_size, .ref a_items, .ref a_up, .ref a_down, .int z_10, .int (down_15 r_4.toNatClampNeg), .ref a_fell, .int fallen, .int torn, .int at_, .int start, .int number, .ref a_read, .ref a_comesUp, .ref a_comesDown, .ref a_held])), (a_w, .inl (X.E 1, 1142, .inl w)), (a_up, .inl (X.E 1, 8, .inl up_14)), (a_down, .inl (X.E 1, 8, .inl down_15))]) h in_X8 tyX8 tyX8_ok nmX8 0 10 rfl rfl (fle rfl) ⟨rfl, rfl⟩ q1176 rfl rfl rfl (fle rfl) rfl dX8_layPlace_117 ?_
            refine g_aload_n h 0 dX8_layPlace_120 rfl rfl ?_
            refine g_aload_n h 0 dX8_layPlace_121 rfl rfl ?_
            refine g_get (ci := 8) (v := .int z_10) h in_X8 0 9 rfl rfl (fle rfl) rfl q1175 rfl dX8_layPlace_122 ?_
            refine g_aload_n h 0 dX8_layPlace_125 rfl rfl ?_
            refine g_iload_n h 1 dX8_layPlace_126 rfl rfl ?_
            refine g_bipush (v := 36) h dX8_layPlace_127 kbipush_36 ?_
            refine g_iadd h dX8_layPlace_129 ?_
            refine g_iload_n h 3 dX8_layPlace_130 rfl rfl ?_
            refine g_iload_n h 2 dX8_layPlace_131 rfl rfl ?_
            obtain ⟨r_20, hv, hf⟩ := ob1 hf
            refine g_callV (ci := 8) (q0 := 0) (n := 3) (As := [.int (x1 + 36), .int r_4, .int x2]) (st := [.int z_10, .ref a]) (wr := [(a_up, .inl (X.E 1, 8, .inl up_14)), (a_down, .inl (X.E 1, 8, .inl down_15))]) (isC := [0, 1]) (isR := [2, 3]) h hR (ct_X8_sumOf (a := a) (a_w := a_w) (a_tape := a_tape) (a_lane := a_lane) (a_size := a_size) (a_items := a_items) (a_up := a_up) (a_down := a_down) (a_fell := a_fell) (a_read := a_read) (a_comesUp := a_comesUp) (a_comesDown := a_comesDown) (a_held := a_held) (x1 := (x1 + 36)) (x2 := r_4) (x3 := x2) (isImage := isImage) (taped := taped) (above := z_10) (below := (down_15 r_4.toNatClampNeg)) (fallen := fallen) (torn := torn) (at_ := at_) (start := start) (number := number) (w := w) hv) rfl rfl (lw_V q1292 q1294 qs39 q80 q1295) (by decide +kernel) rfl ⟨rfl, rfl, rfl, rfl, by decide⟩ ⟨fle rfl, fle rfl, fle rfl, fle rfl, fle rfl⟩ rfl dX8_layPlace_132 (pin (perm := [2, 3, 0, 1]) (ws' := [(a, .inr (8, [.ref a_w, .int isImage, .ref a_tape, .int taped, .ref a_lane, .ref a_size, .ref a_items, .ref a_up, .ref a_down, .int z_10, .int (down_15 r_4.toNatClampNeg), .ref a_fell, .int fallen, .int torn, .int at_, .int start, .int number, .ref a_read, .ref a_comesUp, .ref a_comesDown, .ref a_held])), (a_w, .inl (X.E 1, 1142, .inl w)), (a_up, .inl (X.E 1, 8, .inl up_14)), (a_down, .inl (X.E 1, 8, .inl down_15))]) (stk := [.int r_20, .int z_10, .ref a]) rfl rfl rfl ?_)
            clear hv
            refine g_iadd h dX8_layPlace_135 ?_
            refine g_aload_n h 0 dX8_layPlace_136 rfl rfl ?_
            refine g_get (ci := 8) (v := .int (down_15 r_4.toNatClampNeg)) h in_X8 0 10 rfl rfl (fle rfl) rfl q1176 rfl dX8_layPlace_137 ?_
            refine g_imul h dX8_layPlace_140 ?_
            refine g_aload_n h 0 dX8_layPlace_141 rfl rfl ?_
            refine g_get (ci := 8) (v := .ref a_up) h in_X8 0 7 rfl rfl (fle rfl) rfl q1173 rfl dX8_layPlace_142 ?_
            refine g_iload_n h 3 dX8_layPlace_145 rfl rfl ?_
            refine g_iaload h 2 rfl g18 dX8_layPlace_146 ?_
            refine g_aload_n h 0 dX8_layPlace_147 rfl rfl ?_
            refine g_iload_n h 1 dX8_layPlace_148 rfl rfl ?_
            refine g_bipush (v := 44) h dX8_layPlace_149 kbipush_44 ?_
            refine g_iadd h dX8_layPlace_151 ?_
            refine g_iload_n h 3 dX8_layPlace_152 rfl rfl ?_
            refine g_iload_n h 2 dX8_layPlace_153 rfl rfl ?_
            obtain ⟨r_21, hv, hf⟩ := ob1 hf
            refine g_callV (ci := 8) (q0 := 0) (n := 3) (As := [.int (x1 + 44), .int r_4, .int x2]) (st := [.int (up_14 r_4.toNatClampNeg), .int ((z_10 + r_20) * (down_15 r_4.toNatClampNeg)), .ref a]) (wr := [(a_up, .inl (X.E 1, 8, .inl up_14)), (a_down, .inl (X.E 1, 8, .inl down_15))]) (isC := [0, 1]) (isR := [2, 3]) h hR (ct_X8_sumOf (a := a) (a_w := a_w) (a_tape := a_tape) (a_lane := a_lane) (a_size := a_size) (a_items := a_items) (a_up := a_up) (a_down := a_down) (a_fell := a_fell) (a_read := a_read) (a_comesUp := a_comesUp) (a_comesDown := a_comesDown) (a_held := a_held) (x1 := (x1 + 44)) (x2 := r_4) (x3 := x2) (isImage := isImage) (taped := taped) (above := z_10) (below := (down_15 r_4.toNatClampNeg)) (fallen := fallen) (torn := torn) (at_ := at_) (start := start) (number := number) (w := w) hv) rfl rfl (lw_V q1292 q1294 qs39 q80 q1295) (by decide +kernel) rfl ⟨rfl, rfl, rfl, rfl, by decide⟩ ⟨fle rfl, fle rfl, fle rfl, fle rfl, fle rfl⟩ rfl dX8_layPlace_154 (pin (perm := [2, 3, 0, 1]) (ws' := [(a, .inr (8, [.ref a_w, .int isImage, .ref a_tape, .int taped, .ref a_lane, .ref a_size, .ref a_items, .ref a_up, .ref a_down, .int z_10, .int (down_15 r_4.toNatClampNeg), .ref a_fell, .int fallen, .int torn, .int at_, .int start, .int number, .ref a_read, .ref a_comesUp, .ref a_comesDown, .ref a_held])), (a_w, .inl (X.E 1, 1142, .inl w)), (a_up, .inl (X.E 1, 8, .inl up_14)), (a_down, .inl (X.E 1, 8, .inl down_15))]) (stk := [.int r_21, .int (up_14 r_4.toNatClampNeg), .int ((z_10 + r_20) * (down_15 r_4.toNatClampNeg)), .ref a]) rfl rfl rfl ?_)
            clear hv
            refine g_imul h dX8_layPlace_157 ?_
            refine g_iadd h dX8_layPlace_158 ?_
            refine g_put (ci := 8) (ty := tyX8 9) (ws' := [(a, .inr (8, [.ref a_w, .int isImage, .ref a_tape, .int taped, .ref a_lane, .ref a_size, .ref a_items, .ref a_up, .ref a_down, .int (((z_10 + r_20) * (down_15 r_4.toNatClampNeg)) + ((up_14 r_4.toNatClampNeg) * r_21)), .int (down_15 r_4.toNatClampNeg), .ref a_fell, .int fallen, .int torn, .int at_, .int start, .int number, .ref a_read, .ref a_comesUp, .ref a_comesDown, .ref a_held])), (a_w, .inl (X.E 1, 1142, .inl w)), (a_up, .inl (X.E 1, 8, .inl up_14)), (a_down, .inl (X.E 1, 8, .inl down_15))]) h in_X8 tyX8 tyX8_ok nmX8 0 9 rfl rfl (fle rfl) ⟨rfl, rfl⟩ q1175 rfl rfl rfl (fle rfl) rfl dX8_layPlace_159 ?_
            obtain ⟨rfl, rfl, rfl, rfl⟩ := sj4 hf
            exact g_vret h hF [0, 1, 2, 3] rfl rfl ⟨rfl, rfl⟩ (fle rfl) (fle rfl) dX8_layPlace_162
    clear hf
    have hf := hw
    clear hw
    refine g_if_lt (tgt := 63) h dX8_layPlace_46 rfl hf (fun c6 hf => ?_) (fun c6 hf => ?_)
    · refine g_iload h 0 dX8_layPlace_63 rfl ?_
      refine g_if_lt (tgt := 83) h dX8_layPlace_65 rfl hf (fun c11 hf => ?_) (fun c11 hf => ?_)
      · refine g_iconst (v := 0) h dX8_layPlace_83 kiconst_0 ?_
        obtain rfl := sj1 hf
        exact G.lsub [2, 3, 4, 1, 0] rfl K46
      · refine g_aload_n h 2 dX8_layPlace_68 rfl rfl ?_
        refine g_get (ci := 8) (v := .ref a_w) h in_X8 0 0 rfl rfl (fle rfl) rfl q1166 rfl dX8_layPlace_69 ?_
        refine g_iload_n h 3 dX8_layPlace_72 rfl rfl ?_
        refine g_bipush (v := 28) h dX8_layPlace_73 kbipush_28 ?_
        refine g_iadd h dX8_layPlace_75 ?_
        refine g_iload h 0 dX8_layPlace_76 rfl ?_
        refine g_iadd h dX8_layPlace_78 ?_
        obtain ⟨g12, hf⟩ := gn hf
        refine g_iaload h 1 rfl g12 dX8_layPlace_79 ?_
        refine g_goto (tgt := 84) h dX8_layPlace_80 rfl ?_
        obtain rfl := sj1 hf
        exact G.lsub [2, 3, 4, 1, 0] rfl K46
    · refine g_aload_n h 2 dX8_layPlace_49 rfl rfl ?_
      refine g_get (ci := 8) (v := .ref a_w) h in_X8 0 0 rfl rfl (fle rfl) rfl q1166 rfl dX8_layPlace_50 ?_
      refine g_iload_n h 3 dX8_layPlace_53 rfl rfl ?_
      refine g_bipush (v := 28) h dX8_layPlace_54 kbipush_28 ?_
      refine g_iadd h dX8_layPlace_56 ?_
      refine g_iload_n h 1 dX8_layPlace_57 rfl rfl ?_
      refine g_iadd h dX8_layPlace_58 ?_
      obtain ⟨g13, hf⟩ := gn hf
      refine g_iaload h 1 rfl g13 dX8_layPlace_59 ?_
      refine g_goto (tgt := 84) h dX8_layPlace_60 rfl ?_
      obtain rfl := sj1 hf
      exact G.lsub [2, 3, 4, 1, 0] rfl K46
  · obtain ⟨rfl, rfl, rfl, rfl⟩ := sj4 hf
    exact g_vret h hF [0, 1, 2, 3] rfl rfl ⟨rfl, rfl⟩ (fle rfl) (fle rfl) dX8_layPlace_162
set_option maxHeartbeats 4000000 in
set_option maxRecDepth 100000 in
theorem w_X8_divisor_L4 {X : Cx}   {ce sl : Nat} (h : Ok X cX8_divisor RX8) (hR : Rm X 0 0 0 0) (hL : ∀ i, i < 5 → i < X.nL) (hce : ce ≤ 0) (hsl : sl ≤ 0) : ∀ (n0 : Nat) (x2 : Int32) (x3 : Int32) {o_x2 : Int32}, f_X8_divisor_L4 n0 x2 x3 = some o_x2 → (G X [] [(2, .int o_x2)] ce sl 21 []) → G X [] [(2, .int x2), (3, .int x3)] ce sl 4 [] := by
  intro n0
  induction n0 with
  | zero => intro x2 x3 o_x2 hf; exact nomatch (show (none : Option _) = some _ from hf)
  | succ n0 ih =>
    intro x2 x3 o_x2 hf k0
    replace hf : t_X8_divisor_L4 (f_X8_divisor_L4 n0) x2 x3 = some o_x2 := hf
    unfold t_X8_divisor_L4 at hf
    refine g_iload_n h 1 dX8_divisor_4 rfl rfl ?_
    refine g_if_eq (tgt := 21) h dX8_divisor_5 rfl hf (fun c1 hf => ?_) (fun c1 hf => ?_)
    · obtain rfl := sj1 hf
      exact G.lsub [0] rfl k0
    · refine g_iload_n h 0 dX8_divisor_8 rfl rfl ?_
      refine g_iload_n h 1 dX8_divisor_9 rfl rfl ?_
      refine g_irem h dX8_divisor_10 c1 ?_
      refine g_istore (lv' := [(4, .int (x2 - x2 / x3 * x3)), (2, .int x2), (3, .int x3)]) h dX8_divisor_11 (hL 4 (fle rfl)) rfl ?_
      refine g_iload_n h 2 dX8_divisor_13 rfl rfl ?_
      refine g_istore_n (lv' := [(2, .int x3), (4, .int (x2 - x2 / x3 * x3)), (3, .int x3)]) h dX8_divisor_14 rfl (hL 2 (fle rfl)) rfl ?_
      refine g_iload h 1 dX8_divisor_15 rfl ?_
      refine g_istore_n (lv' := [(3, .int (x2 - x2 / x3 * x3)), (2, .int x3), (4, .int (x2 - x2 / x3 * x3))]) h dX8_divisor_17 rfl (hL 3 (fle rfl)) rfl ?_
      refine g_goto (tgt := 4) h dX8_divisor_18 rfl ?_
      exact G.lsub [1, 0] rfl (ih _ _ hf k0)
set_option maxHeartbeats 4000000 in
set_option maxRecDepth 100000 in
theorem ct_X8_divisor {l : Launch} {D : va_G} {E : Ety}  {x0 : Int32} {x1 : Int32} {r_ : Int32} (hf : f_X8_divisor x0 x1 = some r_) : Ct l yX8_divisor cX8_divisor 5 (some .int) 0 0 0 0 D E [.int x0, .int x1] [] (Pn (some (.int r_)) []) := by
  refine ct_of (own := RX8) (plainFor_of_name (by decide)) rfl (fle rfl) rfl ?_
  intro X hl hD hE hnL hXF h hR hF hnm
  subst hl; subst hD; subst hE
  have hL : ∀ i, i < 5 → i < X.nL := fun i hi => by rw [hnL]; exact hi
  unfold f_X8_divisor at hf
  refine g_iload_n h 0 dX8_divisor_0 rfl rfl ?_
  refine g_istore_n (lv' := [(2, .int x0), (0, .int x0), (1, .int x1)]) h dX8_divisor_1 rfl (hL 2 (fle rfl)) rfl ?_
  refine g_iload_n h 2 dX8_divisor_2 rfl rfl ?_
  refine g_istore_n (lv' := [(3, .int x1), (2, .int x0), (0, .int x0), (1, .int x1)]) h dX8_divisor_3 rfl (hL 3 (fle rfl)) rfl ?_
  refine G.lsub (lv' := [(2, .int x0), (3, .int x1)]) [1, 0] rfl ?_
  obtain ⟨x2_2, hv, hf⟩ := ob1 hf
  refine w_X8_divisor_L4  h hR hL (fle rfl) (fle rfl) FU _ _ hv ?_
  · clear hv
    refine g_iload_n h 0 dX8_divisor_21 rfl rfl ?_
    obtain rfl := sj1 hf
    exact g_iret h hF [] rfl rfl ⟨rfl, rfl⟩ (fle rfl) (fle rfl) dX8_divisor_22
set_option maxHeartbeats 4000000 in
set_option maxRecDepth 100000 in
theorem ct_X8_partOf {l : Launch} {D : va_G} {E : Ety}  {x0 : Int32} {x1 : Int32} {x2 : Int32} {r_ : Int32} (hf : f_X8_partOf x0 x1 x2 = some r_) : Ct l yX8_partOf cX8_partOf 4 (some .int) 1 24 0 0 D E [.int x0, .int x1, .int x2] [] (Pn (some (.int r_)) []) := by
  refine ct_of (own := RX8) (plainFor_of_name (by decide)) rfl (fle rfl) rfl ?_
  intro X hl hD hE hnL hXF h hR hF hnm
  subst hl; subst hD; subst hE
  have hL : ∀ i, i < 4 → i < X.nL := fun i hi => by rw [hnL]; exact hi
  unfold f_X8_partOf at hf
  refine g_iload_n h 0 dX8_partOf_0 rfl rfl ?_
  refine g_iload_n h 1 dX8_partOf_1 rfl rfl ?_
  obtain ⟨r_1, hv, hf⟩ := ob1 hf
  refine g_callS (n := 2) (As := [.int x0, .int x1]) (st := []) (wr := []) (isC := []) (isR := []) h hR (ct_X8_divisor (x0 := x0) (x1 := x1) hv) (lw_S q1363 q1364 q80 q1365) (by decide +kernel) rfl ⟨rfl, rfl, rfl, rfl, by decide⟩ ⟨fle rfl, fle rfl, fle rfl, fle rfl, fle rfl⟩ rfl dX8_partOf_2 (pin (perm := []) (ws' := []) (stk := [.int r_1]) rfl rfl rfl ?_)
  clear hv
  refine g_istore_n (lv' := [(3, .int r_1), (0, .int x0), (1, .int x1), (2, .int x2)]) h dX8_partOf_5 rfl (hL 3 (fle rfl)) rfl ?_
  refine g_iload_n h 3 dX8_partOf_6 rfl rfl ?_
  refine g_if_ne (tgt := 16) h dX8_partOf_7 rfl hf (fun c2 hf => ?_) (fun c2 hf => ?_)
  · refine g_iload_n h 1 dX8_partOf_10 rfl rfl ?_
    refine g_iload_n h 0 dX8_partOf_11 rfl rfl ?_
    obtain ⟨g3, hf⟩ := gn hf
    refine g_idiv h dX8_partOf_12 g3 ?_
    refine g_goto (tgt := 19) h dX8_partOf_13 rfl ?_
    obtain rfl := sj1 hf
    exact g_iret h hF [] rfl rfl ⟨rfl, rfl⟩ (fle rfl) (fle rfl) dX8_partOf_19
  · refine g_iload_n h 2 dX8_partOf_16 rfl rfl ?_
    refine g_iload_n h 0 dX8_partOf_17 rfl rfl ?_
    obtain ⟨g4, hf⟩ := gn hf
    refine g_idiv h dX8_partOf_18 g4 ?_
    obtain rfl := sj1 hf
    exact g_iret h hF [] rfl rfl ⟨rfl, rfl⟩ (fle rfl) (fle rfl) dX8_partOf_19
set_option maxHeartbeats 4000000 in
set_option maxRecDepth 100000 in
theorem ct_X8_place {l : Launch} {D : va_G} {E : Ety} {a a_w a_tape a_lane a_size a_items a_up a_down a_fell a_read a_comesUp a_comesDown a_held : Nat} {x1 : Int32} {x2 : Int32} {isImage : Int32} {taped : Int32} {above : Int32} {below : Int32} {fallen : Int32} {torn : Int32} {at_ : Int32} {start : Int32} {number : Int32} {w : Nat → Int32} {up : Nat → Int32} {down : Nat → Int32} {r_ : Int32} {o_above : Int32} {o_below : Int32} {o_up : Nat → Int32} {o_down : Nat → Int32} (hf : f_X8_place x1 x2 above below w up down = some (r_, o_above, o_below, o_up, o_down)) : Ct l yX8_place cX8_place 3 (some .int) 4 94 0 0 D E [.ref a, .int x1, .int x2] [(a, .inr (8, [.ref a_w, .int isImage, .ref a_tape, .int taped, .ref a_lane, .ref a_size, .ref a_items, .ref a_up, .ref a_down, .int above, .int below, .ref a_fell, .int fallen, .int torn, .int at_, .int start, .int number, .ref a_read, .ref a_comesUp, .ref a_comesDown, .ref a_held])), (a_w, .inl (E 1, 1142, .inl w)), (a_up, .inl (E 1, 8, .inl up)), (a_down, .inl (E 1, 8, .inl down))] (Pn (some (.int r_)) [(a, .inr (8, [.ref a_w, .int isImage, .ref a_tape, .int taped, .ref a_lane, .ref a_size, .ref a_items, .ref a_up, .ref a_down, .int o_above, .int o_below, .ref a_fell, .int fallen, .int torn, .int at_, .int start, .int number, .ref a_read, .ref a_comesUp, .ref a_comesDown, .ref a_held])), (a_w, .inl (E 1, 1142, .inl w)), (a_up, .inl (E 1, 8, .inl o_up)), (a_down, .inl (E 1, 8, .inl o_down))]) := by
  refine ct_of (own := RX8) (plainFor_of_name (by decide)) rfl (fle rfl) rfl ?_
  intro X hl hD hE hnL hXF h hR hF hnm
  subst hl; subst hD; subst hE
  have hL : ∀ i, i < 3 → i < X.nL := fun i hi => by rw [hnL]; exact hi
  unfold f_X8_place at hf
  refine g_aload_n h 0 dX8_place_0 rfl rfl ?_
  refine g_iload_n h 1 dX8_place_1 rfl rfl ?_
  obtain ⟨r_1, hv, hf⟩ := ob1 hf
  refine g_callV (ci := 8) (q0 := 0) (n := 1) (As := [.int x1]) (st := []) (wr := [(a_up, .inl (X.E 1, 8, .inl up)), (a_down, .inl (X.E 1, 8, .inl down))]) (isC := [0, 1]) (isR := [2, 3]) h hR (ct_X8_isPerson (a := a) (a_w := a_w) (a_tape := a_tape) (a_lane := a_lane) (a_size := a_size) (a_items := a_items) (a_up := a_up) (a_down := a_down) (a_fell := a_fell) (a_read := a_read) (a_comesUp := a_comesUp) (a_comesDown := a_comesDown) (a_held := a_held) (x1 := x1) (isImage := isImage) (taped := taped) (above := above) (below := below) (fallen := fallen) (torn := torn) (at_ := at_) (start := start) (number := number) (w := w) hv) rfl rfl (lw_V q1340 q1342 qs45 q80 q1343) (by decide +kernel) rfl ⟨rfl, rfl, rfl, rfl, by decide⟩ ⟨fle rfl, fle rfl, fle rfl, fle rfl, fle rfl⟩ rfl dX8_place_2 (pin (perm := [2, 3, 0, 1]) (ws' := [(a, .inr (8, [.ref a_w, .int isImage, .ref a_tape, .int taped, .ref a_lane, .ref a_size, .ref a_items, .ref a_up, .ref a_down, .int above, .int below, .ref a_fell, .int fallen, .int torn, .int at_, .int start, .int number, .ref a_read, .ref a_comesUp, .ref a_comesDown, .ref a_held])), (a_w, .inl (X.E 1, 1142, .inl w)), (a_up, .inl (X.E 1, 8, .inl up)), (a_down, .inl (X.E 1, 8, .inl down))]) (stk := [.int r_1]) rfl rfl rfl ?_)
  clear hv
  refine g_if_eq (tgt := 18) h dX8_place_5 rfl hf (fun c2 hf => ?_) (fun c2 hf => ?_)
  · refine g_iconst (v := (-1)) h dX8_place_18 kiconst_m1 ?_
    obtain ⟨rfl, rfl, rfl, rfl, rfl⟩ := sj5 hf
    exact g_iret h hF [0, 1, 2, 3] rfl rfl ⟨rfl, rfl⟩ (fle rfl) (fle rfl) dX8_place_19
  · refine g_iload_n h 2 dX8_place_8 rfl rfl ?_
    refine g_i2l h dX8_place_9 ?_
    refine g_lconst (v := 0) h dX8_place_10 rfl ?_
    refine g_lconst (v := 1) h dX8_place_11 rfl ?_
    obtain ⟨r_3, hv, hf⟩ := ob1 hf
    refine g_callS (n := 3) (As := [.long x2.toInt64, .long 0, .long 1]) (st := []) (wr := [(a, .inr (8, [.ref a_w, .int isImage, .ref a_tape, .int taped, .ref a_lane, .ref a_size, .ref a_items, .ref a_up, .ref a_down, .int above, .int below, .ref a_fell, .int fallen, .int torn, .int at_, .int start, .int number, .ref a_read, .ref a_comesUp, .ref a_comesDown, .ref a_held])), (a_w, .inl (X.E 1, 1142, .inl w)), (a_up, .inl (X.E 1, 8, .inl up)), (a_down, .inl (X.E 1, 8, .inl down))]) (isC := []) (isR := [0, 1, 2, 3]) h hR (ct_X8_in (x0 := x2.toInt64) (x2 := 0) (x4 := 1) hv) (lw_S q1236 q1237 q80 q1238) (by decide +kernel) rfl ⟨rfl, rfl, rfl, rfl, by decide⟩ ⟨fle rfl, fle rfl, fle rfl, fle rfl, fle rfl⟩ rfl dX8_place_12 (pin (perm := [0, 1, 2, 3]) (ws' := [(a, .inr (8, [.ref a_w, .int isImage, .ref a_tape, .int taped, .ref a_lane, .ref a_size, .ref a_items, .ref a_up, .ref a_down, .int above, .int below, .ref a_fell, .int fallen, .int torn, .int at_, .int start, .int number, .ref a_read, .ref a_comesUp, .ref a_comesDown, .ref a_held])), (a_w, .inl (X.E 1, 1142, .inl w)), (a_up, .inl (X.E 1, 8, .inl up)), (a_down, .inl (X.E 1, 8, .inl down))]) (stk := [.int r_3]) rfl rfl rfl ?_)
    clear hv
    refine g_if_ne (tgt := 20) h dX8_place_15 rfl hf (fun c4 hf => ?_) (fun c4 hf => ?_)
    · refine g_iconst (v := (-1)) h dX8_place_18 kiconst_m1 ?_
      obtain ⟨rfl, rfl, rfl, rfl, rfl⟩ := sj5 hf
      exact g_iret h hF [0, 1, 2, 3] rfl rfl ⟨rfl, rfl⟩ (fle rfl) (fle rfl) dX8_place_19
    · refine g_aload_n h 0 dX8_place_20 rfl rfl ?_
      refine g_iconst (v := 0) h dX8_place_21 kiconst_0 ?_
      refine g_iload_n h 1 dX8_place_22 rfl rfl ?_
      obtain ⟨above_5, below_6, up_7, down_8, hv, hf⟩ := ob4 hf
      refine g_callV (ci := 8) (q0 := 0) (n := 2) (As := [.int 0, .int x1]) (st := []) (wr := []) (isC := [0, 1, 2, 3]) (isR := []) h hR (ct_X8_layPlace (a := a) (a_w := a_w) (a_tape := a_tape) (a_lane := a_lane) (a_size := a_size) (a_items := a_items) (a_up := a_up) (a_down := a_down) (a_fell := a_fell) (a_read := a_read) (a_comesUp := a_comesUp) (a_comesDown := a_comesDown) (a_held := a_held) (x1 := 0) (x2 := x1) (isImage := isImage) (taped := taped) (above := above) (below := below) (fallen := fallen) (torn := torn) (at_ := at_) (start := start) (number := number) (w := w) (up := up) (down := down) hv) rfl rfl (lw_V q1352 q1354 qs47 q80 q1355) (by decide +kernel) rfl ⟨rfl, rfl, rfl, rfl, by decide⟩ ⟨fle rfl, fle rfl, fle rfl, fle rfl, fle rfl⟩ rfl dX8_place_23 (pin (perm := [0, 1, 2, 3]) (ws' := [(a, .inr (8, [.ref a_w, .int isImage, .ref a_tape, .int taped, .ref a_lane, .ref a_size, .ref a_items, .ref a_up, .ref a_down, .int above_5, .int below_6, .ref a_fell, .int fallen, .int torn, .int at_, .int start, .int number, .ref a_read, .ref a_comesUp, .ref a_comesDown, .ref a_held])), (a_w, .inl (X.E 1, 1142, .inl w)), (a_up, .inl (X.E 1, 8, .inl up_7)), (a_down, .inl (X.E 1, 8, .inl down_8))]) (stk := []) rfl rfl rfl ?_)
      clear hv
      refine g_aload_n h 0 dX8_place_26 rfl rfl ?_
      refine g_get (ci := 8) (v := .int above_5) h in_X8 0 9 rfl rfl (fle rfl) rfl q1175 rfl dX8_place_27 ?_
      refine g_aload_n h 0 dX8_place_30 rfl rfl ?_
      refine g_get (ci := 8) (v := .int below_6) h in_X8 0 10 rfl rfl (fle rfl) rfl q1176 rfl dX8_place_31 ?_
      refine g_iload_n h 2 dX8_place_34 rfl rfl ?_
      obtain ⟨r_9, hv, hf⟩ := ob1 hf
      refine g_callS (n := 3) (As := [.int above_5, .int below_6, .int x2]) (st := []) (wr := [(a, .inr (8, [.ref a_w, .int isImage, .ref a_tape, .int taped, .ref a_lane, .ref a_size, .ref a_items, .ref a_up, .ref a_down, .int above_5, .int below_6, .ref a_fell, .int fallen, .int torn, .int at_, .int start, .int number, .ref a_read, .ref a_comesUp, .ref a_comesDown, .ref a_held])), (a_w, .inl (X.E 1, 1142, .inl w)), (a_up, .inl (X.E 1, 8, .inl up_7)), (a_down, .inl (X.E 1, 8, .inl down_8))]) (isC := []) (isR := [0, 1, 2, 3]) h hR (ct_X8_partOf (x0 := above_5) (x1 := below_6) (x2 := x2) hv) (lw_S q1360 q1361 q80 q1362) (by decide +kernel) rfl ⟨rfl, rfl, rfl, rfl, by decide⟩ ⟨fle rfl, fle rfl, fle rfl, fle rfl, fle rfl⟩ rfl dX8_place_35 (pin (perm := [0, 1, 2, 3]) (ws' := [(a, .inr (8, [.ref a_w, .int isImage, .ref a_tape, .int taped, .ref a_lane, .ref a_size, .ref a_items, .ref a_up, .ref a_down, .int above_5, .int below_6, .ref a_fell, .int fallen, .int torn, .int at_, .int start, .int number, .ref a_read, .ref a_comesUp, .ref a_comesDown, .ref a_held])), (a_w, .inl (X.E 1, 1142, .inl w)), (a_up, .inl (X.E 1, 8, .inl up_7)), (a_down, .inl (X.E 1, 8, .inl down_8))]) (stk := [.int r_9]) rfl rfl rfl ?_)
      clear hv
      obtain ⟨rfl, rfl, rfl, rfl, rfl⟩ := sj5 hf
      exact g_iret h hF [0, 1, 2, 3] rfl rfl ⟨rfl, rfl⟩ (fle rfl) (fle rfl) dX8_place_38
set_option maxHeartbeats 4000000 in
set_option maxRecDepth 100000 in
theorem ct_X8_pulled {l : Launch} {D : va_G} {E : Ety} {a a_w a_tape a_lane a_size a_items a_up a_down a_fell a_read a_comesUp a_comesDown a_held : Nat} {x1 : Int32} {x2 : Int32} {isImage : Int32} {taped : Int32} {above : Int32} {below : Int32} {fallen : Int32} {torn : Int32} {at_ : Int32} {start : Int32} {number : Int32} {w : Nat → Int32} {up : Nat → Int32} {down : Nat → Int32} {r_ : Int32} {o_above : Int32} {o_below : Int32} {o_up : Nat → Int32} {o_down : Nat → Int32} (hf : f_X8_pulled x1 x2 above below w up down = some (r_, o_above, o_below, o_up, o_down)) : Ct l yX8_pulled cX8_pulled 3 (some .int) 3 70 0 0 D E [.ref a, .int x1, .int x2] [(a, .inr (8, [.ref a_w, .int isImage, .ref a_tape, .int taped, .ref a_lane, .ref a_size, .ref a_items, .ref a_up, .ref a_down, .int above, .int below, .ref a_fell, .int fallen, .int torn, .int at_, .int start, .int number, .ref a_read, .ref a_comesUp, .ref a_comesDown, .ref a_held])), (a_w, .inl (E 1, 1142, .inl w)), (a_up, .inl (E 1, 8, .inl up)), (a_down, .inl (E 1, 8, .inl down))] (Pn (some (.int r_)) [(a, .inr (8, [.ref a_w, .int isImage, .ref a_tape, .int taped, .ref a_lane, .ref a_size, .ref a_items, .ref a_up, .ref a_down, .int o_above, .int o_below, .ref a_fell, .int fallen, .int torn, .int at_, .int start, .int number, .ref a_read, .ref a_comesUp, .ref a_comesDown, .ref a_held])), (a_w, .inl (E 1, 1142, .inl w)), (a_up, .inl (E 1, 8, .inl o_up)), (a_down, .inl (E 1, 8, .inl o_down))]) := by
  refine ct_of (own := RX8) (plainFor_of_name (by decide)) rfl (fle rfl) rfl ?_
  intro X hl hD hE hnL hXF h hR hF hnm
  subst hl; subst hD; subst hE
  have hL : ∀ i, i < 3 → i < X.nL := fun i hi => by rw [hnL]; exact hi
  unfold f_X8_pulled at hf
  refine g_aload_n h 0 dX8_pulled_0 rfl rfl ?_
  refine g_iload_n h 1 dX8_pulled_1 rfl rfl ?_
  obtain ⟨r_1, hv, hf⟩ := ob1 hf
  refine g_callV (ci := 8) (q0 := 0) (n := 1) (As := [.int x1]) (st := []) (wr := [(a_up, .inl (X.E 1, 8, .inl up)), (a_down, .inl (X.E 1, 8, .inl down))]) (isC := [0, 1]) (isR := [2, 3]) h hR (ct_X8_isPerson (a := a) (a_w := a_w) (a_tape := a_tape) (a_lane := a_lane) (a_size := a_size) (a_items := a_items) (a_up := a_up) (a_down := a_down) (a_fell := a_fell) (a_read := a_read) (a_comesUp := a_comesUp) (a_comesDown := a_comesDown) (a_held := a_held) (x1 := x1) (isImage := isImage) (taped := taped) (above := above) (below := below) (fallen := fallen) (torn := torn) (at_ := at_) (start := start) (number := number) (w := w) hv) rfl rfl (lw_V q1340 q1342 qs45 q80 q1343) (by decide +kernel) rfl ⟨rfl, rfl, rfl, rfl, by decide⟩ ⟨fle rfl, fle rfl, fle rfl, fle rfl, fle rfl⟩ rfl dX8_pulled_2 (pin (perm := [2, 3, 0, 1]) (ws' := [(a, .inr (8, [.ref a_w, .int isImage, .ref a_tape, .int taped, .ref a_lane, .ref a_size, .ref a_items, .ref a_up, .ref a_down, .int above, .int below, .ref a_fell, .int fallen, .int torn, .int at_, .int start, .int number, .ref a_read, .ref a_comesUp, .ref a_comesDown, .ref a_held])), (a_w, .inl (X.E 1, 1142, .inl w)), (a_up, .inl (X.E 1, 8, .inl up)), (a_down, .inl (X.E 1, 8, .inl down))]) (stk := [.int r_1]) rfl rfl rfl ?_)
  clear hv
  refine g_if_eq (tgt := 18) h dX8_pulled_5 rfl hf (fun c2 hf => ?_) (fun c2 hf => ?_)
  · refine g_iconst (v := (-1)) h dX8_pulled_18 kiconst_m1 ?_
    obtain ⟨rfl, rfl, rfl, rfl, rfl⟩ := sj5 hf
    exact g_iret h hF [0, 1, 2, 3] rfl rfl ⟨rfl, rfl⟩ (fle rfl) (fle rfl) dX8_pulled_19
  · refine g_iload_n h 2 dX8_pulled_8 rfl rfl ?_
    refine g_i2l h dX8_pulled_9 ?_
    refine g_lconst (v := 0) h dX8_pulled_10 rfl ?_
    refine g_lconst (v := 1) h dX8_pulled_11 rfl ?_
    obtain ⟨r_3, hv, hf⟩ := ob1 hf
    refine g_callS (n := 3) (As := [.long x2.toInt64, .long 0, .long 1]) (st := []) (wr := [(a, .inr (8, [.ref a_w, .int isImage, .ref a_tape, .int taped, .ref a_lane, .ref a_size, .ref a_items, .ref a_up, .ref a_down, .int above, .int below, .ref a_fell, .int fallen, .int torn, .int at_, .int start, .int number, .ref a_read, .ref a_comesUp, .ref a_comesDown, .ref a_held])), (a_w, .inl (X.E 1, 1142, .inl w)), (a_up, .inl (X.E 1, 8, .inl up)), (a_down, .inl (X.E 1, 8, .inl down))]) (isC := []) (isR := [0, 1, 2, 3]) h hR (ct_X8_in (x0 := x2.toInt64) (x2 := 0) (x4 := 1) hv) (lw_S q1236 q1237 q80 q1238) (by decide +kernel) rfl ⟨rfl, rfl, rfl, rfl, by decide⟩ ⟨fle rfl, fle rfl, fle rfl, fle rfl, fle rfl⟩ rfl dX8_pulled_12 (pin (perm := [0, 1, 2, 3]) (ws' := [(a, .inr (8, [.ref a_w, .int isImage, .ref a_tape, .int taped, .ref a_lane, .ref a_size, .ref a_items, .ref a_up, .ref a_down, .int above, .int below, .ref a_fell, .int fallen, .int torn, .int at_, .int start, .int number, .ref a_read, .ref a_comesUp, .ref a_comesDown, .ref a_held])), (a_w, .inl (X.E 1, 1142, .inl w)), (a_up, .inl (X.E 1, 8, .inl up)), (a_down, .inl (X.E 1, 8, .inl down))]) (stk := [.int r_3]) rfl rfl rfl ?_)
    clear hv
    refine g_if_ne (tgt := 20) h dX8_pulled_15 rfl hf (fun c4 hf => ?_) (fun c4 hf => ?_)
    · refine g_iconst (v := (-1)) h dX8_pulled_18 kiconst_m1 ?_
      obtain ⟨rfl, rfl, rfl, rfl, rfl⟩ := sj5 hf
      exact g_iret h hF [0, 1, 2, 3] rfl rfl ⟨rfl, rfl⟩ (fle rfl) (fle rfl) dX8_pulled_19
    · refine g_aload_n h 0 dX8_pulled_20 rfl rfl ?_
      refine g_iconst (v := 0) h dX8_pulled_21 kiconst_0 ?_
      obtain ⟨up_5, down_6, hv, hf⟩ := ob2 hf
      refine g_callV (ci := 8) (q0 := 0) (n := 1) (As := [.int 0]) (st := []) (wr := []) (isC := [0, 1, 2, 3]) (isR := []) h hR (ct_X8_layPulls (a := a) (a_w := a_w) (a_tape := a_tape) (a_lane := a_lane) (a_size := a_size) (a_items := a_items) (a_up := a_up) (a_down := a_down) (a_fell := a_fell) (a_read := a_read) (a_comesUp := a_comesUp) (a_comesDown := a_comesDown) (a_held := a_held) (x1 := 0) (isImage := isImage) (taped := taped) (above := above) (below := below) (fallen := fallen) (torn := torn) (at_ := at_) (start := start) (number := number) (w := w) (up := up) (down := down) hv) rfl rfl (lw_V q1280 q1282 qs36 q80 q1283) (by decide +kernel) rfl ⟨rfl, rfl, rfl, rfl, by decide⟩ ⟨fle rfl, fle rfl, fle rfl, fle rfl, fle rfl⟩ rfl dX8_pulled_22 (pin (perm := [0, 1, 2, 3]) (ws' := [(a, .inr (8, [.ref a_w, .int isImage, .ref a_tape, .int taped, .ref a_lane, .ref a_size, .ref a_items, .ref a_up, .ref a_down, .int above, .int below, .ref a_fell, .int fallen, .int torn, .int at_, .int start, .int number, .ref a_read, .ref a_comesUp, .ref a_comesDown, .ref a_held])), (a_w, .inl (X.E 1, 1142, .inl w)), (a_up, .inl (X.E 1, 8, .inl up_5)), (a_down, .inl (X.E 1, 8, .inl down_6))]) (stk := []) rfl rfl rfl ?_)
      clear hv
      refine g_aload_n h 0 dX8_pulled_25 rfl rfl ?_
      refine g_iconst (v := 0) h dX8_pulled_26 kiconst_0 ?_
      refine g_iload_n h 1 dX8_pulled_27 rfl rfl ?_
      obtain ⟨above_7, below_8, hv, hf⟩ := ob2 hf
      refine g_callV (ci := 8) (q0 := 0) (n := 2) (As := [.int 0, .int x1]) (st := []) (wr := []) (isC := [0, 1, 2, 3]) (isR := []) h hR (ct_X8_layPulled (a := a) (a_w := a_w) (a_tape := a_tape) (a_lane := a_lane) (a_size := a_size) (a_items := a_items) (a_up := a_up) (a_down := a_down) (a_fell := a_fell) (a_read := a_read) (a_comesUp := a_comesUp) (a_comesDown := a_comesDown) (a_held := a_held) (x1 := 0) (x2 := x1) (isImage := isImage) (taped := taped) (above := above) (below := below) (fallen := fallen) (torn := torn) (at_ := at_) (start := start) (number := number) (w := w) (up := up_5) (down := down_6) hv) rfl rfl (lw_V q1308 q1310 qs43 q80 q1311) (by decide +kernel) rfl ⟨rfl, rfl, rfl, rfl, by decide⟩ ⟨fle rfl, fle rfl, fle rfl, fle rfl, fle rfl⟩ rfl dX8_pulled_28 (pin (perm := [0, 1, 2, 3]) (ws' := [(a, .inr (8, [.ref a_w, .int isImage, .ref a_tape, .int taped, .ref a_lane, .ref a_size, .ref a_items, .ref a_up, .ref a_down, .int above_7, .int below_8, .ref a_fell, .int fallen, .int torn, .int at_, .int start, .int number, .ref a_read, .ref a_comesUp, .ref a_comesDown, .ref a_held])), (a_w, .inl (X.E 1, 1142, .inl w)), (a_up, .inl (X.E 1, 8, .inl up_5)), (a_down, .inl (X.E 1, 8, .inl down_6))]) (stk := []) rfl rfl rfl ?_)
      clear hv
      refine g_aload_n h 0 dX8_pulled_31 rfl rfl ?_
      refine g_get (ci := 8) (v := .int above_7) h in_X8 0 9 rfl rfl (fle rfl) rfl q1175 rfl dX8_pulled_32 ?_
      refine g_if_ge (tgt := 46) h dX8_pulled_35 rfl hf (fun c9 hf => ?_) (fun c9 hf => ?_)
      · refine g_aload_n h 0 dX8_pulled_46 rfl rfl ?_
        refine g_get (ci := 8) (v := .int above_7) h in_X8 0 9 rfl rfl (fle rfl) rfl q1175 rfl dX8_pulled_47 ?_
        refine g_aload_n h 0 dX8_pulled_50 rfl rfl ?_
        refine g_get (ci := 8) (v := .int below_8) h in_X8 0 10 rfl rfl (fle rfl) rfl q1176 rfl dX8_pulled_51 ?_
        refine g_iload_n h 2 dX8_pulled_54 rfl rfl ?_
        obtain ⟨r_10, hv, hf⟩ := ob1 hf
        refine g_callS (n := 3) (As := [.int above_7, .int below_8, .int x2]) (st := []) (wr := [(a, .inr (8, [.ref a_w, .int isImage, .ref a_tape, .int taped, .ref a_lane, .ref a_size, .ref a_items, .ref a_up, .ref a_down, .int above_7, .int below_8, .ref a_fell, .int fallen, .int torn, .int at_, .int start, .int number, .ref a_read, .ref a_comesUp, .ref a_comesDown, .ref a_held])), (a_w, .inl (X.E 1, 1142, .inl w)), (a_up, .inl (X.E 1, 8, .inl up_5)), (a_down, .inl (X.E 1, 8, .inl down_6))]) (isC := []) (isR := [0, 1, 2, 3]) h hR (ct_X8_partOf (x0 := above_7) (x1 := below_8) (x2 := x2) hv) (lw_S q1360 q1361 q80 q1362) (by decide +kernel) rfl ⟨rfl, rfl, rfl, rfl, by decide⟩ ⟨fle rfl, fle rfl, fle rfl, fle rfl, fle rfl⟩ rfl dX8_pulled_55 (pin (perm := [0, 1, 2, 3]) (ws' := [(a, .inr (8, [.ref a_w, .int isImage, .ref a_tape, .int taped, .ref a_lane, .ref a_size, .ref a_items, .ref a_up, .ref a_down, .int above_7, .int below_8, .ref a_fell, .int fallen, .int torn, .int at_, .int start, .int number, .ref a_read, .ref a_comesUp, .ref a_comesDown, .ref a_held])), (a_w, .inl (X.E 1, 1142, .inl w)), (a_up, .inl (X.E 1, 8, .inl up_5)), (a_down, .inl (X.E 1, 8, .inl down_6))]) (stk := [.int r_10]) rfl rfl rfl ?_)
        clear hv
        obtain ⟨rfl, rfl, rfl, rfl, rfl⟩ := sj5 hf
        exact g_iret h hF [0, 1, 2, 3] rfl rfl ⟨rfl, rfl⟩ (fle rfl) (fle rfl) dX8_pulled_58
      · refine g_aload_n h 0 dX8_pulled_38 rfl rfl ?_
        refine g_get (ci := 8) (v := .int above_7) h in_X8 0 9 rfl rfl (fle rfl) rfl q1175 rfl dX8_pulled_39 ?_
        refine g_ineg h dX8_pulled_42 ?_
        refine g_goto (tgt := 50) h dX8_pulled_43 rfl ?_
        refine g_aload_n h 0 dX8_pulled_50 rfl rfl ?_
        refine g_get (ci := 8) (v := .int below_8) h in_X8 0 10 rfl rfl (fle rfl) rfl q1176 rfl dX8_pulled_51 ?_
        refine g_iload_n h 2 dX8_pulled_54 rfl rfl ?_
        obtain ⟨r_11, hv, hf⟩ := ob1 hf
        refine g_callS (n := 3) (As := [.int (-above_7), .int below_8, .int x2]) (st := []) (wr := [(a, .inr (8, [.ref a_w, .int isImage, .ref a_tape, .int taped, .ref a_lane, .ref a_size, .ref a_items, .ref a_up, .ref a_down, .int above_7, .int below_8, .ref a_fell, .int fallen, .int torn, .int at_, .int start, .int number, .ref a_read, .ref a_comesUp, .ref a_comesDown, .ref a_held])), (a_w, .inl (X.E 1, 1142, .inl w)), (a_up, .inl (X.E 1, 8, .inl up_5)), (a_down, .inl (X.E 1, 8, .inl down_6))]) (isC := []) (isR := [0, 1, 2, 3]) h hR (ct_X8_partOf (x0 := (-above_7)) (x1 := below_8) (x2 := x2) hv) (lw_S q1360 q1361 q80 q1362) (by decide +kernel) rfl ⟨rfl, rfl, rfl, rfl, by decide⟩ ⟨fle rfl, fle rfl, fle rfl, fle rfl, fle rfl⟩ rfl dX8_pulled_55 (pin (perm := [0, 1, 2, 3]) (ws' := [(a, .inr (8, [.ref a_w, .int isImage, .ref a_tape, .int taped, .ref a_lane, .ref a_size, .ref a_items, .ref a_up, .ref a_down, .int above_7, .int below_8, .ref a_fell, .int fallen, .int torn, .int at_, .int start, .int number, .ref a_read, .ref a_comesUp, .ref a_comesDown, .ref a_held])), (a_w, .inl (X.E 1, 1142, .inl w)), (a_up, .inl (X.E 1, 8, .inl up_5)), (a_down, .inl (X.E 1, 8, .inl down_6))]) (stk := [.int r_11]) rfl rfl rfl ?_)
        clear hv
        obtain ⟨rfl, rfl, rfl, rfl, rfl⟩ := sj5 hf
        exact g_iret h hF [0, 1, 2, 3] rfl rfl ⟨rfl, rfl⟩ (fle rfl) (fle rfl) dX8_pulled_58
set_option maxHeartbeats 4000000 in
set_option maxRecDepth 100000 in
theorem ct_X8_isSeam {l : Launch} {D : va_G} {E : Ety} {a a_w a_tape a_lane a_size a_items a_up a_down a_fell a_read a_comesUp a_comesDown a_held : Nat} {x1 : Int32} {isImage : Int32} {taped : Int32} {above : Int32} {below : Int32} {fallen : Int32} {torn : Int32} {at_ : Int32} {start : Int32} {number : Int32} {w : Nat → Int32} {r_ : Int32} (hf : f_X8_isSeam x1 w = some r_) : Ct l yX8_isSeam cX8_isSeam 2 (some .boolean) 1 25 0 0 D E [.ref a, .int x1] [(a, .inr (8, [.ref a_w, .int isImage, .ref a_tape, .int taped, .ref a_lane, .ref a_size, .ref a_items, .ref a_up, .ref a_down, .int above, .int below, .ref a_fell, .int fallen, .int torn, .int at_, .int start, .int number, .ref a_read, .ref a_comesUp, .ref a_comesDown, .ref a_held])), (a_w, .inl (E 1, 1142, .inl w))] (Pn (some (.int r_)) [(a, .inr (8, [.ref a_w, .int isImage, .ref a_tape, .int taped, .ref a_lane, .ref a_size, .ref a_items, .ref a_up, .ref a_down, .int above, .int below, .ref a_fell, .int fallen, .int torn, .int at_, .int start, .int number, .ref a_read, .ref a_comesUp, .ref a_comesDown, .ref a_held])), (a_w, .inl (E 1, 1142, .inl w))]) := by
  refine ct_of (own := RX8) (plainFor_of_name (by decide)) rfl (fle rfl) rfl ?_
  intro X hl hD hE hnL hXF h hR hF hnm
  subst hl; subst hD; subst hE
  have hL : ∀ i, i < 2 → i < X.nL := fun i hi => by rw [hnL]; exact hi
  unfold f_X8_isSeam at hf
  refine g_iload_n h 1 dX8_isSeam_0 rfl rfl ?_
  refine g_i2l h dX8_isSeam_1 ?_
  refine g_lconst (v := 0) h dX8_isSeam_2 rfl ?_
  refine g_aload_n h 0 dX8_isSeam_3 rfl rfl ?_
  refine g_get (ci := 8) (v := .ref a_w) h in_X8 0 0 rfl rfl (fle rfl) rfl q1166 rfl dX8_isSeam_4 ?_
  refine g_iconst (v := 0) h dX8_isSeam_7 kiconst_0 ?_
  refine g_iaload h 1 rfl (by decide) dX8_isSeam_8 ?_
  refine g_iconst (v := 2) h dX8_isSeam_9 kiconst_2 ?_
  refine g_isub h dX8_isSeam_10 ?_
  refine g_i2l h dX8_isSeam_11 ?_
  obtain ⟨r_1, hv, hf⟩ := ob1 hf
  refine g_callS (n := 3) (As := [.long x1.toInt64, .long 0, .long (((w (0 : Int32).toNatClampNeg) - 2).toInt64)]) (st := []) (wr := [(a, .inr (8, [.ref a_w, .int isImage, .ref a_tape, .int taped, .ref a_lane, .ref a_size, .ref a_items, .ref a_up, .ref a_down, .int above, .int below, .ref a_fell, .int fallen, .int torn, .int at_, .int start, .int number, .ref a_read, .ref a_comesUp, .ref a_comesDown, .ref a_held])), (a_w, .inl (X.E 1, 1142, .inl w))]) (isC := []) (isR := [0, 1]) h hR (ct_X8_in (x0 := x1.toInt64) (x2 := 0) (x4 := ((w (0 : Int32).toNatClampNeg) - 2).toInt64) hv) (lw_S q1236 q1237 q80 q1238) (by decide +kernel) rfl ⟨rfl, rfl, rfl, rfl, by decide⟩ ⟨fle rfl, fle rfl, fle rfl, fle rfl, fle rfl⟩ rfl dX8_isSeam_12 (pin (perm := [0, 1]) (ws' := [(a, .inr (8, [.ref a_w, .int isImage, .ref a_tape, .int taped, .ref a_lane, .ref a_size, .ref a_items, .ref a_up, .ref a_down, .int above, .int below, .ref a_fell, .int fallen, .int torn, .int at_, .int start, .int number, .ref a_read, .ref a_comesUp, .ref a_comesDown, .ref a_held])), (a_w, .inl (X.E 1, 1142, .inl w))]) (stk := [.int r_1]) rfl rfl rfl ?_)
  clear hv
  obtain ⟨gz, hf⟩ := gy hf
  obtain rfl := sj1 hf
  exact g_zret h hF (nz gz) [0, 1] rfl rfl ⟨rfl, rfl⟩ (fle rfl) (fle rfl) dX8_isSeam_15
set_option maxHeartbeats 4000000 in
set_option maxRecDepth 100000 in
theorem ct_X8_pull {l : Launch} {D : va_G} {E : Ety} {a a_w a_tape a_lane a_size a_items a_up a_down a_fell a_read a_comesUp a_comesDown a_held : Nat} {x1 : Int32} {x2 : Int32} {isImage : Int32} {taped : Int32} {above : Int32} {below : Int32} {fallen : Int32} {torn : Int32} {at_ : Int32} {start : Int32} {number : Int32} {w : Nat → Int32} {up : Nat → Int32} {down : Nat → Int32} {r_ : Int32} {o_up : Nat → Int32} {o_down : Nat → Int32} (hf : f_X8_pull x1 x2 w up down = some (r_, o_up, o_down)) : Ct l yX8_pull cX8_pull 3 (some .int) 3 70 0 0 D E [.ref a, .int x1, .int x2] [(a, .inr (8, [.ref a_w, .int isImage, .ref a_tape, .int taped, .ref a_lane, .ref a_size, .ref a_items, .ref a_up, .ref a_down, .int above, .int below, .ref a_fell, .int fallen, .int torn, .int at_, .int start, .int number, .ref a_read, .ref a_comesUp, .ref a_comesDown, .ref a_held])), (a_w, .inl (E 1, 1142, .inl w)), (a_up, .inl (E 1, 8, .inl up)), (a_down, .inl (E 1, 8, .inl down))] (Pn (some (.int r_)) [(a, .inr (8, [.ref a_w, .int isImage, .ref a_tape, .int taped, .ref a_lane, .ref a_size, .ref a_items, .ref a_up, .ref a_down, .int above, .int below, .ref a_fell, .int fallen, .int torn, .int at_, .int start, .int number, .ref a_read, .ref a_comesUp, .ref a_comesDown, .ref a_held])), (a_w, .inl (E 1, 1142, .inl w)), (a_up, .inl (E 1, 8, .inl o_up)), (a_down, .inl (E 1, 8, .inl o_down))]) := by
  refine ct_of (own := RX8) (plainFor_of_name (by decide)) rfl (fle rfl) rfl ?_
  intro X hl hD hE hnL hXF h hR hF hnm
  subst hl; subst hD; subst hE
  have hL : ∀ i, i < 3 → i < X.nL := fun i hi => by rw [hnL]; exact hi
  unfold f_X8_pull at hf
  refine g_aload_n h 0 dX8_pull_0 rfl rfl ?_
  refine g_iload_n h 1 dX8_pull_1 rfl rfl ?_
  obtain ⟨r_1, hv, hf⟩ := ob1 hf
  refine g_callV (ci := 8) (q0 := 0) (n := 1) (As := [.int x1]) (st := []) (wr := [(a_up, .inl (X.E 1, 8, .inl up)), (a_down, .inl (X.E 1, 8, .inl down))]) (isC := [0, 1]) (isR := [2, 3]) h hR (ct_X8_isSeam (a := a) (a_w := a_w) (a_tape := a_tape) (a_lane := a_lane) (a_size := a_size) (a_items := a_items) (a_up := a_up) (a_down := a_down) (a_fell := a_fell) (a_read := a_read) (a_comesUp := a_comesUp) (a_comesDown := a_comesDown) (a_held := a_held) (x1 := x1) (isImage := isImage) (taped := taped) (above := above) (below := below) (fallen := fallen) (torn := torn) (at_ := at_) (start := start) (number := number) (w := w) hv) rfl rfl (lw_V q1374 q1376 qs49 q80 q1377) (by decide +kernel) rfl ⟨rfl, rfl, rfl, rfl, by decide⟩ ⟨fle rfl, fle rfl, fle rfl, fle rfl, fle rfl⟩ rfl dX8_pull_2 (pin (perm := [2, 3, 0, 1]) (ws' := [(a, .inr (8, [.ref a_w, .int isImage, .ref a_tape, .int taped, .ref a_lane, .ref a_size, .ref a_items, .ref a_up, .ref a_down, .int above, .int below, .ref a_fell, .int fallen, .int torn, .int at_, .int start, .int number, .ref a_read, .ref a_comesUp, .ref a_comesDown, .ref a_held])), (a_w, .inl (X.E 1, 1142, .inl w)), (a_up, .inl (X.E 1, 8, .inl up)), (a_down, .inl (X.E 1, 8, .inl down))]) (stk := [.int r_1]) rfl rfl rfl ?_)
  clear hv
  refine g_if_eq (tgt := 18) h dX8_pull_5 rfl hf (fun c2 hf => ?_) (fun c2 hf => ?_)
  · refine g_iconst (v := (-1)) h dX8_pull_18 kiconst_m1 ?_
    obtain ⟨rfl, rfl, rfl⟩ := sj3 hf
    exact g_iret h hF [0, 1, 2, 3] rfl rfl ⟨rfl, rfl⟩ (fle rfl) (fle rfl) dX8_pull_19
  · refine g_iload_n h 2 dX8_pull_8 rfl rfl ?_
    refine g_i2l h dX8_pull_9 ?_
    refine g_lconst (v := 0) h dX8_pull_10 rfl ?_
    refine g_lconst (v := 1) h dX8_pull_11 rfl ?_
    obtain ⟨r_3, hv, hf⟩ := ob1 hf
    refine g_callS (n := 3) (As := [.long x2.toInt64, .long 0, .long 1]) (st := []) (wr := [(a, .inr (8, [.ref a_w, .int isImage, .ref a_tape, .int taped, .ref a_lane, .ref a_size, .ref a_items, .ref a_up, .ref a_down, .int above, .int below, .ref a_fell, .int fallen, .int torn, .int at_, .int start, .int number, .ref a_read, .ref a_comesUp, .ref a_comesDown, .ref a_held])), (a_w, .inl (X.E 1, 1142, .inl w)), (a_up, .inl (X.E 1, 8, .inl up)), (a_down, .inl (X.E 1, 8, .inl down))]) (isC := []) (isR := [0, 1, 2, 3]) h hR (ct_X8_in (x0 := x2.toInt64) (x2 := 0) (x4 := 1) hv) (lw_S q1236 q1237 q80 q1238) (by decide +kernel) rfl ⟨rfl, rfl, rfl, rfl, by decide⟩ ⟨fle rfl, fle rfl, fle rfl, fle rfl, fle rfl⟩ rfl dX8_pull_12 (pin (perm := [0, 1, 2, 3]) (ws' := [(a, .inr (8, [.ref a_w, .int isImage, .ref a_tape, .int taped, .ref a_lane, .ref a_size, .ref a_items, .ref a_up, .ref a_down, .int above, .int below, .ref a_fell, .int fallen, .int torn, .int at_, .int start, .int number, .ref a_read, .ref a_comesUp, .ref a_comesDown, .ref a_held])), (a_w, .inl (X.E 1, 1142, .inl w)), (a_up, .inl (X.E 1, 8, .inl up)), (a_down, .inl (X.E 1, 8, .inl down))]) (stk := [.int r_3]) rfl rfl rfl ?_)
    clear hv
    refine g_if_ne (tgt := 20) h dX8_pull_15 rfl hf (fun c4 hf => ?_) (fun c4 hf => ?_)
    · refine g_iconst (v := (-1)) h dX8_pull_18 kiconst_m1 ?_
      obtain ⟨rfl, rfl, rfl⟩ := sj3 hf
      exact g_iret h hF [0, 1, 2, 3] rfl rfl ⟨rfl, rfl⟩ (fle rfl) (fle rfl) dX8_pull_19
    · refine g_aload_n h 0 dX8_pull_20 rfl rfl ?_
      refine g_iconst (v := 0) h dX8_pull_21 kiconst_0 ?_
      obtain ⟨up_5, down_6, hv, hf⟩ := ob2 hf
      refine g_callV (ci := 8) (q0 := 0) (n := 1) (As := [.int 0]) (st := []) (wr := []) (isC := [0, 1, 2, 3]) (isR := []) h hR (ct_X8_layPulls (a := a) (a_w := a_w) (a_tape := a_tape) (a_lane := a_lane) (a_size := a_size) (a_items := a_items) (a_up := a_up) (a_down := a_down) (a_fell := a_fell) (a_read := a_read) (a_comesUp := a_comesUp) (a_comesDown := a_comesDown) (a_held := a_held) (x1 := 0) (isImage := isImage) (taped := taped) (above := above) (below := below) (fallen := fallen) (torn := torn) (at_ := at_) (start := start) (number := number) (w := w) (up := up) (down := down) hv) rfl rfl (lw_V q1280 q1282 qs36 q80 q1283) (by decide +kernel) rfl ⟨rfl, rfl, rfl, rfl, by decide⟩ ⟨fle rfl, fle rfl, fle rfl, fle rfl, fle rfl⟩ rfl dX8_pull_22 (pin (perm := [0, 1, 2, 3]) (ws' := [(a, .inr (8, [.ref a_w, .int isImage, .ref a_tape, .int taped, .ref a_lane, .ref a_size, .ref a_items, .ref a_up, .ref a_down, .int above, .int below, .ref a_fell, .int fallen, .int torn, .int at_, .int start, .int number, .ref a_read, .ref a_comesUp, .ref a_comesDown, .ref a_held])), (a_w, .inl (X.E 1, 1142, .inl w)), (a_up, .inl (X.E 1, 8, .inl up_5)), (a_down, .inl (X.E 1, 8, .inl down_6))]) (stk := []) rfl rfl rfl ?_)
      clear hv
      refine g_aload_n h 0 dX8_pull_25 rfl rfl ?_
      refine g_get (ci := 8) (v := .ref a_up) h in_X8 0 7 rfl rfl (fle rfl) rfl q1173 rfl dX8_pull_26 ?_
      refine g_iload_n h 1 dX8_pull_29 rfl rfl ?_
      obtain ⟨g7, hf⟩ := gn hf
      refine g_iaload h 2 rfl g7 dX8_pull_30 ?_
      refine g_aload_n h 0 dX8_pull_31 rfl rfl ?_
      refine g_get (ci := 8) (v := .ref a_down) h in_X8 0 8 rfl rfl (fle rfl) rfl q1174 rfl dX8_pull_32 ?_
      refine g_iload_n h 1 dX8_pull_35 rfl rfl ?_
      refine g_iaload h 3 rfl g7 dX8_pull_36 ?_
      refine g_iload_n h 2 dX8_pull_37 rfl rfl ?_
      obtain ⟨r_8, hv, hf⟩ := ob1 hf
      refine g_callS (n := 3) (As := [.int (up_5 x1.toNatClampNeg), .int (down_6 x1.toNatClampNeg), .int x2]) (st := []) (wr := [(a, .inr (8, [.ref a_w, .int isImage, .ref a_tape, .int taped, .ref a_lane, .ref a_size, .ref a_items, .ref a_up, .ref a_down, .int above, .int below, .ref a_fell, .int fallen, .int torn, .int at_, .int start, .int number, .ref a_read, .ref a_comesUp, .ref a_comesDown, .ref a_held])), (a_w, .inl (X.E 1, 1142, .inl w)), (a_up, .inl (X.E 1, 8, .inl up_5)), (a_down, .inl (X.E 1, 8, .inl down_6))]) (isC := []) (isR := [0, 1, 2, 3]) h hR (ct_X8_partOf (x0 := (up_5 x1.toNatClampNeg)) (x1 := (down_6 x1.toNatClampNeg)) (x2 := x2) hv) (lw_S q1360 q1361 q80 q1362) (by decide +kernel) rfl ⟨rfl, rfl, rfl, rfl, by decide⟩ ⟨fle rfl, fle rfl, fle rfl, fle rfl, fle rfl⟩ rfl dX8_pull_38 (pin (perm := [0, 1, 2, 3]) (ws' := [(a, .inr (8, [.ref a_w, .int isImage, .ref a_tape, .int taped, .ref a_lane, .ref a_size, .ref a_items, .ref a_up, .ref a_down, .int above, .int below, .ref a_fell, .int fallen, .int torn, .int at_, .int start, .int number, .ref a_read, .ref a_comesUp, .ref a_comesDown, .ref a_held])), (a_w, .inl (X.E 1, 1142, .inl w)), (a_up, .inl (X.E 1, 8, .inl up_5)), (a_down, .inl (X.E 1, 8, .inl down_6))]) (stk := [.int r_8]) rfl rfl rfl ?_)
      clear hv
      obtain ⟨rfl, rfl, rfl⟩ := sj3 hf
      exact g_iret h hF [0, 1, 2, 3] rfl rfl ⟨rfl, rfl⟩ (fle rfl) (fle rfl) dX8_pull_41
set_option maxHeartbeats 4000000 in
set_option maxRecDepth 100000 in
theorem ct_X8_seam {l : Launch} {D : va_G} {E : Ety} {a a_w a_tape a_lane a_size a_items a_up a_down a_fell a_read a_comesUp a_comesDown a_held : Nat} {x1 : Int32} {x2 : Int32} {isImage : Int32} {taped : Int32} {above : Int32} {below : Int32} {fallen : Int32} {torn : Int32} {at_ : Int32} {start : Int32} {number : Int32} {w : Nat → Int32} {r_ : Int32} (hf : f_X8_seam x1 x2 w = some r_) : Ct l yX8_seam cX8_seam 3 (some .int) 2 46 0 0 D E [.ref a, .int x1, .int x2] [(a, .inr (8, [.ref a_w, .int isImage, .ref a_tape, .int taped, .ref a_lane, .ref a_size, .ref a_items, .ref a_up, .ref a_down, .int above, .int below, .ref a_fell, .int fallen, .int torn, .int at_, .int start, .int number, .ref a_read, .ref a_comesUp, .ref a_comesDown, .ref a_held])), (a_w, .inl (E 1, 1142, .inl w))] (Pn (some (.int r_)) [(a, .inr (8, [.ref a_w, .int isImage, .ref a_tape, .int taped, .ref a_lane, .ref a_size, .ref a_items, .ref a_up, .ref a_down, .int above, .int below, .ref a_fell, .int fallen, .int torn, .int at_, .int start, .int number, .ref a_read, .ref a_comesUp, .ref a_comesDown, .ref a_held])), (a_w, .inl (E 1, 1142, .inl w))]) := by
  refine ct_of (own := RX8) (plainFor_of_name (by decide)) rfl (fle rfl) rfl ?_
  intro X hl hD hE hnL hXF h hR hF hnm
  subst hl; subst hD; subst hE
  have hL : ∀ i, i < 3 → i < X.nL := fun i hi => by rw [hnL]; exact hi
  unfold f_X8_seam at hf
  refine g_aload_n h 0 dX8_seam_0 rfl rfl ?_
  refine g_iload_n h 1 dX8_seam_1 rfl rfl ?_
  obtain ⟨r_1, hv, hf⟩ := ob1 hf
  refine g_callV (ci := 8) (q0 := 0) (n := 1) (As := [.int x1]) (st := []) (wr := []) (isC := [0, 1]) (isR := []) h hR (ct_X8_isSeam (a := a) (a_w := a_w) (a_tape := a_tape) (a_lane := a_lane) (a_size := a_size) (a_items := a_items) (a_up := a_up) (a_down := a_down) (a_fell := a_fell) (a_read := a_read) (a_comesUp := a_comesUp) (a_comesDown := a_comesDown) (a_held := a_held) (x1 := x1) (isImage := isImage) (taped := taped) (above := above) (below := below) (fallen := fallen) (torn := torn) (at_ := at_) (start := start) (number := number) (w := w) hv) rfl rfl (lw_V q1374 q1376 qs49 q80 q1377) (by decide +kernel) rfl ⟨rfl, rfl, rfl, rfl, by decide⟩ ⟨fle rfl, fle rfl, fle rfl, fle rfl, fle rfl⟩ rfl dX8_seam_2 (pin (perm := [0, 1]) (ws' := [(a, .inr (8, [.ref a_w, .int isImage, .ref a_tape, .int taped, .ref a_lane, .ref a_size, .ref a_items, .ref a_up, .ref a_down, .int above, .int below, .ref a_fell, .int fallen, .int torn, .int at_, .int start, .int number, .ref a_read, .ref a_comesUp, .ref a_comesDown, .ref a_held])), (a_w, .inl (X.E 1, 1142, .inl w))]) (stk := [.int r_1]) rfl rfl rfl ?_)
  clear hv
  refine g_if_eq (tgt := 20) h dX8_seam_5 rfl hf (fun c2 hf => ?_) (fun c2 hf => ?_)
  · refine g_iconst (v := (-1)) h dX8_seam_20 kiconst_m1 ?_
    obtain rfl := sj1 hf
    exact g_iret h hF [0, 1] rfl rfl ⟨rfl, rfl⟩ (fle rfl) (fle rfl) dX8_seam_21
  · refine g_iload_n h 2 dX8_seam_8 rfl rfl ?_
    refine g_i2l h dX8_seam_9 ?_
    refine g_lconst (v := 0) h dX8_seam_10 rfl ?_
    refine g_ldc2 h q1382 dX8_seam_11 ?_
    obtain ⟨r_3, hv, hf⟩ := ob1 hf
    refine g_callS (n := 3) (As := [.long x2.toInt64, .long 0, .long 2]) (st := []) (wr := [(a, .inr (8, [.ref a_w, .int isImage, .ref a_tape, .int taped, .ref a_lane, .ref a_size, .ref a_items, .ref a_up, .ref a_down, .int above, .int below, .ref a_fell, .int fallen, .int torn, .int at_, .int start, .int number, .ref a_read, .ref a_comesUp, .ref a_comesDown, .ref a_held])), (a_w, .inl (X.E 1, 1142, .inl w))]) (isC := []) (isR := [0, 1]) h hR (ct_X8_in (x0 := x2.toInt64) (x2 := 0) (x4 := 2) hv) (lw_S q1236 q1237 q80 q1238) (by decide +kernel) rfl ⟨rfl, rfl, rfl, rfl, by decide⟩ ⟨fle rfl, fle rfl, fle rfl, fle rfl, fle rfl⟩ rfl dX8_seam_14 (pin (perm := [0, 1]) (ws' := [(a, .inr (8, [.ref a_w, .int isImage, .ref a_tape, .int taped, .ref a_lane, .ref a_size, .ref a_items, .ref a_up, .ref a_down, .int above, .int below, .ref a_fell, .int fallen, .int torn, .int at_, .int start, .int number, .ref a_read, .ref a_comesUp, .ref a_comesDown, .ref a_held])), (a_w, .inl (X.E 1, 1142, .inl w))]) (stk := [.int r_3]) rfl rfl rfl ?_)
    clear hv
    refine g_if_ne (tgt := 22) h dX8_seam_17 rfl hf (fun c4 hf => ?_) (fun c4 hf => ?_)
    · refine g_iconst (v := (-1)) h dX8_seam_20 kiconst_m1 ?_
      obtain rfl := sj1 hf
      exact g_iret h hF [0, 1] rfl rfl ⟨rfl, rfl⟩ (fle rfl) (fle rfl) dX8_seam_21
    · refine g_aload_n h 0 dX8_seam_22 rfl rfl ?_
      refine g_get (ci := 8) (v := .ref a_w) h in_X8 0 0 rfl rfl (fle rfl) rfl q1166 rfl dX8_seam_23 ?_
      refine g_bipush (v := 36) h dX8_seam_26 kbipush_36 ?_
      refine g_bipush (v := 8) h dX8_seam_28 kbipush_8 ?_
      refine g_iload_n h 2 dX8_seam_30 rfl rfl ?_
      refine g_imul h dX8_seam_31 ?_
      refine g_iadd h dX8_seam_32 ?_
      refine g_iload_n h 1 dX8_seam_33 rfl rfl ?_
      refine g_iadd h dX8_seam_34 ?_
      obtain ⟨g5, hf⟩ := gn hf
      refine g_iaload h 1 rfl g5 dX8_seam_35 ?_
      obtain rfl := sj1 hf
      exact g_iret h hF [0, 1] rfl rfl ⟨rfl, rfl⟩ (fle rfl) (fle rfl) dX8_seam_36
set_option maxHeartbeats 4000000 in
set_option maxRecDepth 100000 in
theorem w_X8_holding_L4 {X : Cx} {a a_comesDown a_comesUp a_down a_fell a_held a_items a_lane a_read a_size a_tape a_up a_w : Nat} {x1 : Int32} {isImage : Int32} {taped : Int32} {above : Int32} {below : Int32} {fallen : Int32} {torn : Int32} {at_ : Int32} {start : Int32} {number : Int32} {w : Nat → Int32} {ce sl : Nat} (h : Ok X cX8_holding RX8) (hR : Rm X 1 22 0 0) (hL : ∀ i, i < 4 → i < X.nL) (hce : ce ≤ 0) (hsl : sl ≤ 0) : ∀ (n0 : Nat) (x2 : Int32) (x3 : Int32) {o_x2 : Int32}, f_X8_holding_L4 x1 w n0 x2 x3 = some o_x2 → (G X [(a, .inr (8, [.ref a_w, .int isImage, .ref a_tape, .int taped, .ref a_lane, .ref a_size, .ref a_items, .ref a_up, .ref a_down, .int above, .int below, .ref a_fell, .int fallen, .int torn, .int at_, .int start, .int number, .ref a_read, .ref a_comesUp, .ref a_comesDown, .ref a_held])), (a_w, .inl (X.E 1, 1142, .inl w))] [(2, .int o_x2)] ce sl 41 []) → G X [(a, .inr (8, [.ref a_w, .int isImage, .ref a_tape, .int taped, .ref a_lane, .ref a_size, .ref a_items, .ref a_up, .ref a_down, .int above, .int below, .ref a_fell, .int fallen, .int torn, .int at_, .int start, .int number, .ref a_read, .ref a_comesUp, .ref a_comesDown, .ref a_held])), (a_w, .inl (X.E 1, 1142, .inl w))] [(0, .ref a), (1, .int x1), (2, .int x2), (3, .int x3)] ce sl 4 [] := by
  intro n0
  induction n0 with
  | zero => intro x2 x3 o_x2 hf; exact nomatch (show (none : Option _) = some _ from hf)
  | succ n0 ih =>
    intro x2 x3 o_x2 hf k0
    replace hf : t_X8_holding_L4 x1 w (f_X8_holding_L4 x1 w n0) x2 x3 = some o_x2 := hf
    unfold t_X8_holding_L4 at hf
    refine g_iload_n h 3 dX8_holding_4 rfl rfl ?_
    refine g_aload_n h 0 dX8_holding_5 rfl rfl ?_
    refine g_get (ci := 8) (v := .ref a_w) h in_X8 0 0 rfl rfl (fle rfl) rfl q1166 rfl dX8_holding_6 ?_
    refine g_iload_n h 1 dX8_holding_9 rfl rfl ?_
    refine g_iconst (v := 0) h dX8_holding_10 kiconst_0 ?_
    refine g_iadd h dX8_holding_11 ?_
    obtain ⟨g1, hf⟩ := gn hf
    refine g_iaload h 1 rfl g1 dX8_holding_12 ?_
    refine g_icmp_ge (tgt := 41) h dX8_holding_13 rfl hf (fun c2 hf => ?_) (fun c2 hf => ?_)
    · obtain rfl := sj1 hf
      exact G.lsub [2] rfl k0
    · refine g_iload_n h 2 dX8_holding_16 rfl rfl ?_
      refine g_aload_n h 0 dX8_holding_17 rfl rfl ?_
      refine g_iload_n h 1 dX8_holding_18 rfl rfl ?_
      refine g_iload_n h 3 dX8_holding_19 rfl rfl ?_
      obtain ⟨r_3, hv, hf⟩ := ob1 hf
      refine g_callV (ci := 8) (q0 := 0) (n := 2) (As := [.int x1, .int x3]) (st := [.int x2]) (wr := []) (isC := [0, 1]) (isR := []) h hR (ct_X8_holds (a := a) (a_w := a_w) (a_tape := a_tape) (a_lane := a_lane) (a_size := a_size) (a_items := a_items) (a_up := a_up) (a_down := a_down) (a_fell := a_fell) (a_read := a_read) (a_comesUp := a_comesUp) (a_comesDown := a_comesDown) (a_held := a_held) (x1 := x1) (x2 := x3) (isImage := isImage) (taped := taped) (above := above) (below := below) (fallen := fallen) (torn := torn) (at_ := at_) (start := start) (number := number) (w := w) hv) rfl rfl (lw_V q1284 q1286 qs37 q80 q1287) (by decide +kernel) rfl ⟨rfl, rfl, rfl, rfl, by decide⟩ ⟨hce, hsl, fle rfl, fle rfl, fle rfl⟩ rfl dX8_holding_20 (pin (perm := [0, 1]) (ws' := [(a, .inr (8, [.ref a_w, .int isImage, .ref a_tape, .int taped, .ref a_lane, .ref a_size, .ref a_items, .ref a_up, .ref a_down, .int above, .int below, .ref a_fell, .int fallen, .int torn, .int at_, .int start, .int number, .ref a_read, .ref a_comesUp, .ref a_comesDown, .ref a_held])), (a_w, .inl (X.E 1, 1142, .inl w))]) (stk := [.int r_3, .int x2]) rfl rfl rfl ?_)
      clear hv
      refine g_if_eq (tgt := 32) h dX8_holding_23 rfl hf (fun c4 hf => ?_) (fun c4 hf => ?_)
      · refine g_iconst (v := 0) h dX8_holding_32 kiconst_0 ?_
        refine g_ior h dX8_holding_33 ?_
        refine g_istore_n (lv' := [(2, .int (x2 ||| 0)), (0, .ref a), (1, .int x1), (3, .int x3)]) h dX8_holding_34 rfl (hL 2 (fle rfl)) rfl ?_
        refine g_iinc (j := 3) (v := (x3 + 1)) (lv' := [(3, .int (x3 + 1)), (2, .int (x2 ||| 0)), (0, .ref a), (1, .int x1)]) h dX8_holding_35 rfl (kinc_1 _) (hL 3 (fle rfl)) rfl ?_
        refine g_goto (tgt := 4) h dX8_holding_38 rfl ?_
        exact G.lsub [2, 3, 1, 0] rfl (ih _ _ hf k0)
      · refine g_iconst (v := 1) h dX8_holding_26 kiconst_1 ?_
        refine g_iload_n h 3 dX8_holding_27 rfl rfl ?_
        refine g_ishl h dX8_holding_28 ?_
        refine g_goto (tgt := 33) h dX8_holding_29 rfl ?_
        refine g_ior h dX8_holding_33 ?_
        refine g_istore_n (lv' := [(2, .int (x2 ||| (1 <<< (x3 &&& 31)))), (0, .ref a), (1, .int x1), (3, .int x3)]) h dX8_holding_34 rfl (hL 2 (fle rfl)) rfl ?_
        refine g_iinc (j := 3) (v := (x3 + 1)) (lv' := [(3, .int (x3 + 1)), (2, .int (x2 ||| (1 <<< (x3 &&& 31)))), (0, .ref a), (1, .int x1)]) h dX8_holding_35 rfl (kinc_1 _) (hL 3 (fle rfl)) rfl ?_
        refine g_goto (tgt := 4) h dX8_holding_38 rfl ?_
        exact G.lsub [2, 3, 1, 0] rfl (ih _ _ hf k0)
set_option maxHeartbeats 4000000 in
set_option maxRecDepth 100000 in
theorem ct_X8_holding {l : Launch} {D : va_G} {E : Ety} {a a_w a_tape a_lane a_size a_items a_up a_down a_fell a_read a_comesUp a_comesDown a_held : Nat} {x1 : Int32} {isImage : Int32} {taped : Int32} {above : Int32} {below : Int32} {fallen : Int32} {torn : Int32} {at_ : Int32} {start : Int32} {number : Int32} {w : Nat → Int32} {r_ : Int32} (hf : f_X8_holding x1 w = some r_) : Ct l yX8_holding cX8_holding 4 (some .int) 1 22 0 0 D E [.ref a, .int x1] [(a, .inr (8, [.ref a_w, .int isImage, .ref a_tape, .int taped, .ref a_lane, .ref a_size, .ref a_items, .ref a_up, .ref a_down, .int above, .int below, .ref a_fell, .int fallen, .int torn, .int at_, .int start, .int number, .ref a_read, .ref a_comesUp, .ref a_comesDown, .ref a_held])), (a_w, .inl (E 1, 1142, .inl w))] (Pn (some (.int r_)) [(a, .inr (8, [.ref a_w, .int isImage, .ref a_tape, .int taped, .ref a_lane, .ref a_size, .ref a_items, .ref a_up, .ref a_down, .int above, .int below, .ref a_fell, .int fallen, .int torn, .int at_, .int start, .int number, .ref a_read, .ref a_comesUp, .ref a_comesDown, .ref a_held])), (a_w, .inl (E 1, 1142, .inl w))]) := by
  refine ct_of (own := RX8) (plainFor_of_name (by decide)) rfl (fle rfl) rfl ?_
  intro X hl hD hE hnL hXF h hR hF hnm
  subst hl; subst hD; subst hE
  have hL : ∀ i, i < 4 → i < X.nL := fun i hi => by rw [hnL]; exact hi
  unfold f_X8_holding at hf
  refine g_iconst (v := 0) h dX8_holding_0 kiconst_0 ?_
  refine g_istore_n (lv' := [(2, .int 0), (0, .ref a), (1, .int x1)]) h dX8_holding_1 rfl (hL 2 (fle rfl)) rfl ?_
  refine g_iconst (v := 0) h dX8_holding_2 kiconst_0 ?_
  refine g_istore_n (lv' := [(3, .int 0), (2, .int 0), (0, .ref a), (1, .int x1)]) h dX8_holding_3 rfl (hL 3 (fle rfl)) rfl ?_
  refine G.lsub (lv' := [(0, .ref a), (1, .int x1), (2, .int 0), (3, .int 0)]) [2, 3, 1, 0] rfl ?_
  obtain ⟨x2_5, hv, hf⟩ := ob1 hf
  refine w_X8_holding_L4 (x1 := x1) (isImage := isImage) (taped := taped) (above := above) (below := below) (fallen := fallen) (torn := torn) (at_ := at_) (start := start) (number := number) (w := w) h hR hL (fle rfl) (fle rfl) FU _ _ hv ?_
  · clear hv
    refine g_iload_n h 0 dX8_holding_41 rfl rfl ?_
    obtain rfl := sj1 hf
    exact g_iret h hF [0, 1] rfl rfl ⟨rfl, rfl⟩ (fle rfl) (fle rfl) dX8_holding_42
set_option maxHeartbeats 4000000 in
set_option maxRecDepth 100000 in
theorem w_X8_cutOnes_L4 {X : Cx} {a a_comesDown a_comesUp a_down a_fell a_held a_items a_lane a_read a_size a_tape a_up a_w : Nat} {x1 : Int32} {isImage : Int32} {taped : Int32} {above : Int32} {below : Int32} {fallen : Int32} {torn : Int32} {at_ : Int32} {start : Int32} {number : Int32} {w : Nat → Int32} {ce sl : Nat} (h : Ok X cX8_cutOnes RX8) (hR : Rm X 0 0 0 0) (hL : ∀ i, i < 4 → i < X.nL) (hce : ce ≤ 0) (hsl : sl ≤ 0) : ∀ (n0 : Nat) (x2 : Int32) (x3 : Int32) {o_x2 : Int32}, f_X8_cutOnes_L4 x1 w n0 x2 x3 = some o_x2 → (G X [(a, .inr (8, [.ref a_w, .int isImage, .ref a_tape, .int taped, .ref a_lane, .ref a_size, .ref a_items, .ref a_up, .ref a_down, .int above, .int below, .ref a_fell, .int fallen, .int torn, .int at_, .int start, .int number, .ref a_read, .ref a_comesUp, .ref a_comesDown, .ref a_held])), (a_w, .inl (X.E 1, 1142, .inl w))] [(2, .int o_x2)] ce sl 40 []) → G X [(a, .inr (8, [.ref a_w, .int isImage, .ref a_tape, .int taped, .ref a_lane, .ref a_size, .ref a_items, .ref a_up, .ref a_down, .int above, .int below, .ref a_fell, .int fallen, .int torn, .int at_, .int start, .int number, .ref a_read, .ref a_comesUp, .ref a_comesDown, .ref a_held])), (a_w, .inl (X.E 1, 1142, .inl w))] [(0, .ref a), (1, .int x1), (2, .int x2), (3, .int x3)] ce sl 4 [] := by
  intro n0
  induction n0 with
  | zero => intro x2 x3 o_x2 hf; exact nomatch (show (none : Option _) = some _ from hf)
  | succ n0 ih =>
    intro x2 x3 o_x2 hf k0
    replace hf : t_X8_cutOnes_L4 x1 w (f_X8_cutOnes_L4 x1 w n0) x2 x3 = some o_x2 := hf
    unfold t_X8_cutOnes_L4 at hf
    refine g_iload_n h 3 dX8_cutOnes_4 rfl rfl ?_
    refine g_iconst (v := 1) h dX8_cutOnes_5 kiconst_1 ?_
    refine g_iadd h dX8_cutOnes_6 ?_
    refine g_aload_n h 0 dX8_cutOnes_7 rfl rfl ?_
    refine g_get (ci := 8) (v := .ref a_w) h in_X8 0 0 rfl rfl (fle rfl) rfl q1166 rfl dX8_cutOnes_8 ?_
    refine g_iload_n h 1 dX8_cutOnes_11 rfl rfl ?_
    refine g_iconst (v := 0) h dX8_cutOnes_12 kiconst_0 ?_
    refine g_iadd h dX8_cutOnes_13 ?_
    obtain ⟨g1, hf⟩ := gn hf
    refine g_iaload h 1 rfl g1 dX8_cutOnes_14 ?_
    refine g_icmp_ge (tgt := 40) h dX8_cutOnes_15 rfl hf (fun c2 hf => ?_) (fun c2 hf => ?_)
    · obtain rfl := sj1 hf
      exact G.lsub [2] rfl k0
    · refine g_iload_n h 2 dX8_cutOnes_18 rfl rfl ?_
      refine g_aload_n h 0 dX8_cutOnes_19 rfl rfl ?_
      refine g_get (ci := 8) (v := .ref a_w) h in_X8 0 0 rfl rfl (fle rfl) rfl q1166 rfl dX8_cutOnes_20 ?_
      refine g_iload_n h 1 dX8_cutOnes_23 rfl rfl ?_
      refine g_bipush (v := 52) h dX8_cutOnes_24 kbipush_52 ?_
      refine g_iadd h dX8_cutOnes_26 ?_
      refine g_iload_n h 3 dX8_cutOnes_27 rfl rfl ?_
      refine g_iadd h dX8_cutOnes_28 ?_
      obtain ⟨g3, hf⟩ := gn hf
      refine g_iaload h 1 rfl g3 dX8_cutOnes_29 ?_
      refine g_iload_n h 3 dX8_cutOnes_30 rfl rfl ?_
      refine g_ishl h dX8_cutOnes_31 ?_
      refine g_ior h dX8_cutOnes_32 ?_
      refine nm_i (fun y_4 ey_4 => ?_)
      have hf := nm_at hf y_4 ey_4
      refine g_istore_n (lv' := [(2, .int y_4), (0, .ref a), (1, .int x1), (3, .int x3)]) h dX8_cutOnes_33 rfl (hL 2 (fle rfl)) rfl ?_
      refine g_iinc (j := 3) (v := (x3 + 1)) (lv' := [(3, .int (x3 + 1)), (2, .int y_4), (0, .ref a), (1, .int x1)]) h dX8_cutOnes_34 rfl (kinc_1 _) (hL 3 (fle rfl)) rfl ?_
      refine g_goto (tgt := 4) h dX8_cutOnes_37 rfl ?_
      exact G.lsub [2, 3, 1, 0] rfl (ih _ _ hf k0)
set_option maxHeartbeats 4000000 in
set_option maxRecDepth 100000 in
theorem ct_X8_cutOnes {l : Launch} {D : va_G} {E : Ety} {a a_w a_tape a_lane a_size a_items a_up a_down a_fell a_read a_comesUp a_comesDown a_held : Nat} {x1 : Int32} {isImage : Int32} {taped : Int32} {above : Int32} {below : Int32} {fallen : Int32} {torn : Int32} {at_ : Int32} {start : Int32} {number : Int32} {w : Nat → Int32} {r_ : Int32} (hf : f_X8_cutOnes x1 w = some r_) : Ct l yX8_cutOnes cX8_cutOnes 4 (some .int) 0 0 0 0 D E [.ref a, .int x1] [(a, .inr (8, [.ref a_w, .int isImage, .ref a_tape, .int taped, .ref a_lane, .ref a_size, .ref a_items, .ref a_up, .ref a_down, .int above, .int below, .ref a_fell, .int fallen, .int torn, .int at_, .int start, .int number, .ref a_read, .ref a_comesUp, .ref a_comesDown, .ref a_held])), (a_w, .inl (E 1, 1142, .inl w))] (Pn (some (.int r_)) [(a, .inr (8, [.ref a_w, .int isImage, .ref a_tape, .int taped, .ref a_lane, .ref a_size, .ref a_items, .ref a_up, .ref a_down, .int above, .int below, .ref a_fell, .int fallen, .int torn, .int at_, .int start, .int number, .ref a_read, .ref a_comesUp, .ref a_comesDown, .ref a_held])), (a_w, .inl (E 1, 1142, .inl w))]) := by
  refine ct_of (own := RX8) (plainFor_of_name (by decide)) rfl (fle rfl) rfl ?_
  intro X hl hD hE hnL hXF h hR hF hnm
  subst hl; subst hD; subst hE
  have hL : ∀ i, i < 4 → i < X.nL := fun i hi => by rw [hnL]; exact hi
  unfold f_X8_cutOnes at hf
  refine g_iconst (v := 0) h dX8_cutOnes_0 kiconst_0 ?_
  refine g_istore_n (lv' := [(2, .int 0), (0, .ref a), (1, .int x1)]) h dX8_cutOnes_1 rfl (hL 2 (fle rfl)) rfl ?_
  refine g_iconst (v := 0) h dX8_cutOnes_2 kiconst_0 ?_
  refine g_istore_n (lv' := [(3, .int 0), (2, .int 0), (0, .ref a), (1, .int x1)]) h dX8_cutOnes_3 rfl (hL 3 (fle rfl)) rfl ?_
  refine G.lsub (lv' := [(0, .ref a), (1, .int x1), (2, .int 0), (3, .int 0)]) [2, 3, 1, 0] rfl ?_
  obtain ⟨x2_5, hv, hf⟩ := ob1 hf
  refine w_X8_cutOnes_L4 (x1 := x1) (isImage := isImage) (taped := taped) (above := above) (below := below) (fallen := fallen) (torn := torn) (at_ := at_) (start := start) (number := number) (w := w) h hR hL (fle rfl) (fle rfl) FU _ _ hv ?_
  · clear hv
    refine g_iload_n h 0 dX8_cutOnes_40 rfl rfl ?_
    obtain rfl := sj1 hf
    exact g_iret h hF [0, 1] rfl rfl ⟨rfl, rfl⟩ (fle rfl) (fle rfl) dX8_cutOnes_41
set_option maxHeartbeats 4000000 in
set_option maxRecDepth 100000 in
theorem w_X8_tautOnes_L9 {X : Cx} {a a_comesDown a_comesUp a_down a_fell a_held a_items a_lane a_read a_size a_tape a_up a_w : Nat} {isImage : Int32} {taped : Int32} {above : Int32} {below : Int32} {fallen : Int32} {torn : Int32} {at_ : Int32} {start : Int32} {number : Int32} {w : Nat → Int32} {up : Nat → Int32} {down : Nat → Int32} {ce sl : Nat} (h : Ok X cX8_tautOnes RX8) (hR : Rm X 3 70 0 0) (hL : ∀ i, i < 3 → i < X.nL) (hce : ce ≤ 0) (hsl : sl ≤ 0) : ∀ (n0 : Nat) (x1 : Int32) (x2 : Int32) {o_x1 : Int32}, f_X8_tautOnes_L9 w up n0 x1 x2 = some o_x1 → (G X [(a, .inr (8, [.ref a_w, .int isImage, .ref a_tape, .int taped, .ref a_lane, .ref a_size, .ref a_items, .ref a_up, .ref a_down, .int above, .int below, .ref a_fell, .int fallen, .int torn, .int at_, .int start, .int number, .ref a_read, .ref a_comesUp, .ref a_comesDown, .ref a_held])), (a_w, .inl (X.E 1, 1142, .inl w)), (a_up, .inl (X.E 1, 8, .inl up)), (a_down, .inl (X.E 1, 8, .inl down))] [(1, .int o_x1)] ce sl 46 []) → G X [(a, .inr (8, [.ref a_w, .int isImage, .ref a_tape, .int taped, .ref a_lane, .ref a_size, .ref a_items, .ref a_up, .ref a_down, .int above, .int below, .ref a_fell, .int fallen, .int torn, .int at_, .int start, .int number, .ref a_read, .ref a_comesUp, .ref a_comesDown, .ref a_held])), (a_w, .inl (X.E 1, 1142, .inl w)), (a_up, .inl (X.E 1, 8, .inl up)), (a_down, .inl (X.E 1, 8, .inl down))] [(0, .ref a), (1, .int x1), (2, .int x2)] ce sl 9 [] := by
  intro n0
  induction n0 with
  | zero => intro x1 x2 o_x1 hf; exact nomatch (show (none : Option _) = some _ from hf)
  | succ n0 ih =>
    intro x1 x2 o_x1 hf k0
    replace hf : t_X8_tautOnes_L9 w up (f_X8_tautOnes_L9 w up n0) x1 x2 = some o_x1 := hf
    unfold t_X8_tautOnes_L9 at hf
    refine g_iload_n h 2 dX8_tautOnes_9 rfl rfl ?_
    refine g_iconst (v := 1) h dX8_tautOnes_10 kiconst_1 ?_
    refine g_iadd h dX8_tautOnes_11 ?_
    refine g_aload_n h 0 dX8_tautOnes_12 rfl rfl ?_
    refine g_get (ci := 8) (v := .ref a_w) h in_X8 0 0 rfl rfl (fle rfl) rfl q1166 rfl dX8_tautOnes_13 ?_
    refine g_iconst (v := 0) h dX8_tautOnes_16 kiconst_0 ?_
    refine g_iaload h 1 rfl (by decide) dX8_tautOnes_17 ?_
    refine g_icmp_ge (tgt := 46) h dX8_tautOnes_18 rfl hf (fun c3 hf => ?_) (fun c3 hf => ?_)
    · obtain rfl := sj1 hf
      exact G.lsub [1] rfl k0
    · refine g_iload_n h 1 dX8_tautOnes_21 rfl rfl ?_
      refine g_aload_n h 0 dX8_tautOnes_22 rfl rfl ?_
      refine g_get (ci := 8) (v := .ref a_up) h in_X8 0 7 rfl rfl (fle rfl) rfl q1173 rfl dX8_tautOnes_23 ?_
      refine g_iload_n h 2 dX8_tautOnes_26 rfl rfl ?_
      obtain ⟨g4, hf⟩ := gn hf
      refine g_iaload h 2 rfl g4 dX8_tautOnes_27 ?_
      refine g_if_le (tgt := 37) h dX8_tautOnes_28 rfl hf (fun c5 hf => ?_) (fun c5 hf => ?_)
      · refine g_iconst (v := 0) h dX8_tautOnes_37 kiconst_0 ?_
        refine g_ior h dX8_tautOnes_38 ?_
        refine g_istore_n (lv' := [(1, .int (x1 ||| 0)), (0, .ref a), (2, .int x2)]) h dX8_tautOnes_39 rfl (hL 1 (fle rfl)) rfl ?_
        refine g_iinc (j := 2) (v := (x2 + 1)) (lv' := [(2, .int (x2 + 1)), (1, .int (x1 ||| 0)), (0, .ref a)]) h dX8_tautOnes_40 rfl (kinc_1 _) (hL 2 (fle rfl)) rfl ?_
        refine g_goto (tgt := 9) h dX8_tautOnes_43 rfl ?_
        exact G.lsub [2, 1, 0] rfl (ih _ _ hf k0)
      · refine g_iconst (v := 1) h dX8_tautOnes_31 kiconst_1 ?_
        refine g_iload_n h 2 dX8_tautOnes_32 rfl rfl ?_
        refine g_ishl h dX8_tautOnes_33 ?_
        refine g_goto (tgt := 38) h dX8_tautOnes_34 rfl ?_
        refine g_ior h dX8_tautOnes_38 ?_
        refine g_istore_n (lv' := [(1, .int (x1 ||| (1 <<< (x2 &&& 31)))), (0, .ref a), (2, .int x2)]) h dX8_tautOnes_39 rfl (hL 1 (fle rfl)) rfl ?_
        refine g_iinc (j := 2) (v := (x2 + 1)) (lv' := [(2, .int (x2 + 1)), (1, .int (x1 ||| (1 <<< (x2 &&& 31)))), (0, .ref a)]) h dX8_tautOnes_40 rfl (kinc_1 _) (hL 2 (fle rfl)) rfl ?_
        refine g_goto (tgt := 9) h dX8_tautOnes_43 rfl ?_
        exact G.lsub [2, 1, 0] rfl (ih _ _ hf k0)
set_option maxHeartbeats 4000000 in
set_option maxRecDepth 100000 in
theorem ct_X8_tautOnes {l : Launch} {D : va_G} {E : Ety} {a a_w a_tape a_lane a_size a_items a_up a_down a_fell a_read a_comesUp a_comesDown a_held : Nat} {isImage : Int32} {taped : Int32} {above : Int32} {below : Int32} {fallen : Int32} {torn : Int32} {at_ : Int32} {start : Int32} {number : Int32} {w : Nat → Int32} {up : Nat → Int32} {down : Nat → Int32} {r_ : Int32} {o_up : Nat → Int32} {o_down : Nat → Int32} (hf : f_X8_tautOnes w up down = some (r_, o_up, o_down)) : Ct l yX8_tautOnes cX8_tautOnes 3 (some .int) 3 70 0 0 D E [.ref a] [(a, .inr (8, [.ref a_w, .int isImage, .ref a_tape, .int taped, .ref a_lane, .ref a_size, .ref a_items, .ref a_up, .ref a_down, .int above, .int below, .ref a_fell, .int fallen, .int torn, .int at_, .int start, .int number, .ref a_read, .ref a_comesUp, .ref a_comesDown, .ref a_held])), (a_w, .inl (E 1, 1142, .inl w)), (a_up, .inl (E 1, 8, .inl up)), (a_down, .inl (E 1, 8, .inl down))] (Pn (some (.int r_)) [(a, .inr (8, [.ref a_w, .int isImage, .ref a_tape, .int taped, .ref a_lane, .ref a_size, .ref a_items, .ref a_up, .ref a_down, .int above, .int below, .ref a_fell, .int fallen, .int torn, .int at_, .int start, .int number, .ref a_read, .ref a_comesUp, .ref a_comesDown, .ref a_held])), (a_w, .inl (E 1, 1142, .inl w)), (a_up, .inl (E 1, 8, .inl o_up)), (a_down, .inl (E 1, 8, .inl o_down))]) := by
  refine ct_of (own := RX8) (plainFor_of_name (by decide)) rfl (fle rfl) rfl ?_
  intro X hl hD hE hnL hXF h hR hF hnm
  subst hl; subst hD; subst hE
  have hL : ∀ i, i < 3 → i < X.nL := fun i hi => by rw [hnL]; exact hi
  unfold f_X8_tautOnes at hf
  refine g_aload_n h 0 dX8_tautOnes_0 rfl rfl ?_
  refine g_iconst (v := 0) h dX8_tautOnes_1 kiconst_0 ?_
  obtain ⟨up_1, down_2, hv, hf⟩ := ob2 hf
  refine g_callV (ci := 8) (q0 := 0) (n := 1) (As := [.int 0]) (st := []) (wr := []) (isC := [0, 1, 2, 3]) (isR := []) h hR (ct_X8_layPulls (a := a) (a_w := a_w) (a_tape := a_tape) (a_lane := a_lane) (a_size := a_size) (a_items := a_items) (a_up := a_up) (a_down := a_down) (a_fell := a_fell) (a_read := a_read) (a_comesUp := a_comesUp) (a_comesDown := a_comesDown) (a_held := a_held) (x1 := 0) (isImage := isImage) (taped := taped) (above := above) (below := below) (fallen := fallen) (torn := torn) (at_ := at_) (start := start) (number := number) (w := w) (up := up) (down := down) hv) rfl rfl (lw_V q1280 q1282 qs36 q80 q1283) (by decide +kernel) rfl ⟨rfl, rfl, rfl, rfl, by decide⟩ ⟨fle rfl, fle rfl, fle rfl, fle rfl, fle rfl⟩ rfl dX8_tautOnes_2 (pin (perm := [0, 1, 2, 3]) (ws' := [(a, .inr (8, [.ref a_w, .int isImage, .ref a_tape, .int taped, .ref a_lane, .ref a_size, .ref a_items, .ref a_up, .ref a_down, .int above, .int below, .ref a_fell, .int fallen, .int torn, .int at_, .int start, .int number, .ref a_read, .ref a_comesUp, .ref a_comesDown, .ref a_held])), (a_w, .inl (X.E 1, 1142, .inl w)), (a_up, .inl (X.E 1, 8, .inl up_1)), (a_down, .inl (X.E 1, 8, .inl down_2))]) (stk := []) rfl rfl rfl ?_)
  clear hv
  refine g_iconst (v := 0) h dX8_tautOnes_5 kiconst_0 ?_
  refine g_istore_n (lv' := [(1, .int 0), (0, .ref a)]) h dX8_tautOnes_6 rfl (hL 1 (fle rfl)) rfl ?_
  refine g_iconst (v := 0) h dX8_tautOnes_7 kiconst_0 ?_
  refine g_istore_n (lv' := [(2, .int 0), (1, .int 0), (0, .ref a)]) h dX8_tautOnes_8 rfl (hL 2 (fle rfl)) rfl ?_
  refine G.lsub (lv' := [(0, .ref a), (1, .int 0), (2, .int 0)]) [2, 1, 0] rfl ?_
  obtain ⟨x1_6, hv, hf⟩ := ob1 hf
  refine w_X8_tautOnes_L9 (isImage := isImage) (taped := taped) (above := above) (below := below) (fallen := fallen) (torn := torn) (at_ := at_) (start := start) (number := number) (w := w) (up := up_1) (down := down_2) h hR hL (fle rfl) (fle rfl) FU _ _ hv ?_
  · clear hv
    refine g_iload_n h 0 dX8_tautOnes_46 rfl rfl ?_
    obtain ⟨rfl, rfl, rfl⟩ := sj3 hf
    exact g_iret h hF [0, 1, 2, 3] rfl rfl ⟨rfl, rfl⟩ (fle rfl) (fle rfl) dX8_tautOnes_47
set_option maxHeartbeats 4000000 in
set_option maxRecDepth 100000 in
theorem w_X8_greatest_L4 {X : Cx} {a a_comesDown a_comesUp a_down a_fell a_held a_items a_lane a_read a_size a_tape a_up a_w : Nat} {x1 : Int32} {isImage : Int32} {taped : Int32} {above : Int32} {below : Int32} {fallen : Int32} {torn : Int32} {at_ : Int32} {start : Int32} {number : Int32} {w : Nat → Int32} {up : Nat → Int32} {down : Nat → Int32} {ce sl : Nat} (h : Ok X cX8_greatest RX8) (hR : Rm X 0 0 0 0) (hL : ∀ i, i < 4 → i < X.nL) (hce : ce ≤ 0) (hsl : sl ≤ 0) : ∀ (n0 : Nat) (x2 : Int32) (x3 : Int32) {o_x2 : Int32}, f_X8_greatest_L4 x1 w up down n0 x2 x3 = some o_x2 → (G X [(a, .inr (8, [.ref a_w, .int isImage, .ref a_tape, .int taped, .ref a_lane, .ref a_size, .ref a_items, .ref a_up, .ref a_down, .int above, .int below, .ref a_fell, .int fallen, .int torn, .int at_, .int start, .int number, .ref a_read, .ref a_comesUp, .ref a_comesDown, .ref a_held])), (a_w, .inl (X.E 1, 1142, .inl w)), (a_up, .inl (X.E 1, 8, .inl up)), (a_down, .inl (X.E 1, 8, .inl down))] [(2, .int o_x2)] ce sl 59 []) → G X [(a, .inr (8, [.ref a_w, .int isImage, .ref a_tape, .int taped, .ref a_lane, .ref a_size, .ref a_items, .ref a_up, .ref a_down, .int above, .int below, .ref a_fell, .int fallen, .int torn, .int at_, .int start, .int number, .ref a_read, .ref a_comesUp, .ref a_comesDown, .ref a_held])), (a_w, .inl (X.E 1, 1142, .inl w)), (a_up, .inl (X.E 1, 8, .inl up)), (a_down, .inl (X.E 1, 8, .inl down))] [(0, .ref a), (1, .int x1), (2, .int x2), (3, .int x3)] ce sl 4 [] := by
  intro n0
  induction n0 with
  | zero => intro x2 x3 o_x2 hf; exact nomatch (show (none : Option _) = some _ from hf)
  | succ n0 ih =>
    intro x2 x3 o_x2 hf k0
    replace hf : t_X8_greatest_L4 x1 w up down (f_X8_greatest_L4 x1 w up down n0) x2 x3 = some o_x2 := hf
    unfold t_X8_greatest_L4 at hf
    refine g_iload_n h 3 dX8_greatest_4 rfl rfl ?_
    refine g_iconst (v := 1) h dX8_greatest_5 kiconst_1 ?_
    refine g_iadd h dX8_greatest_6 ?_
    refine g_aload_n h 0 dX8_greatest_7 rfl rfl ?_
    refine g_get (ci := 8) (v := .ref a_w) h in_X8 0 0 rfl rfl (fle rfl) rfl q1166 rfl dX8_greatest_8 ?_
    refine g_iload_n h 1 dX8_greatest_11 rfl rfl ?_
    refine g_iconst (v := 0) h dX8_greatest_12 kiconst_0 ?_
    refine g_iadd h dX8_greatest_13 ?_
    obtain ⟨g1, hf⟩ := gn hf
    refine g_iaload h 1 rfl g1 dX8_greatest_14 ?_
    refine g_icmp_ge (tgt := 59) h dX8_greatest_15 rfl hf (fun c2 hf => ?_) (fun c2 hf => ?_)
    · obtain rfl := sj1 hf
      exact G.lsub [2] rfl k0
    · refine g_aload_n h 0 dX8_greatest_18 rfl rfl ?_
      refine g_get (ci := 8) (v := .ref a_up) h in_X8 0 7 rfl rfl (fle rfl) rfl q1173 rfl dX8_greatest_19 ?_
      refine g_iload_n h 3 dX8_greatest_22 rfl rfl ?_
      obtain ⟨g3, hf⟩ := gn hf
      refine g_iaload h 2 rfl g3 dX8_greatest_23 ?_
      refine g_aload_n h 0 dX8_greatest_24 rfl rfl ?_
      refine g_get (ci := 8) (v := .ref a_down) h in_X8 0 8 rfl rfl (fle rfl) rfl q1174 rfl dX8_greatest_25 ?_
      refine g_iload_n h 2 dX8_greatest_28 rfl rfl ?_
      obtain ⟨g4, hf⟩ := gn hf
      refine g_iaload h 3 rfl g4 dX8_greatest_29 ?_
      refine g_imul h dX8_greatest_30 ?_
      refine g_aload_n h 0 dX8_greatest_31 rfl rfl ?_
      refine g_get (ci := 8) (v := .ref a_up) h in_X8 0 7 rfl rfl (fle rfl) rfl q1173 rfl dX8_greatest_32 ?_
      refine g_iload_n h 2 dX8_greatest_35 rfl rfl ?_
      refine g_iaload h 2 rfl g4 dX8_greatest_36 ?_
      refine g_aload_n h 0 dX8_greatest_37 rfl rfl ?_
      refine g_get (ci := 8) (v := .ref a_down) h in_X8 0 8 rfl rfl (fle rfl) rfl q1174 rfl dX8_greatest_38 ?_
      refine g_iload_n h 3 dX8_greatest_41 rfl rfl ?_
      refine g_iaload h 3 rfl g3 dX8_greatest_42 ?_
      refine g_imul h dX8_greatest_43 ?_
      refine g_icmp_le (tgt := 51) h dX8_greatest_44 rfl hf (fun c5 hf => ?_) (fun c5 hf => ?_)
      · refine g_iload_n h 2 dX8_greatest_51 rfl rfl ?_
        refine g_istore_n (lv' := [(2, .int x2), (0, .ref a), (1, .int x1), (3, .int x3)]) h dX8_greatest_52 rfl (hL 2 (fle rfl)) rfl ?_
        refine g_iinc (j := 3) (v := (x3 + 1)) (lv' := [(3, .int (x3 + 1)), (2, .int x2), (0, .ref a), (1, .int x1)]) h dX8_greatest_53 rfl (kinc_1 _) (hL 3 (fle rfl)) rfl ?_
        refine g_goto (tgt := 4) h dX8_greatest_56 rfl ?_
        exact G.lsub [2, 3, 1, 0] rfl (ih _ _ hf k0)
      · refine g_iload_n h 3 dX8_greatest_47 rfl rfl ?_
        refine g_goto (tgt := 52) h dX8_greatest_48 rfl ?_
        refine g_istore_n (lv' := [(2, .int x3), (0, .ref a), (1, .int x1), (3, .int x3)]) h dX8_greatest_52 rfl (hL 2 (fle rfl)) rfl ?_
        refine g_iinc (j := 3) (v := (x3 + 1)) (lv' := [(3, .int (x3 + 1)), (2, .int x3), (0, .ref a), (1, .int x1)]) h dX8_greatest_53 rfl (kinc_1 _) (hL 3 (fle rfl)) rfl ?_
        refine g_goto (tgt := 4) h dX8_greatest_56 rfl ?_
        exact G.lsub [2, 3, 1, 0] rfl (ih _ _ hf k0)
set_option maxHeartbeats 4000000 in
set_option maxRecDepth 100000 in
theorem ct_X8_greatest {l : Launch} {D : va_G} {E : Ety} {a a_w a_tape a_lane a_size a_items a_up a_down a_fell a_read a_comesUp a_comesDown a_held : Nat} {x1 : Int32} {isImage : Int32} {taped : Int32} {above : Int32} {below : Int32} {fallen : Int32} {torn : Int32} {at_ : Int32} {start : Int32} {number : Int32} {w : Nat → Int32} {up : Nat → Int32} {down : Nat → Int32} {r_ : Int32} (hf : f_X8_greatest x1 w up down = some r_) : Ct l yX8_greatest cX8_greatest 4 (some .int) 0 0 0 0 D E [.ref a, .int x1] [(a, .inr (8, [.ref a_w, .int isImage, .ref a_tape, .int taped, .ref a_lane, .ref a_size, .ref a_items, .ref a_up, .ref a_down, .int above, .int below, .ref a_fell, .int fallen, .int torn, .int at_, .int start, .int number, .ref a_read, .ref a_comesUp, .ref a_comesDown, .ref a_held])), (a_w, .inl (E 1, 1142, .inl w)), (a_up, .inl (E 1, 8, .inl up)), (a_down, .inl (E 1, 8, .inl down))] (Pn (some (.int r_)) [(a, .inr (8, [.ref a_w, .int isImage, .ref a_tape, .int taped, .ref a_lane, .ref a_size, .ref a_items, .ref a_up, .ref a_down, .int above, .int below, .ref a_fell, .int fallen, .int torn, .int at_, .int start, .int number, .ref a_read, .ref a_comesUp, .ref a_comesDown, .ref a_held])), (a_w, .inl (E 1, 1142, .inl w)), (a_up, .inl (E 1, 8, .inl up)), (a_down, .inl (E 1, 8, .inl down))]) := by
  refine ct_of (own := RX8) (plainFor_of_name (by decide)) rfl (fle rfl) rfl ?_
  intro X hl hD hE hnL hXF h hR hF hnm
  subst hl; subst hD; subst hE
  have hL : ∀ i, i < 4 → i < X.nL := fun i hi => by rw [hnL]; exact hi
  unfold f_X8_greatest at hf
  refine g_iconst (v := 0) h dX8_greatest_0 kiconst_0 ?_
  refine g_istore_n (lv' := [(2, .int 0), (0, .ref a), (1, .int x1)]) h dX8_greatest_1 rfl (hL 2 (fle rfl)) rfl ?_
  refine g_iconst (v := 1) h dX8_greatest_2 kiconst_1 ?_
  refine g_istore_n (lv' := [(3, .int 1), (2, .int 0), (0, .ref a), (1, .int x1)]) h dX8_greatest_3 rfl (hL 3 (fle rfl)) rfl ?_
  refine G.lsub (lv' := [(0, .ref a), (1, .int x1), (2, .int 0), (3, .int 1)]) [2, 3, 1, 0] rfl ?_
  obtain ⟨x2_6, hv, hf⟩ := ob1 hf
  refine w_X8_greatest_L4 (x1 := x1) (isImage := isImage) (taped := taped) (above := above) (below := below) (fallen := fallen) (torn := torn) (at_ := at_) (start := start) (number := number) (w := w) (up := up) (down := down) h hR hL (fle rfl) (fle rfl) FU _ _ hv ?_
  · clear hv
    refine g_iload_n h 0 dX8_greatest_59 rfl rfl ?_
    obtain rfl := sj1 hf
    exact g_iret h hF [0, 1, 2, 3] rfl rfl ⟨rfl, rfl⟩ (fle rfl) (fle rfl) dX8_greatest_60
set_option maxHeartbeats 4000000 in
set_option maxRecDepth 100000 in
theorem ct_X8_greatestCut {l : Launch} {D : va_G} {E : Ety} {a a_w a_tape a_lane a_size a_items a_up a_down a_fell a_read a_comesUp a_comesDown a_held : Nat} {x1 : Int32} {isImage : Int32} {taped : Int32} {above : Int32} {below : Int32} {fallen : Int32} {torn : Int32} {at_ : Int32} {start : Int32} {number : Int32} {w : Nat → Int32} {up : Nat → Int32} {down : Nat → Int32} {r_ : Int32} {o_up : Nat → Int32} {o_down : Nat → Int32} (hf : f_X8_greatestCut x1 w up down = some (r_, o_up, o_down)) : Ct l yX8_greatestCut cX8_greatestCut 3 (some .int) 3 70 0 0 D E [.ref a, .int x1] [(a, .inr (8, [.ref a_w, .int isImage, .ref a_tape, .int taped, .ref a_lane, .ref a_size, .ref a_items, .ref a_up, .ref a_down, .int above, .int below, .ref a_fell, .int fallen, .int torn, .int at_, .int start, .int number, .ref a_read, .ref a_comesUp, .ref a_comesDown, .ref a_held])), (a_w, .inl (E 1, 1142, .inl w)), (a_up, .inl (E 1, 8, .inl up)), (a_down, .inl (E 1, 8, .inl down))] (Pn (some (.int r_)) [(a, .inr (8, [.ref a_w, .int isImage, .ref a_tape, .int taped, .ref a_lane, .ref a_size, .ref a_items, .ref a_up, .ref a_down, .int above, .int below, .ref a_fell, .int fallen, .int torn, .int at_, .int start, .int number, .ref a_read, .ref a_comesUp, .ref a_comesDown, .ref a_held])), (a_w, .inl (E 1, 1142, .inl w)), (a_up, .inl (E 1, 8, .inl o_up)), (a_down, .inl (E 1, 8, .inl o_down))]) := by
  refine ct_of (own := RX8) (plainFor_of_name (by decide)) rfl (fle rfl) rfl ?_
  intro X hl hD hE hnL hXF h hR hF hnm
  subst hl; subst hD; subst hE
  have hL : ∀ i, i < 3 → i < X.nL := fun i hi => by rw [hnL]; exact hi
  unfold f_X8_greatestCut at hf
  refine g_aload_n h 0 dX8_greatestCut_0 rfl rfl ?_
  refine g_iload_n h 1 dX8_greatestCut_1 rfl rfl ?_
  obtain ⟨up_1, down_2, hv, hf⟩ := ob2 hf
  refine g_callV (ci := 8) (q0 := 0) (n := 1) (As := [.int x1]) (st := []) (wr := []) (isC := [0, 1, 2, 3]) (isR := []) h hR (ct_X8_layPulls (a := a) (a_w := a_w) (a_tape := a_tape) (a_lane := a_lane) (a_size := a_size) (a_items := a_items) (a_up := a_up) (a_down := a_down) (a_fell := a_fell) (a_read := a_read) (a_comesUp := a_comesUp) (a_comesDown := a_comesDown) (a_held := a_held) (x1 := x1) (isImage := isImage) (taped := taped) (above := above) (below := below) (fallen := fallen) (torn := torn) (at_ := at_) (start := start) (number := number) (w := w) (up := up) (down := down) hv) rfl rfl (lw_V q1280 q1282 qs36 q80 q1283) (by decide +kernel) rfl ⟨rfl, rfl, rfl, rfl, by decide⟩ ⟨fle rfl, fle rfl, fle rfl, fle rfl, fle rfl⟩ rfl dX8_greatestCut_2 (pin (perm := [0, 1, 2, 3]) (ws' := [(a, .inr (8, [.ref a_w, .int isImage, .ref a_tape, .int taped, .ref a_lane, .ref a_size, .ref a_items, .ref a_up, .ref a_down, .int above, .int below, .ref a_fell, .int fallen, .int torn, .int at_, .int start, .int number, .ref a_read, .ref a_comesUp, .ref a_comesDown, .ref a_held])), (a_w, .inl (X.E 1, 1142, .inl w)), (a_up, .inl (X.E 1, 8, .inl up_1)), (a_down, .inl (X.E 1, 8, .inl down_2))]) (stk := []) rfl rfl rfl ?_)
  clear hv
  refine g_aload_n h 0 dX8_greatestCut_5 rfl rfl ?_
  refine g_iload_n h 1 dX8_greatestCut_6 rfl rfl ?_
  obtain ⟨r_3, hv, hf⟩ := ob1 hf
  refine g_callV (ci := 8) (q0 := 0) (n := 1) (As := [.int x1]) (st := []) (wr := []) (isC := [0, 1, 2, 3]) (isR := []) h hR (ct_X8_greatest (a := a) (a_w := a_w) (a_tape := a_tape) (a_lane := a_lane) (a_size := a_size) (a_items := a_items) (a_up := a_up) (a_down := a_down) (a_fell := a_fell) (a_read := a_read) (a_comesUp := a_comesUp) (a_comesDown := a_comesDown) (a_held := a_held) (x1 := x1) (isImage := isImage) (taped := taped) (above := above) (below := below) (fallen := fallen) (torn := torn) (at_ := at_) (start := start) (number := number) (w := w) (up := up_1) (down := down_2) hv) rfl rfl (lw_V q1403 q1405 qs54 q80 q1406) (by decide +kernel) rfl ⟨rfl, rfl, rfl, rfl, by decide⟩ ⟨fle rfl, fle rfl, fle rfl, fle rfl, fle rfl⟩ rfl dX8_greatestCut_7 (pin (perm := [0, 1, 2, 3]) (ws' := [(a, .inr (8, [.ref a_w, .int isImage, .ref a_tape, .int taped, .ref a_lane, .ref a_size, .ref a_items, .ref a_up, .ref a_down, .int above, .int below, .ref a_fell, .int fallen, .int torn, .int at_, .int start, .int number, .ref a_read, .ref a_comesUp, .ref a_comesDown, .ref a_held])), (a_w, .inl (X.E 1, 1142, .inl w)), (a_up, .inl (X.E 1, 8, .inl up_1)), (a_down, .inl (X.E 1, 8, .inl down_2))]) (stk := [.int r_3]) rfl rfl rfl ?_)
  clear hv
  refine g_istore_n (lv' := [(2, .int r_3), (0, .ref a), (1, .int x1)]) h dX8_greatestCut_10 rfl (hL 2 (fle rfl)) rfl ?_
  refine g_aload_n h 1 dX8_greatestCut_11 rfl rfl ?_
  refine g_get (ci := 8) (v := .ref a_up) h in_X8 0 7 rfl rfl (fle rfl) rfl q1173 rfl dX8_greatestCut_12 ?_
  refine g_iload_n h 0 dX8_greatestCut_15 rfl rfl ?_
  obtain ⟨g4, hf⟩ := gn hf
  refine g_iaload h 2 rfl g4 dX8_greatestCut_16 ?_
  refine g_aload_n h 1 dX8_greatestCut_17 rfl rfl ?_
  refine g_get (ci := 8) (v := .ref a_down) h in_X8 0 8 rfl rfl (fle rfl) rfl q1174 rfl dX8_greatestCut_18 ?_
  refine g_iload_n h 0 dX8_greatestCut_21 rfl rfl ?_
  refine g_iaload h 3 rfl g4 dX8_greatestCut_22 ?_
  obtain ⟨g5, hf⟩ := gn hf
  refine g_idiv h dX8_greatestCut_23 g5 ?_
  obtain ⟨rfl, rfl, rfl⟩ := sj3 hf
  exact g_iret h hF [0, 1, 2, 3] rfl rfl ⟨rfl, rfl⟩ (fle rfl) (fle rfl) dX8_greatestCut_24
set_option maxHeartbeats 4000000 in
set_option maxRecDepth 100000 in
theorem ct_X8_count {l : Launch} {D : va_G} {E : Ety} {a a_w a_tape a_lane a_size a_items a_up a_down a_fell a_read a_comesUp a_comesDown a_held : Nat} {x1 : Int32} {isImage : Int32} {taped : Int32} {above : Int32} {below : Int32} {fallen : Int32} {torn : Int32} {at_ : Int32} {start : Int32} {number : Int32} {w : Nat → Int32} {up : Nat → Int32} {down : Nat → Int32} {r_ : Int32} {o_up : Nat → Int32} {o_down : Nat → Int32} (hf : f_X8_count x1 w up down = some (r_, o_up, o_down)) : Ct l yX8_count cX8_count 2 (some .int) 4 92 0 0 D E [.ref a, .int x1] [(a, .inr (8, [.ref a_w, .int isImage, .ref a_tape, .int taped, .ref a_lane, .ref a_size, .ref a_items, .ref a_up, .ref a_down, .int above, .int below, .ref a_fell, .int fallen, .int torn, .int at_, .int start, .int number, .ref a_read, .ref a_comesUp, .ref a_comesDown, .ref a_held])), (a_w, .inl (E 1, 1142, .inl w)), (a_up, .inl (E 1, 8, .inl up)), (a_down, .inl (E 1, 8, .inl down))] (Pn (some (.int r_)) [(a, .inr (8, [.ref a_w, .int isImage, .ref a_tape, .int taped, .ref a_lane, .ref a_size, .ref a_items, .ref a_up, .ref a_down, .int above, .int below, .ref a_fell, .int fallen, .int torn, .int at_, .int start, .int number, .ref a_read, .ref a_comesUp, .ref a_comesDown, .ref a_held])), (a_w, .inl (E 1, 1142, .inl w)), (a_up, .inl (E 1, 8, .inl o_up)), (a_down, .inl (E 1, 8, .inl o_down))]) := by
  refine ct_of (own := RX8) (plainFor_of_name (by decide)) rfl (fle rfl) rfl ?_
  intro X hl hD hE hnL hXF h hR hF hnm
  subst hl; subst hD; subst hE
  have hL : ∀ i, i < 2 → i < X.nL := fun i hi => by rw [hnL]; exact hi
  unfold f_X8_count at hf
  refine g_iload_n h 1 dX8_count_0 rfl rfl ?_
  refine hf_if hf (fun c1 hf => ?_) (fun c1 hf => ?_)
  · refine g_tabIn (c := 0) (tgt := 48) h dX8_count_1 c1 (by decide) (by decide) rfl rfl ?_
    refine g_aload_n h 0 dX8_count_48 rfl rfl ?_
    refine g_get (ci := 8) (v := .ref a_w) h in_X8 0 0 rfl rfl (fle rfl) rfl q1166 rfl dX8_count_49 ?_
    refine g_iconst (v := 0) h dX8_count_52 kiconst_0 ?_
    refine g_iaload h 1 rfl (by decide) dX8_count_53 ?_
    obtain ⟨rfl, rfl, rfl⟩ := sj3 hf
    exact g_iret h hF [0, 1, 2, 3] rfl rfl ⟨rfl, rfl⟩ (fle rfl) (fle rfl) dX8_count_54
  · refine hf_if hf (fun c2 hf => ?_) (fun c2 hf => ?_)
    · refine g_tabIn (c := 1) (tgt := 55) h dX8_count_1 c2 (by decide) (by decide) rfl rfl ?_
      refine g_aload_n h 0 dX8_count_55 rfl rfl ?_
      refine g_iconst (v := 0) h dX8_count_56 kiconst_0 ?_
      obtain ⟨r_3, hv, hf⟩ := ob1 hf
      refine g_callV (ci := 8) (q0 := 0) (n := 1) (As := [.int 0]) (st := []) (wr := [(a_up, .inl (X.E 1, 8, .inl up)), (a_down, .inl (X.E 1, 8, .inl down))]) (isC := [0, 1]) (isR := [2, 3]) h hR (ct_X8_holding (a := a) (a_w := a_w) (a_tape := a_tape) (a_lane := a_lane) (a_size := a_size) (a_items := a_items) (a_up := a_up) (a_down := a_down) (a_fell := a_fell) (a_read := a_read) (a_comesUp := a_comesUp) (a_comesDown := a_comesDown) (a_held := a_held) (x1 := 0) (isImage := isImage) (taped := taped) (above := above) (below := below) (fallen := fallen) (torn := torn) (at_ := at_) (start := start) (number := number) (w := w) hv) rfl rfl (lw_V q1387 q1389 qs50 q80 q1390) (by decide +kernel) rfl ⟨rfl, rfl, rfl, rfl, by decide⟩ ⟨fle rfl, fle rfl, fle rfl, fle rfl, fle rfl⟩ rfl dX8_count_57 (pin (perm := [2, 3, 0, 1]) (ws' := [(a, .inr (8, [.ref a_w, .int isImage, .ref a_tape, .int taped, .ref a_lane, .ref a_size, .ref a_items, .ref a_up, .ref a_down, .int above, .int below, .ref a_fell, .int fallen, .int torn, .int at_, .int start, .int number, .ref a_read, .ref a_comesUp, .ref a_comesDown, .ref a_held])), (a_w, .inl (X.E 1, 1142, .inl w)), (a_up, .inl (X.E 1, 8, .inl up)), (a_down, .inl (X.E 1, 8, .inl down))]) (stk := [.int r_3]) rfl rfl rfl ?_)
      clear hv
      obtain ⟨rfl, rfl, rfl⟩ := sj3 hf
      exact g_iret h hF [0, 1, 2, 3] rfl rfl ⟨rfl, rfl⟩ (fle rfl) (fle rfl) dX8_count_60
    · refine hf_if hf (fun c4 hf => ?_) (fun c4 hf => ?_)
      · refine g_tabIn (c := 2) (tgt := 61) h dX8_count_1 c4 (by decide) (by decide) rfl rfl ?_
        refine g_aload_n h 0 dX8_count_61 rfl rfl ?_
        refine g_iconst (v := 0) h dX8_count_62 kiconst_0 ?_
        obtain ⟨r_5, hv, hf⟩ := ob1 hf
        refine g_callV (ci := 8) (q0 := 0) (n := 1) (As := [.int 0]) (st := []) (wr := [(a_up, .inl (X.E 1, 8, .inl up)), (a_down, .inl (X.E 1, 8, .inl down))]) (isC := [0, 1]) (isR := [2, 3]) h hR (ct_X8_cutOnes (a := a) (a_w := a_w) (a_tape := a_tape) (a_lane := a_lane) (a_size := a_size) (a_items := a_items) (a_up := a_up) (a_down := a_down) (a_fell := a_fell) (a_read := a_read) (a_comesUp := a_comesUp) (a_comesDown := a_comesDown) (a_held := a_held) (x1 := 0) (isImage := isImage) (taped := taped) (above := above) (below := below) (fallen := fallen) (torn := torn) (at_ := at_) (start := start) (number := number) (w := w) hv) rfl rfl (lw_V q1391 q1393 qs51 q80 q1394) (by decide +kernel) rfl ⟨rfl, rfl, rfl, rfl, by decide⟩ ⟨fle rfl, fle rfl, fle rfl, fle rfl, fle rfl⟩ rfl dX8_count_63 (pin (perm := [2, 3, 0, 1]) (ws' := [(a, .inr (8, [.ref a_w, .int isImage, .ref a_tape, .int taped, .ref a_lane, .ref a_size, .ref a_items, .ref a_up, .ref a_down, .int above, .int below, .ref a_fell, .int fallen, .int torn, .int at_, .int start, .int number, .ref a_read, .ref a_comesUp, .ref a_comesDown, .ref a_held])), (a_w, .inl (X.E 1, 1142, .inl w)), (a_up, .inl (X.E 1, 8, .inl up)), (a_down, .inl (X.E 1, 8, .inl down))]) (stk := [.int r_5]) rfl rfl rfl ?_)
        clear hv
        obtain ⟨rfl, rfl, rfl⟩ := sj3 hf
        exact g_iret h hF [0, 1, 2, 3] rfl rfl ⟨rfl, rfl⟩ (fle rfl) (fle rfl) dX8_count_66
      · refine hf_if hf (fun c6 hf => ?_) (fun c6 hf => ?_)
        · refine g_tabIn (c := 3) (tgt := 67) h dX8_count_1 c6 (by decide) (by decide) rfl rfl ?_
          refine g_aload_n h 0 dX8_count_67 rfl rfl ?_
          obtain ⟨r_7, up_8, down_9, hv, hf⟩ := ob3 hf
          refine g_callV (ci := 8) (q0 := 0) (n := 0) (As := []) (st := []) (wr := []) (isC := [0, 1, 2, 3]) (isR := []) h hR (ct_X8_tautOnes (a := a) (a_w := a_w) (a_tape := a_tape) (a_lane := a_lane) (a_size := a_size) (a_items := a_items) (a_up := a_up) (a_down := a_down) (a_fell := a_fell) (a_read := a_read) (a_comesUp := a_comesUp) (a_comesDown := a_comesDown) (a_held := a_held) (isImage := isImage) (taped := taped) (above := above) (below := below) (fallen := fallen) (torn := torn) (at_ := at_) (start := start) (number := number) (w := w) (up := up) (down := down) hv) rfl rfl (lw_V q1395 q1397 qs52 q80 q1398) (by decide +kernel) rfl ⟨rfl, rfl, rfl, rfl, by decide⟩ ⟨fle rfl, fle rfl, fle rfl, fle rfl, fle rfl⟩ rfl dX8_count_68 (pin (perm := [0, 1, 2, 3]) (ws' := [(a, .inr (8, [.ref a_w, .int isImage, .ref a_tape, .int taped, .ref a_lane, .ref a_size, .ref a_items, .ref a_up, .ref a_down, .int above, .int below, .ref a_fell, .int fallen, .int torn, .int at_, .int start, .int number, .ref a_read, .ref a_comesUp, .ref a_comesDown, .ref a_held])), (a_w, .inl (X.E 1, 1142, .inl w)), (a_up, .inl (X.E 1, 8, .inl up_8)), (a_down, .inl (X.E 1, 8, .inl down_9))]) (stk := [.int r_7]) rfl rfl rfl ?_)
          clear hv
          obtain ⟨rfl, rfl, rfl⟩ := sj3 hf
          exact g_iret h hF [0, 1, 2, 3] rfl rfl ⟨rfl, rfl⟩ (fle rfl) (fle rfl) dX8_count_71
        · refine hf_if hf (fun c10 hf => ?_) (fun c10 hf => ?_)
          · refine g_tabIn (c := 4) (tgt := 72) h dX8_count_1 c10 (by decide) (by decide) rfl rfl ?_
            refine g_aload_n h 0 dX8_count_72 rfl rfl ?_
            refine g_get (ci := 8) (v := .ref a_w) h in_X8 0 0 rfl rfl (fle rfl) rfl q1166 rfl dX8_count_73 ?_
            refine g_iconst (v := 2) h dX8_count_76 kiconst_2 ?_
            refine g_iaload h 1 rfl (by decide) dX8_count_77 ?_
            obtain ⟨rfl, rfl, rfl⟩ := sj3 hf
            exact g_iret h hF [0, 1, 2, 3] rfl rfl ⟨rfl, rfl⟩ (fle rfl) (fle rfl) dX8_count_78
          · refine hf_if hf (fun c11 hf => ?_) (fun c11 hf => ?_)
            · refine g_tabIn (c := 5) (tgt := 79) h dX8_count_1 c11 (by decide) (by decide) rfl rfl ?_
              refine g_aload_n h 0 dX8_count_79 rfl rfl ?_
              refine g_get (ci := 8) (v := .ref a_w) h in_X8 0 0 rfl rfl (fle rfl) rfl q1166 rfl dX8_count_80 ?_
              refine g_iconst (v := 1) h dX8_count_83 kiconst_1 ?_
              refine g_iaload h 1 rfl (by decide) dX8_count_84 ?_
              obtain ⟨rfl, rfl, rfl⟩ := sj3 hf
              exact g_iret h hF [0, 1, 2, 3] rfl rfl ⟨rfl, rfl⟩ (fle rfl) (fle rfl) dX8_count_85
            · refine hf_if hf (fun c12 hf => ?_) (fun c12 hf => ?_)
              · refine g_tabIn (c := 6) (tgt := 86) h dX8_count_1 c12 (by decide) (by decide) rfl rfl ?_
                refine g_aload_n h 0 dX8_count_86 rfl rfl ?_
                refine g_iconst (v := 0) h dX8_count_87 kiconst_0 ?_
                obtain ⟨r_13, up_14, down_15, hv, hf⟩ := ob3 hf
                refine g_callV (ci := 8) (q0 := 0) (n := 1) (As := [.int 0]) (st := []) (wr := []) (isC := [0, 1, 2, 3]) (isR := []) h hR (ct_X8_greatestCut (a := a) (a_w := a_w) (a_tape := a_tape) (a_lane := a_lane) (a_size := a_size) (a_items := a_items) (a_up := a_up) (a_down := a_down) (a_fell := a_fell) (a_read := a_read) (a_comesUp := a_comesUp) (a_comesDown := a_comesDown) (a_held := a_held) (x1 := 0) (isImage := isImage) (taped := taped) (above := above) (below := below) (fallen := fallen) (torn := torn) (at_ := at_) (start := start) (number := number) (w := w) (up := up) (down := down) hv) rfl rfl (lw_V q1399 q1401 qs53 q80 q1402) (by decide +kernel) rfl ⟨rfl, rfl, rfl, rfl, by decide⟩ ⟨fle rfl, fle rfl, fle rfl, fle rfl, fle rfl⟩ rfl dX8_count_88 (pin (perm := [0, 1, 2, 3]) (ws' := [(a, .inr (8, [.ref a_w, .int isImage, .ref a_tape, .int taped, .ref a_lane, .ref a_size, .ref a_items, .ref a_up, .ref a_down, .int above, .int below, .ref a_fell, .int fallen, .int torn, .int at_, .int start, .int number, .ref a_read, .ref a_comesUp, .ref a_comesDown, .ref a_held])), (a_w, .inl (X.E 1, 1142, .inl w)), (a_up, .inl (X.E 1, 8, .inl up_14)), (a_down, .inl (X.E 1, 8, .inl down_15))]) (stk := [.int r_13]) rfl rfl rfl ?_)
                clear hv
                obtain ⟨rfl, rfl, rfl⟩ := sj3 hf
                exact g_iret h hF [0, 1, 2, 3] rfl rfl ⟨rfl, rfl⟩ (fle rfl) (fle rfl) dX8_count_91
              · refine hf_if hf (fun c16 hf => ?_) (fun c16 hf => ?_)
                · refine g_tabIn (c := 7) (tgt := 92) h dX8_count_1 c16 (by decide) (by decide) rfl rfl ?_
                  refine g_aload_n h 0 dX8_count_92 rfl rfl ?_
                  refine g_get (ci := 8) (v := .ref a_w) h in_X8 0 0 rfl rfl (fle rfl) rfl q1166 rfl dX8_count_93 ?_
                  refine g_bipush (v := 60) h dX8_count_96 kbipush_60 ?_
                  refine g_iaload h 1 rfl (by decide) dX8_count_98 ?_
                  obtain ⟨rfl, rfl, rfl⟩ := sj3 hf
                  exact g_iret h hF [0, 1, 2, 3] rfl rfl ⟨rfl, rfl⟩ (fle rfl) (fle rfl) dX8_count_99
                · refine g_tabOut (tgt := 100) h dX8_count_1 (tab_out 0 7 (by decide) (by intro c z1 z2; rcases (show c = 0 ∨ c = 1 ∨ c = 2 ∨ c = 3 ∨ c = 4 ∨ c = 5 ∨ c = 6 ∨ c = 7 by omega) with rfl | rfl | rfl | rfl | rfl | rfl | rfl | rfl <;> assumption)) rfl ?_
                  refine g_iconst (v := (-1)) h dX8_count_100 kiconst_m1 ?_
                  obtain ⟨rfl, rfl, rfl⟩ := sj3 hf
                  exact g_iret h hF [0, 1, 2, 3] rfl rfl ⟨rfl, rfl⟩ (fle rfl) (fle rfl) dX8_count_101
set_option maxHeartbeats 4000000 in
set_option maxRecDepth 100000 in
theorem ct_X8_mayGo {l : Launch} {D : va_G} {E : Ety} {a a_w a_tape a_lane a_size a_items a_up a_down a_fell a_read a_comesUp a_comesDown a_held : Nat} {x1 : Int32} {x2 : Int32} {x3 : Int32} {isImage : Int32} {taped : Int32} {above : Int32} {below : Int32} {fallen : Int32} {torn : Int32} {at_ : Int32} {start : Int32} {number : Int32} {w : Nat → Int32} {r_ : Int32} (hf : f_X8_mayGo x1 x2 x3 w = some r_) : Ct l yX8_mayGo cX8_mayGo 4 (some .boolean) 1 25 0 0 D E [.ref a, .int x1, .int x2, .int x3] [(a, .inr (8, [.ref a_w, .int isImage, .ref a_tape, .int taped, .ref a_lane, .ref a_size, .ref a_items, .ref a_up, .ref a_down, .int above, .int below, .ref a_fell, .int fallen, .int torn, .int at_, .int start, .int number, .ref a_read, .ref a_comesUp, .ref a_comesDown, .ref a_held])), (a_w, .inl (E 1, 1142, .inl w))] (Pn (some (.int r_)) [(a, .inr (8, [.ref a_w, .int isImage, .ref a_tape, .int taped, .ref a_lane, .ref a_size, .ref a_items, .ref a_up, .ref a_down, .int above, .int below, .ref a_fell, .int fallen, .int torn, .int at_, .int start, .int number, .ref a_read, .ref a_comesUp, .ref a_comesDown, .ref a_held])), (a_w, .inl (E 1, 1142, .inl w))]) := by
  refine ct_of (own := RX8) (plainFor_of_name (by decide)) rfl (fle rfl) rfl ?_
  intro X hl hD hE hnL hXF h hR hF hnm
  subst hl; subst hD; subst hE
  have hL : ∀ i, i < 4 → i < X.nL := fun i hi => by rw [hnL]; exact hi
  unfold f_X8_mayGo at hf
  refine g_aload_n h 0 dX8_mayGo_0 rfl rfl ?_
  refine g_iload_n h 1 dX8_mayGo_1 rfl rfl ?_
  refine g_iload_n h 2 dX8_mayGo_2 rfl rfl ?_
  obtain ⟨r_1, hv, hf⟩ := ob1 hf
  refine g_callV (ci := 8) (q0 := 0) (n := 2) (As := [.int x1, .int x2]) (st := []) (wr := []) (isC := [0, 1]) (isR := []) h hR (ct_X8_holds (a := a) (a_w := a_w) (a_tape := a_tape) (a_lane := a_lane) (a_size := a_size) (a_items := a_items) (a_up := a_up) (a_down := a_down) (a_fell := a_fell) (a_read := a_read) (a_comesUp := a_comesUp) (a_comesDown := a_comesDown) (a_held := a_held) (x1 := x1) (x2 := x2) (isImage := isImage) (taped := taped) (above := above) (below := below) (fallen := fallen) (torn := torn) (at_ := at_) (start := start) (number := number) (w := w) hv) rfl rfl (lw_V q1284 q1286 qs37 q80 q1287) (by decide +kernel) rfl ⟨rfl, rfl, rfl, rfl, by decide⟩ ⟨fle rfl, fle rfl, fle rfl, fle rfl, fle rfl⟩ rfl dX8_mayGo_3 (pin (perm := [0, 1]) (ws' := [(a, .inr (8, [.ref a_w, .int isImage, .ref a_tape, .int taped, .ref a_lane, .ref a_size, .ref a_items, .ref a_up, .ref a_down, .int above, .int below, .ref a_fell, .int fallen, .int torn, .int at_, .int start, .int number, .ref a_read, .ref a_comesUp, .ref a_comesDown, .ref a_held])), (a_w, .inl (X.E 1, 1142, .inl w))]) (stk := [.int r_1]) rfl rfl rfl ?_)
  clear hv
  refine g_if_eq (tgt := 37) h dX8_mayGo_6 rfl hf (fun c2 hf => ?_) (fun c2 hf => ?_)
  · refine g_iconst (v := 0) h dX8_mayGo_37 kiconst_0 ?_
    obtain rfl := sj1 hf
    exact g_zret h hF rfl [0, 1] rfl rfl ⟨rfl, rfl⟩ (fle rfl) (fle rfl) dX8_mayGo_38
  · refine g_aload_n h 0 dX8_mayGo_9 rfl rfl ?_
    refine g_get (ci := 8) (v := .ref a_w) h in_X8 0 0 rfl rfl (fle rfl) rfl q1166 rfl dX8_mayGo_10 ?_
    refine g_iload_n h 1 dX8_mayGo_13 rfl rfl ?_
    refine g_bipush (v := 28) h dX8_mayGo_14 kbipush_28 ?_
    refine g_iadd h dX8_mayGo_16 ?_
    refine g_iload_n h 2 dX8_mayGo_17 rfl rfl ?_
    refine g_iadd h dX8_mayGo_18 ?_
    obtain ⟨g3, hf⟩ := gn hf
    refine g_iaload h 1 rfl g3 dX8_mayGo_19 ?_
    refine g_iload_n h 3 dX8_mayGo_20 rfl rfl ?_
    refine g_iadd h dX8_mayGo_21 ?_
    refine g_i2l h dX8_mayGo_22 ?_
    refine g_lconst (v := 0) h dX8_mayGo_23 rfl ?_
    refine g_ldc2 h q1334 dX8_mayGo_24 ?_
    obtain ⟨r_4, hv, hf⟩ := ob1 hf
    refine g_callS (n := 3) (As := [.long (((w ((x1 + 28) + x2).toNatClampNeg) + x3).toInt64), .long 0, .long 99]) (st := []) (wr := [(a, .inr (8, [.ref a_w, .int isImage, .ref a_tape, .int taped, .ref a_lane, .ref a_size, .ref a_items, .ref a_up, .ref a_down, .int above, .int below, .ref a_fell, .int fallen, .int torn, .int at_, .int start, .int number, .ref a_read, .ref a_comesUp, .ref a_comesDown, .ref a_held])), (a_w, .inl (X.E 1, 1142, .inl w))]) (isC := []) (isR := [0, 1]) h hR (ct_X8_in (x0 := ((w ((x1 + 28) + x2).toNatClampNeg) + x3).toInt64) (x2 := 0) (x4 := 99) hv) (lw_S q1236 q1237 q80 q1238) (by decide +kernel) rfl ⟨rfl, rfl, rfl, rfl, by decide⟩ ⟨fle rfl, fle rfl, fle rfl, fle rfl, fle rfl⟩ rfl dX8_mayGo_27 (pin (perm := [0, 1]) (ws' := [(a, .inr (8, [.ref a_w, .int isImage, .ref a_tape, .int taped, .ref a_lane, .ref a_size, .ref a_items, .ref a_up, .ref a_down, .int above, .int below, .ref a_fell, .int fallen, .int torn, .int at_, .int start, .int number, .ref a_read, .ref a_comesUp, .ref a_comesDown, .ref a_held])), (a_w, .inl (X.E 1, 1142, .inl w))]) (stk := [.int r_4]) rfl rfl rfl ?_)
    clear hv
    refine g_if_eq (tgt := 37) h dX8_mayGo_30 rfl hf (fun c5 hf => ?_) (fun c5 hf => ?_)
    · refine g_iconst (v := 0) h dX8_mayGo_37 kiconst_0 ?_
      obtain rfl := sj1 hf
      exact g_zret h hF rfl [0, 1] rfl rfl ⟨rfl, rfl⟩ (fle rfl) (fle rfl) dX8_mayGo_38
    · refine g_iconst (v := 1) h dX8_mayGo_33 kiconst_1 ?_
      refine g_goto (tgt := 38) h dX8_mayGo_34 rfl ?_
      obtain rfl := sj1 hf
      exact g_zret h hF rfl [0, 1] rfl rfl ⟨rfl, rfl⟩ (fle rfl) (fle rfl) dX8_mayGo_38
set_option maxHeartbeats 4000000 in
set_option maxRecDepth 100000 in
theorem w_X8_minds_L14 {X : Cx} {a a_comesDown a_comesUp a_down a_fell a_held a_items a_lane a_read a_size a_tape a_up a_w : Nat} {isImage : Int32} {taped : Int32} {above : Int32} {below : Int32} {fallen : Int32} {torn : Int32} {at_ : Int32} {start : Int32} {number : Int32} {ce sl : Nat} (h : Ok X cX8_minds RX8) (hR : Rm X 0 0 0 0) (hL : ∀ i, i < 2 → i < X.nL) (hce : ce ≤ 0) (hsl : sl ≤ 0) : ∀ (n0 : Nat) (x1 : Int32) (w : Nat → Int32) {o_w : Nat → Int32}, f_X8_minds_L14 n0 x1 w = some o_w → (G X [(a, .inr (8, [.ref a_w, .int isImage, .ref a_tape, .int taped, .ref a_lane, .ref a_size, .ref a_items, .ref a_up, .ref a_down, .int above, .int below, .ref a_fell, .int fallen, .int torn, .int at_, .int start, .int number, .ref a_read, .ref a_comesUp, .ref a_comesDown, .ref a_held])), (a_w, .inl (X.E 1, 1142, .inl o_w))] [(0, .ref a)] ce sl 48 []) → G X [(a, .inr (8, [.ref a_w, .int isImage, .ref a_tape, .int taped, .ref a_lane, .ref a_size, .ref a_items, .ref a_up, .ref a_down, .int above, .int below, .ref a_fell, .int fallen, .int torn, .int at_, .int start, .int number, .ref a_read, .ref a_comesUp, .ref a_comesDown, .ref a_held])), (a_w, .inl (X.E 1, 1142, .inl w))] [(0, .ref a), (1, .int x1)] ce sl 14 [] := by
  intro n0
  induction n0 with
  | zero => intro x1 w o_w hf; exact nomatch (show (none : Option _) = some _ from hf)
  | succ n0 ih =>
    intro x1 w o_w hf k0
    replace hf : t_X8_minds_L14 (f_X8_minds_L14 n0) x1 w = some o_w := hf
    unfold t_X8_minds_L14 at hf
    refine g_iload_n h 1 dX8_minds_14 rfl rfl ?_
    refine g_sipush (v := 420) h dX8_minds_15 ksipush_420 ?_
    refine g_icmp_ge (tgt := 48) h dX8_minds_18 rfl hf (fun c7 hf => ?_) (fun c7 hf => ?_)
    · obtain rfl := sj1 hf
      exact G.lsub [0] rfl k0
    · refine g_aload_n h 0 dX8_minds_21 rfl rfl ?_
      refine g_get (ci := 8) (v := .ref a_w) h in_X8 0 0 rfl rfl (fle rfl) rfl q1166 rfl dX8_minds_22 ?_
      refine g_bipush (v := 61) h dX8_minds_25 kbipush_61 ?_
      refine g_iload_n h 1 dX8_minds_27 rfl rfl ?_
      refine g_iadd h dX8_minds_28 ?_
      refine g_aload_n h 0 dX8_minds_29 rfl rfl ?_
      refine g_get (ci := 8) (v := .ref a_w) h in_X8 0 0 rfl rfl (fle rfl) rfl q1166 rfl dX8_minds_30 ?_
      refine g_bipush (v := 61) h dX8_minds_33 kbipush_61 ?_
      refine g_iload_n h 1 dX8_minds_35 rfl rfl ?_
      refine g_iadd h dX8_minds_36 ?_
      refine g_bipush (v := 60) h dX8_minds_37 kbipush_60 ?_
      refine g_iadd h dX8_minds_39 ?_
      obtain ⟨g8, hf⟩ := gn hf
      refine g_iaload h 1 rfl g8 dX8_minds_40 ?_
      obtain ⟨g9, hf⟩ := gn hf
      refine g_iastore (ws' := [(a, .inr (8, [.ref a_w, .int isImage, .ref a_tape, .int taped, .ref a_lane, .ref a_size, .ref a_items, .ref a_up, .ref a_down, .int above, .int below, .ref a_fell, .int fallen, .int torn, .int at_, .int start, .int number, .ref a_read, .ref a_comesUp, .ref a_comesDown, .ref a_held])), (a_w, .inl (X.E 1, 1142, .inl (upd w (61 + x1).toNatClampNeg (w ((61 + x1) + 60).toNatClampNeg))))]) h 1 rfl g9 rfl dX8_minds_41 ?_
      refine g_iinc (j := 1) (v := (x1 + 1)) (lv' := [(1, .int (x1 + 1)), (0, .ref a)]) h dX8_minds_42 rfl (kinc_1 _) (hL 1 (fle rfl)) rfl ?_
      refine g_goto (tgt := 14) h dX8_minds_45 rfl ?_
      exact G.lsub [1, 0] rfl (ih _ _ hf k0)
set_option maxHeartbeats 4000000 in
set_option maxRecDepth 100000 in
theorem w_X8_minds_L61 {X : Cx} {a a_comesDown a_comesUp a_down a_fell a_held a_items a_lane a_read a_size a_tape a_up a_w : Nat} {isImage : Int32} {taped : Int32} {above : Int32} {below : Int32} {fallen : Int32} {torn : Int32} {at_ : Int32} {start : Int32} {number : Int32} {ce sl : Nat} (h : Ok X cX8_minds RX8) (hR : Rm X 0 0 0 0) (hL : ∀ i, i < 2 → i < X.nL) (hce : ce ≤ 0) (hsl : sl ≤ 0) : ∀ (n0 : Nat) (x1 : Int32) (w : Nat → Int32) {o_w : Nat → Int32}, f_X8_minds_L61 n0 x1 w = some o_w → (G X [(a, .inr (8, [.ref a_w, .int isImage, .ref a_tape, .int taped, .ref a_lane, .ref a_size, .ref a_items, .ref a_up, .ref a_down, .int above, .int below, .ref a_fell, .int fallen, .int torn, .int at_, .int start, .int number, .ref a_read, .ref a_comesUp, .ref a_comesDown, .ref a_held])), (a_w, .inl (X.E 1, 1142, .inl o_w))] [(0, .ref a)] ce sl 99 []) → G X [(a, .inr (8, [.ref a_w, .int isImage, .ref a_tape, .int taped, .ref a_lane, .ref a_size, .ref a_items, .ref a_up, .ref a_down, .int above, .int below, .ref a_fell, .int fallen, .int torn, .int at_, .int start, .int number, .ref a_read, .ref a_comesUp, .ref a_comesDown, .ref a_held])), (a_w, .inl (X.E 1, 1142, .inl w))] [(0, .ref a), (1, .int x1)] ce sl 61 [] := by
  intro n0
  induction n0 with
  | zero => intro x1 w o_w hf; exact nomatch (show (none : Option _) = some _ from hf)
  | succ n0 ih =>
    intro x1 w o_w hf k0
    replace hf : t_X8_minds_L61 (f_X8_minds_L61 n0) x1 w = some o_w := hf
    unfold t_X8_minds_L61 at hf
    refine g_iload_n h 1 dX8_minds_61 rfl rfl ?_
    refine g_bipush (v := 60) h dX8_minds_62 kbipush_60 ?_
    refine g_icmp_ge (tgt := 99) h dX8_minds_64 rfl hf (fun c11 hf => ?_) (fun c11 hf => ?_)
    · obtain rfl := sj1 hf
      exact G.lsub [0] rfl k0
    · refine g_aload_n h 0 dX8_minds_67 rfl rfl ?_
      refine g_get (ci := 8) (v := .ref a_w) h in_X8 0 0 rfl rfl (fle rfl) rfl q1166 rfl dX8_minds_68 ?_
      refine g_bipush (v := 61) h dX8_minds_71 kbipush_61 ?_
      refine g_bipush (v := 60) h dX8_minds_73 kbipush_60 ?_
      refine g_aload_n h 0 dX8_minds_75 rfl rfl ?_
      refine g_get (ci := 8) (v := .ref a_w) h in_X8 0 0 rfl rfl (fle rfl) rfl q1166 rfl dX8_minds_76 ?_
      refine g_bipush (v := 60) h dX8_minds_79 kbipush_60 ?_
      refine g_iaload h 1 rfl (by decide) dX8_minds_81 ?_
      refine g_imul h dX8_minds_82 ?_
      refine g_iadd h dX8_minds_83 ?_
      refine g_iload_n h 1 dX8_minds_84 rfl rfl ?_
      refine g_iadd h dX8_minds_85 ?_
      refine g_aload_n h 0 dX8_minds_86 rfl rfl ?_
      refine g_get (ci := 8) (v := .ref a_w) h in_X8 0 0 rfl rfl (fle rfl) rfl q1166 rfl dX8_minds_87 ?_
      refine g_iload_n h 1 dX8_minds_90 rfl rfl ?_
      obtain ⟨g12, hf⟩ := gn hf
      refine g_iaload h 1 rfl g12 dX8_minds_91 ?_
      obtain ⟨g13, hf⟩ := gn hf
      refine g_iastore (ws' := [(a, .inr (8, [.ref a_w, .int isImage, .ref a_tape, .int taped, .ref a_lane, .ref a_size, .ref a_items, .ref a_up, .ref a_down, .int above, .int below, .ref a_fell, .int fallen, .int torn, .int at_, .int start, .int number, .ref a_read, .ref a_comesUp, .ref a_comesDown, .ref a_held])), (a_w, .inl (X.E 1, 1142, .inl (upd w ((61 + (60 * (w (60 : Int32).toNatClampNeg))) + x1).toNatClampNeg (w x1.toNatClampNeg))))]) h 1 rfl g13 rfl dX8_minds_92 ?_
      refine g_iinc (j := 1) (v := (x1 + 1)) (lv' := [(1, .int (x1 + 1)), (0, .ref a)]) h dX8_minds_93 rfl (kinc_1 _) (hL 1 (fle rfl)) rfl ?_
      refine g_goto (tgt := 61) h dX8_minds_96 rfl ?_
      exact G.lsub [1, 0] rfl (ih _ _ hf k0)
set_option maxHeartbeats 4000000 in
set_option maxRecDepth 100000 in
theorem ct_X8_minds {l : Launch} {D : va_G} {E : Ety} {a a_w a_tape a_lane a_size a_items a_up a_down a_fell a_read a_comesUp a_comesDown a_held : Nat} {isImage : Int32} {taped : Int32} {above : Int32} {below : Int32} {fallen : Int32} {torn : Int32} {at_ : Int32} {start : Int32} {number : Int32} {w : Nat → Int32} {o_w : Nat → Int32} (hf : f_X8_minds w = some o_w) : Ct l yX8_minds cX8_minds 2 none 0 0 0 0 D E [.ref a] [(a, .inr (8, [.ref a_w, .int isImage, .ref a_tape, .int taped, .ref a_lane, .ref a_size, .ref a_items, .ref a_up, .ref a_down, .int above, .int below, .ref a_fell, .int fallen, .int torn, .int at_, .int start, .int number, .ref a_read, .ref a_comesUp, .ref a_comesDown, .ref a_held])), (a_w, .inl (E 1, 1142, .inl w))] (Pn none [(a, .inr (8, [.ref a_w, .int isImage, .ref a_tape, .int taped, .ref a_lane, .ref a_size, .ref a_items, .ref a_up, .ref a_down, .int above, .int below, .ref a_fell, .int fallen, .int torn, .int at_, .int start, .int number, .ref a_read, .ref a_comesUp, .ref a_comesDown, .ref a_held])), (a_w, .inl (E 1, 1142, .inl o_w))]) := by
  refine ct_of (own := RX8) (plainFor_of_name (by decide)) rfl (fle rfl) rfl ?_
  intro X hl hD hE hnL hXF h hR hF hnm
  subst hl; subst hD; subst hE
  have hL : ∀ i, i < 2 → i < X.nL := fun i hi => by rw [hnL]; exact hi
  unfold f_X8_minds at hf
  refine g_aload_n h 0 dX8_minds_0 rfl rfl ?_
  refine g_get (ci := 8) (v := .ref a_w) h in_X8 0 0 rfl rfl (fle rfl) rfl q1166 rfl dX8_minds_1 ?_
  refine g_bipush (v := 60) h dX8_minds_4 kbipush_60 ?_
  refine g_iaload h 1 rfl (by decide) dX8_minds_6 ?_
  refine g_bipush (v := 8) h dX8_minds_7 kbipush_8 ?_
  obtain ⟨w_6, hw, hf⟩ := ob1 hf
  have K9 : G X [(a, .inr (8, [.ref a_w, .int isImage, .ref a_tape, .int taped, .ref a_lane, .ref a_size, .ref a_items, .ref a_up, .ref a_down, .int above, .int below, .ref a_fell, .int fallen, .int torn, .int at_, .int start, .int number, .ref a_read, .ref a_comesUp, .ref a_comesDown, .ref a_held])), (a_w, .inl (X.E 1, 1142, .inl w_6))] [(0, .ref a)] 0 0 59 [] := by
    clear hw
    refine g_iconst (v := 0) h dX8_minds_59 kiconst_0 ?_
    refine g_istore_n (lv' := [(1, .int 0), (0, .ref a)]) h dX8_minds_60 rfl (hL 1 (fle rfl)) rfl ?_
    refine G.lsub (lv' := [(0, .ref a), (1, .int 0)]) [1, 0] rfl ?_
    obtain ⟨w_14, hv, hf⟩ := ob1 hf
    refine w_X8_minds_L61 (isImage := isImage) (taped := taped) (above := above) (below := below) (fallen := fallen) (torn := torn) (at_ := at_) (start := start) (number := number) h hR hL (fle rfl) (fle rfl) FU _ _ hv ?_
    · clear hv
      refine g_aload_n h 0 dX8_minds_99 rfl rfl ?_
      refine g_get (ci := 8) (v := .ref a_w) h in_X8 0 0 rfl rfl (fle rfl) rfl q1166 rfl dX8_minds_100 ?_
      refine g_bipush (v := 60) h dX8_minds_103 kbipush_60 ?_
      refine g_dup2 h dX8_minds_105 rfl rfl ?_
      refine g_iaload h 1 rfl (by decide) dX8_minds_106 ?_
      refine g_iconst (v := 1) h dX8_minds_107 kiconst_1 ?_
      refine g_iadd h dX8_minds_108 ?_
      refine g_iastore (ws' := [(a, .inr (8, [.ref a_w, .int isImage, .ref a_tape, .int taped, .ref a_lane, .ref a_size, .ref a_items, .ref a_up, .ref a_down, .int above, .int below, .ref a_fell, .int fallen, .int torn, .int at_, .int start, .int number, .ref a_read, .ref a_comesUp, .ref a_comesDown, .ref a_held])), (a_w, .inl (X.E 1, 1142, .inl (upd w_14 (60 : Int32).toNatClampNeg ((w_14 (60 : Int32).toNatClampNeg) + 1))))]) h 1 rfl (by decide) rfl dX8_minds_109 ?_
      obtain rfl := sj1 hf
      exact g_vret h hF [0, 1] rfl rfl ⟨rfl, rfl⟩ (fle rfl) (fle rfl) dX8_minds_110
  clear hf
  have hf := hw
  clear hw
  refine g_icmp_ne (tgt := 59) h dX8_minds_9 rfl hf (fun c1 hf => ?_) (fun c1 hf => ?_)
  · refine g_iconst (v := 0) h dX8_minds_12 kiconst_0 ?_
    refine g_istore_n (lv' := [(1, .int 0), (0, .ref a)]) h dX8_minds_13 rfl (hL 1 (fle rfl)) rfl ?_
    refine G.lsub (lv' := [(0, .ref a), (1, .int 0)]) [1, 0] rfl ?_
    obtain ⟨w_10, hv, hf⟩ := ob1 hf
    refine w_X8_minds_L14 (isImage := isImage) (taped := taped) (above := above) (below := below) (fallen := fallen) (torn := torn) (at_ := at_) (start := start) (number := number) h hR hL (fle rfl) (fle rfl) FU _ _ hv ?_
    · clear hv
      refine g_aload_n h 0 dX8_minds_48 rfl rfl ?_
      refine g_get (ci := 8) (v := .ref a_w) h in_X8 0 0 rfl rfl (fle rfl) rfl q1166 rfl dX8_minds_49 ?_
      refine g_bipush (v := 60) h dX8_minds_52 kbipush_60 ?_
      refine g_dup2 h dX8_minds_54 rfl rfl ?_
      refine g_iaload h 1 rfl (by decide) dX8_minds_55 ?_
      refine g_iconst (v := 1) h dX8_minds_56 kiconst_1 ?_
      refine g_isub h dX8_minds_57 ?_
      refine g_iastore (ws' := [(a, .inr (8, [.ref a_w, .int isImage, .ref a_tape, .int taped, .ref a_lane, .ref a_size, .ref a_items, .ref a_up, .ref a_down, .int above, .int below, .ref a_fell, .int fallen, .int torn, .int at_, .int start, .int number, .ref a_read, .ref a_comesUp, .ref a_comesDown, .ref a_held])), (a_w, .inl (X.E 1, 1142, .inl (upd w_10 (60 : Int32).toNatClampNeg ((w_10 (60 : Int32).toNatClampNeg) - 1))))]) h 1 rfl (by decide) rfl dX8_minds_58 ?_
      obtain rfl := sj1 hf
      exact G.lsub [0] rfl K9
  · obtain rfl := sj1 hf
    exact G.lsub [0] rfl K9
set_option maxHeartbeats 4000000 in
set_option maxRecDepth 100000 in
theorem ct_X8_go {l : Launch} {D : va_G} {E : Ety} {a a_w a_tape a_lane a_size a_items a_up a_down a_fell a_read a_comesUp a_comesDown a_held : Nat} {x1 : Int32} {x2 : Int32} {isImage : Int32} {taped : Int32} {above : Int32} {below : Int32} {fallen : Int32} {torn : Int32} {at_ : Int32} {start : Int32} {number : Int32} {w : Nat → Int32} {up : Nat → Int32} {down : Nat → Int32} {fell : Nat → Int32} {r_ : Int32} {o_above : Int32} {o_below : Int32} {o_fallen : Int32} {o_torn : Int32} {o_w : Nat → Int32} {o_up : Nat → Int32} {o_down : Nat → Int32} {o_fell : Nat → Int32} (hf : f_X8_go x1 x2 above below fallen torn w up down fell = some (r_, o_above, o_below, o_fallen, o_torn, o_w, o_up, o_down, o_fell)) : Ct l yX8_go cX8_go 3 (some .int) 6 139 0 0 D E [.ref a, .int x1, .int x2] [(a, .inr (8, [.ref a_w, .int isImage, .ref a_tape, .int taped, .ref a_lane, .ref a_size, .ref a_items, .ref a_up, .ref a_down, .int above, .int below, .ref a_fell, .int fallen, .int torn, .int at_, .int start, .int number, .ref a_read, .ref a_comesUp, .ref a_comesDown, .ref a_held])), (a_w, .inl (E 1, 1142, .inl w)), (a_up, .inl (E 1, 8, .inl up)), (a_down, .inl (E 1, 8, .inl down)), (a_fell, .inl (E 1, 8, .inl fell))] (Pn (some (.int r_)) [(a, .inr (8, [.ref a_w, .int isImage, .ref a_tape, .int taped, .ref a_lane, .ref a_size, .ref a_items, .ref a_up, .ref a_down, .int o_above, .int o_below, .ref a_fell, .int o_fallen, .int o_torn, .int at_, .int start, .int number, .ref a_read, .ref a_comesUp, .ref a_comesDown, .ref a_held])), (a_w, .inl (E 1, 1142, .inl o_w)), (a_up, .inl (E 1, 8, .inl o_up)), (a_down, .inl (E 1, 8, .inl o_down)), (a_fell, .inl (E 1, 8, .inl o_fell))]) := by
  refine ct_of (own := RX8) (plainFor_of_name (by decide)) rfl (fle rfl) rfl ?_
  intro X hl hD hE hnL hXF h hR hF hnm
  subst hl; subst hD; subst hE
  have hL : ∀ i, i < 3 → i < X.nL := fun i hi => by rw [hnL]; exact hi
  unfold f_X8_go at hf
  refine g_aload_n h 0 dX8_go_0 rfl rfl ?_
  refine g_iload_n h 1 dX8_go_1 rfl rfl ?_
  obtain ⟨r_1, hv, hf⟩ := ob1 hf
  refine g_callV (ci := 8) (q0 := 0) (n := 1) (As := [.int x1]) (st := []) (wr := [(a_up, .inl (X.E 1, 8, .inl up)), (a_down, .inl (X.E 1, 8, .inl down)), (a_fell, .inl (X.E 1, 8, .inl fell))]) (isC := [0, 1]) (isR := [2, 3, 4]) h hR (ct_X8_isPerson (a := a) (a_w := a_w) (a_tape := a_tape) (a_lane := a_lane) (a_size := a_size) (a_items := a_items) (a_up := a_up) (a_down := a_down) (a_fell := a_fell) (a_read := a_read) (a_comesUp := a_comesUp) (a_comesDown := a_comesDown) (a_held := a_held) (x1 := x1) (isImage := isImage) (taped := taped) (above := above) (below := below) (fallen := fallen) (torn := torn) (at_ := at_) (start := start) (number := number) (w := w) hv) rfl rfl (lw_V q1340 q1342 qs45 q80 q1343) (by decide +kernel) rfl ⟨rfl, rfl, rfl, rfl, by decide⟩ ⟨fle rfl, fle rfl, fle rfl, fle rfl, fle rfl⟩ rfl dX8_go_2 (pin (perm := [3, 4, 0, 1, 2]) (ws' := [(a, .inr (8, [.ref a_w, .int isImage, .ref a_tape, .int taped, .ref a_lane, .ref a_size, .ref a_items, .ref a_up, .ref a_down, .int above, .int below, .ref a_fell, .int fallen, .int torn, .int at_, .int start, .int number, .ref a_read, .ref a_comesUp, .ref a_comesDown, .ref a_held])), (a_w, .inl (X.E 1, 1142, .inl w)), (a_up, .inl (X.E 1, 8, .inl up)), (a_down, .inl (X.E 1, 8, .inl down)), (a_fell, .inl (X.E 1, 8, .inl fell))]) (stk := [.int r_1]) rfl rfl rfl ?_)
  clear hv
  refine g_if_eq (tgt := 26) h dX8_go_5 rfl hf (fun c2 hf => ?_) (fun c2 hf => ?_)
  · refine g_iconst (v := (-1)) h dX8_go_26 kiconst_m1 ?_
    obtain ⟨rfl, rfl, rfl, rfl, rfl, rfl, rfl, rfl, rfl⟩ := sj9 hf
    exact g_iret h hF [0, 1, 2, 3, 4] rfl rfl ⟨rfl, rfl⟩ (fle rfl) (fle rfl) dX8_go_27
  · refine g_iload_n h 2 dX8_go_8 rfl rfl ?_
    refine g_i2l h dX8_go_9 ?_
    refine g_ldc2 h q1411 dX8_go_10 ?_
    refine g_ldc2 h q1334 dX8_go_13 ?_
    obtain ⟨r_3, hv, hf⟩ := ob1 hf
    refine g_callS (n := 3) (As := [.long x2.toInt64, .long (-99), .long 99]) (st := []) (wr := [(a, .inr (8, [.ref a_w, .int isImage, .ref a_tape, .int taped, .ref a_lane, .ref a_size, .ref a_items, .ref a_up, .ref a_down, .int above, .int below, .ref a_fell, .int fallen, .int torn, .int at_, .int start, .int number, .ref a_read, .ref a_comesUp, .ref a_comesDown, .ref a_held])), (a_w, .inl (X.E 1, 1142, .inl w)), (a_up, .inl (X.E 1, 8, .inl up)), (a_down, .inl (X.E 1, 8, .inl down)), (a_fell, .inl (X.E 1, 8, .inl fell))]) (isC := []) (isR := [0, 1, 2, 3, 4]) h hR (ct_X8_in (x0 := x2.toInt64) (x2 := (-99)) (x4 := 99) hv) (lw_S q1236 q1237 q80 q1238) (by decide +kernel) rfl ⟨rfl, rfl, rfl, rfl, by decide⟩ ⟨fle rfl, fle rfl, fle rfl, fle rfl, fle rfl⟩ rfl dX8_go_16 (pin (perm := [0, 1, 2, 3, 4]) (ws' := [(a, .inr (8, [.ref a_w, .int isImage, .ref a_tape, .int taped, .ref a_lane, .ref a_size, .ref a_items, .ref a_up, .ref a_down, .int above, .int below, .ref a_fell, .int fallen, .int torn, .int at_, .int start, .int number, .ref a_read, .ref a_comesUp, .ref a_comesDown, .ref a_held])), (a_w, .inl (X.E 1, 1142, .inl w)), (a_up, .inl (X.E 1, 8, .inl up)), (a_down, .inl (X.E 1, 8, .inl down)), (a_fell, .inl (X.E 1, 8, .inl fell))]) (stk := [.int r_3]) rfl rfl rfl ?_)
    clear hv
    refine g_if_eq (tgt := 26) h dX8_go_19 rfl hf (fun c4 hf => ?_) (fun c4 hf => ?_)
    · refine g_iconst (v := (-1)) h dX8_go_26 kiconst_m1 ?_
      obtain ⟨rfl, rfl, rfl, rfl, rfl, rfl, rfl, rfl, rfl⟩ := sj9 hf
      exact g_iret h hF [0, 1, 2, 3, 4] rfl rfl ⟨rfl, rfl⟩ (fle rfl) (fle rfl) dX8_go_27
    · refine g_iload_n h 2 dX8_go_22 rfl rfl ?_
      refine g_if_ne (tgt := 28) h dX8_go_23 rfl hf (fun c5 hf => ?_) (fun c5 hf => ?_)
      · refine g_iconst (v := (-1)) h dX8_go_26 kiconst_m1 ?_
        obtain ⟨rfl, rfl, rfl, rfl, rfl, rfl, rfl, rfl, rfl⟩ := sj9 hf
        exact g_iret h hF [0, 1, 2, 3, 4] rfl rfl ⟨rfl, rfl⟩ (fle rfl) (fle rfl) dX8_go_27
      · refine g_aload_n h 0 dX8_go_28 rfl rfl ?_
        refine g_iconst (v := 0) h dX8_go_29 kiconst_0 ?_
        refine g_iload_n h 1 dX8_go_30 rfl rfl ?_
        refine g_iload_n h 2 dX8_go_31 rfl rfl ?_
        obtain ⟨r_6, hv, hf⟩ := ob1 hf
        refine g_callV (ci := 8) (q0 := 0) (n := 3) (As := [.int 0, .int x1, .int x2]) (st := []) (wr := [(a_up, .inl (X.E 1, 8, .inl up)), (a_down, .inl (X.E 1, 8, .inl down)), (a_fell, .inl (X.E 1, 8, .inl fell))]) (isC := [0, 1]) (isR := [2, 3, 4]) h hR (ct_X8_mayGo (a := a) (a_w := a_w) (a_tape := a_tape) (a_lane := a_lane) (a_size := a_size) (a_items := a_items) (a_up := a_up) (a_down := a_down) (a_fell := a_fell) (a_read := a_read) (a_comesUp := a_comesUp) (a_comesDown := a_comesDown) (a_held := a_held) (x1 := 0) (x2 := x1) (x3 := x2) (isImage := isImage) (taped := taped) (above := above) (below := below) (fallen := fallen) (torn := torn) (at_ := at_) (start := start) (number := number) (w := w) hv) rfl rfl (lw_V q1412 q1414 qs55 q80 q1415) (by decide +kernel) rfl ⟨rfl, rfl, rfl, rfl, by decide⟩ ⟨fle rfl, fle rfl, fle rfl, fle rfl, fle rfl⟩ rfl dX8_go_32 (pin (perm := [3, 4, 0, 1, 2]) (ws' := [(a, .inr (8, [.ref a_w, .int isImage, .ref a_tape, .int taped, .ref a_lane, .ref a_size, .ref a_items, .ref a_up, .ref a_down, .int above, .int below, .ref a_fell, .int fallen, .int torn, .int at_, .int start, .int number, .ref a_read, .ref a_comesUp, .ref a_comesDown, .ref a_held])), (a_w, .inl (X.E 1, 1142, .inl w)), (a_up, .inl (X.E 1, 8, .inl up)), (a_down, .inl (X.E 1, 8, .inl down)), (a_fell, .inl (X.E 1, 8, .inl fell))]) (stk := [.int r_6]) rfl rfl rfl ?_)
        clear hv
        refine g_if_ne (tgt := 41) h dX8_go_35 rfl hf (fun c7 hf => ?_) (fun c7 hf => ?_)
        · refine g_bipush (v := (-2)) h dX8_go_38 kbipush_m2 ?_
          obtain ⟨rfl, rfl, rfl, rfl, rfl, rfl, rfl, rfl, rfl⟩ := sj9 hf
          exact g_iret h hF [0, 1, 2, 3, 4] rfl rfl ⟨rfl, rfl⟩ (fle rfl) (fle rfl) dX8_go_40
        · refine g_aload_n h 0 dX8_go_41 rfl rfl ?_
          obtain ⟨w_8, hv, hf⟩ := ob1 hf
          refine g_callV (ci := 8) (q0 := 0) (n := 0) (As := []) (st := []) (wr := [(a_up, .inl (X.E 1, 8, .inl up)), (a_down, .inl (X.E 1, 8, .inl down)), (a_fell, .inl (X.E 1, 8, .inl fell))]) (isC := [0, 1]) (isR := [2, 3, 4]) h hR (ct_X8_minds (a := a) (a_w := a_w) (a_tape := a_tape) (a_lane := a_lane) (a_size := a_size) (a_items := a_items) (a_up := a_up) (a_down := a_down) (a_fell := a_fell) (a_read := a_read) (a_comesUp := a_comesUp) (a_comesDown := a_comesDown) (a_held := a_held) (isImage := isImage) (taped := taped) (above := above) (below := below) (fallen := fallen) (torn := torn) (at_ := at_) (start := start) (number := number) (w := w) hv) rfl rfl (lw_V q1416 q1418 qs56 q80 q1419) (by decide +kernel) rfl ⟨rfl, rfl, rfl, rfl, by decide⟩ ⟨fle rfl, fle rfl, fle rfl, fle rfl, fle rfl⟩ rfl dX8_go_42 (pin (perm := [3, 4, 0, 1, 2]) (ws' := [(a, .inr (8, [.ref a_w, .int isImage, .ref a_tape, .int taped, .ref a_lane, .ref a_size, .ref a_items, .ref a_up, .ref a_down, .int above, .int below, .ref a_fell, .int fallen, .int torn, .int at_, .int start, .int number, .ref a_read, .ref a_comesUp, .ref a_comesDown, .ref a_held])), (a_w, .inl (X.E 1, 1142, .inl w_8)), (a_up, .inl (X.E 1, 8, .inl up)), (a_down, .inl (X.E 1, 8, .inl down)), (a_fell, .inl (X.E 1, 8, .inl fell))]) (stk := []) rfl rfl rfl ?_)
          clear hv
          refine g_aload_n h 0 dX8_go_45 rfl rfl ?_
          refine g_get (ci := 8) (v := .ref a_w) h in_X8 0 0 rfl rfl (fle rfl) rfl q1166 rfl dX8_go_46 ?_
          refine g_bipush (v := 28) h dX8_go_49 kbipush_28 ?_
          refine g_iload_n h 1 dX8_go_51 rfl rfl ?_
          refine g_iadd h dX8_go_52 ?_
          refine g_dup2 h dX8_go_53 rfl rfl ?_
          obtain ⟨g9, hf⟩ := gn hf
          refine g_iaload h 1 rfl g9 dX8_go_54 ?_
          refine g_iload_n h 2 dX8_go_55 rfl rfl ?_
          refine g_iadd h dX8_go_56 ?_
          refine g_iastore (ws' := [(a, .inr (8, [.ref a_w, .int isImage, .ref a_tape, .int taped, .ref a_lane, .ref a_size, .ref a_items, .ref a_up, .ref a_down, .int above, .int below, .ref a_fell, .int fallen, .int torn, .int at_, .int start, .int number, .ref a_read, .ref a_comesUp, .ref a_comesDown, .ref a_held])), (a_w, .inl (X.E 1, 1142, .inl (upd w_8 (28 + x1).toNatClampNeg ((w_8 (28 + x1).toNatClampNeg) + x2)))), (a_up, .inl (X.E 1, 8, .inl up)), (a_down, .inl (X.E 1, 8, .inl down)), (a_fell, .inl (X.E 1, 8, .inl fell))]) h 1 rfl g9 rfl dX8_go_57 ?_
          refine g_aload_n h 0 dX8_go_58 rfl rfl ?_
          refine g_iconst (v := 0) h dX8_go_59 kiconst_0 ?_
          obtain ⟨above_10, below_11, fallen_12, torn_13, w_14, up_15, down_16, fell_17, hv, hf⟩ := ob8 hf
          refine g_callV (ci := 8) (q0 := 0) (n := 1) (As := [.int 0]) (st := []) (wr := []) (isC := [0, 1, 2, 3, 4]) (isR := []) h hR (ct_X8_settles (a := a) (a_w := a_w) (a_tape := a_tape) (a_lane := a_lane) (a_size := a_size) (a_items := a_items) (a_up := a_up) (a_down := a_down) (a_fell := a_fell) (a_read := a_read) (a_comesUp := a_comesUp) (a_comesDown := a_comesDown) (a_held := a_held) (x1 := 0) (isImage := isImage) (taped := taped) (above := above) (below := below) (fallen := fallen) (torn := torn) (at_ := at_) (start := start) (number := number) (w := upd w_8 (28 + x1).toNatClampNeg ((w_8 (28 + x1).toNatClampNeg) + x2)) (up := up) (down := down) (fell := fell) hv) rfl rfl (lw_V q1276 q1278 qs35 q80 q1279) (by decide +kernel) rfl ⟨rfl, rfl, rfl, rfl, by decide⟩ ⟨fle rfl, fle rfl, fle rfl, fle rfl, fle rfl⟩ rfl dX8_go_60 (pin (perm := [0, 1, 2, 3, 4]) (ws' := [(a, .inr (8, [.ref a_w, .int isImage, .ref a_tape, .int taped, .ref a_lane, .ref a_size, .ref a_items, .ref a_up, .ref a_down, .int above_10, .int below_11, .ref a_fell, .int fallen_12, .int torn_13, .int at_, .int start, .int number, .ref a_read, .ref a_comesUp, .ref a_comesDown, .ref a_held])), (a_w, .inl (X.E 1, 1142, .inl w_14)), (a_up, .inl (X.E 1, 8, .inl up_15)), (a_down, .inl (X.E 1, 8, .inl down_16)), (a_fell, .inl (X.E 1, 8, .inl fell_17))]) (stk := []) rfl rfl rfl ?_)
          clear hv
          refine g_aload_n h 0 dX8_go_63 rfl rfl ?_
          refine g_get (ci := 8) (v := .int fallen_12) h in_X8 0 12 rfl rfl (fle rfl) rfl q1178 rfl dX8_go_64 ?_
          obtain ⟨rfl, rfl, rfl, rfl, rfl, rfl, rfl, rfl, rfl⟩ := sj9 hf
          exact g_iret h hF [0, 1, 2, 3, 4] rfl rfl ⟨rfl, rfl⟩ (fle rfl) (fle rfl) dX8_go_67
set_option maxHeartbeats 4000000 in
set_option maxRecDepth 100000 in
theorem ct_X8_let {l : Launch} {D : va_G} {E : Ety} {a a_w a_tape a_lane a_size a_items a_up a_down a_fell a_read a_comesUp a_comesDown a_held : Nat} {x1 : Int32} {isImage : Int32} {taped : Int32} {above : Int32} {below : Int32} {fallen : Int32} {torn : Int32} {at_ : Int32} {start : Int32} {number : Int32} {w : Nat → Int32} {up : Nat → Int32} {down : Nat → Int32} {fell : Nat → Int32} {r_ : Int32} {o_above : Int32} {o_below : Int32} {o_fallen : Int32} {o_torn : Int32} {o_w : Nat → Int32} {o_up : Nat → Int32} {o_down : Nat → Int32} {o_fell : Nat → Int32} (hf : f_X8_let x1 above below fallen torn w up down fell = some (r_, o_above, o_below, o_fallen, o_torn, o_w, o_up, o_down, o_fell)) : Ct l yX8_let cX8_let 2 (some .int) 6 139 0 0 D E [.ref a, .int x1] [(a, .inr (8, [.ref a_w, .int isImage, .ref a_tape, .int taped, .ref a_lane, .ref a_size, .ref a_items, .ref a_up, .ref a_down, .int above, .int below, .ref a_fell, .int fallen, .int torn, .int at_, .int start, .int number, .ref a_read, .ref a_comesUp, .ref a_comesDown, .ref a_held])), (a_w, .inl (E 1, 1142, .inl w)), (a_up, .inl (E 1, 8, .inl up)), (a_down, .inl (E 1, 8, .inl down)), (a_fell, .inl (E 1, 8, .inl fell))] (Pn (some (.int r_)) [(a, .inr (8, [.ref a_w, .int isImage, .ref a_tape, .int taped, .ref a_lane, .ref a_size, .ref a_items, .ref a_up, .ref a_down, .int o_above, .int o_below, .ref a_fell, .int o_fallen, .int o_torn, .int at_, .int start, .int number, .ref a_read, .ref a_comesUp, .ref a_comesDown, .ref a_held])), (a_w, .inl (E 1, 1142, .inl o_w)), (a_up, .inl (E 1, 8, .inl o_up)), (a_down, .inl (E 1, 8, .inl o_down)), (a_fell, .inl (E 1, 8, .inl o_fell))]) := by
  refine ct_of (own := RX8) (plainFor_of_name (by decide)) rfl (fle rfl) rfl ?_
  intro X hl hD hE hnL hXF h hR hF hnm
  subst hl; subst hD; subst hE
  have hL : ∀ i, i < 2 → i < X.nL := fun i hi => by rw [hnL]; exact hi
  unfold f_X8_let at hf
  refine g_aload_n h 0 dX8_let_0 rfl rfl ?_
  refine g_iload_n h 1 dX8_let_1 rfl rfl ?_
  obtain ⟨r_1, hv, hf⟩ := ob1 hf
  refine g_callV (ci := 8) (q0 := 0) (n := 1) (As := [.int x1]) (st := []) (wr := [(a_up, .inl (X.E 1, 8, .inl up)), (a_down, .inl (X.E 1, 8, .inl down)), (a_fell, .inl (X.E 1, 8, .inl fell))]) (isC := [0, 1]) (isR := [2, 3, 4]) h hR (ct_X8_isPerson (a := a) (a_w := a_w) (a_tape := a_tape) (a_lane := a_lane) (a_size := a_size) (a_items := a_items) (a_up := a_up) (a_down := a_down) (a_fell := a_fell) (a_read := a_read) (a_comesUp := a_comesUp) (a_comesDown := a_comesDown) (a_held := a_held) (x1 := x1) (isImage := isImage) (taped := taped) (above := above) (below := below) (fallen := fallen) (torn := torn) (at_ := at_) (start := start) (number := number) (w := w) hv) rfl rfl (lw_V q1340 q1342 qs45 q80 q1343) (by decide +kernel) rfl ⟨rfl, rfl, rfl, rfl, by decide⟩ ⟨fle rfl, fle rfl, fle rfl, fle rfl, fle rfl⟩ rfl dX8_let_2 (pin (perm := [3, 4, 0, 1, 2]) (ws' := [(a, .inr (8, [.ref a_w, .int isImage, .ref a_tape, .int taped, .ref a_lane, .ref a_size, .ref a_items, .ref a_up, .ref a_down, .int above, .int below, .ref a_fell, .int fallen, .int torn, .int at_, .int start, .int number, .ref a_read, .ref a_comesUp, .ref a_comesDown, .ref a_held])), (a_w, .inl (X.E 1, 1142, .inl w)), (a_up, .inl (X.E 1, 8, .inl up)), (a_down, .inl (X.E 1, 8, .inl down)), (a_fell, .inl (X.E 1, 8, .inl fell))]) (stk := [.int r_1]) rfl rfl rfl ?_)
  clear hv
  refine g_if_ne (tgt := 10) h dX8_let_5 rfl hf (fun c2 hf => ?_) (fun c2 hf => ?_)
  · refine g_iconst (v := (-1)) h dX8_let_8 kiconst_m1 ?_
    obtain ⟨rfl, rfl, rfl, rfl, rfl, rfl, rfl, rfl, rfl⟩ := sj9 hf
    exact g_iret h hF [0, 1, 2, 3, 4] rfl rfl ⟨rfl, rfl⟩ (fle rfl) (fle rfl) dX8_let_9
  · refine g_aload_n h 0 dX8_let_10 rfl rfl ?_
    refine g_iconst (v := 0) h dX8_let_11 kiconst_0 ?_
    refine g_iload_n h 1 dX8_let_12 rfl rfl ?_
    obtain ⟨r_3, hv, hf⟩ := ob1 hf
    refine g_callV (ci := 8) (q0 := 0) (n := 2) (As := [.int 0, .int x1]) (st := []) (wr := [(a_up, .inl (X.E 1, 8, .inl up)), (a_down, .inl (X.E 1, 8, .inl down)), (a_fell, .inl (X.E 1, 8, .inl fell))]) (isC := [0, 1]) (isR := [2, 3, 4]) h hR (ct_X8_holds (a := a) (a_w := a_w) (a_tape := a_tape) (a_lane := a_lane) (a_size := a_size) (a_items := a_items) (a_up := a_up) (a_down := a_down) (a_fell := a_fell) (a_read := a_read) (a_comesUp := a_comesUp) (a_comesDown := a_comesDown) (a_held := a_held) (x1 := 0) (x2 := x1) (isImage := isImage) (taped := taped) (above := above) (below := below) (fallen := fallen) (torn := torn) (at_ := at_) (start := start) (number := number) (w := w) hv) rfl rfl (lw_V q1284 q1286 qs37 q80 q1287) (by decide +kernel) rfl ⟨rfl, rfl, rfl, rfl, by decide⟩ ⟨fle rfl, fle rfl, fle rfl, fle rfl, fle rfl⟩ rfl dX8_let_13 (pin (perm := [3, 4, 0, 1, 2]) (ws' := [(a, .inr (8, [.ref a_w, .int isImage, .ref a_tape, .int taped, .ref a_lane, .ref a_size, .ref a_items, .ref a_up, .ref a_down, .int above, .int below, .ref a_fell, .int fallen, .int torn, .int at_, .int start, .int number, .ref a_read, .ref a_comesUp, .ref a_comesDown, .ref a_held])), (a_w, .inl (X.E 1, 1142, .inl w)), (a_up, .inl (X.E 1, 8, .inl up)), (a_down, .inl (X.E 1, 8, .inl down)), (a_fell, .inl (X.E 1, 8, .inl fell))]) (stk := [.int r_3]) rfl rfl rfl ?_)
    clear hv
    refine g_if_ne (tgt := 22) h dX8_let_16 rfl hf (fun c4 hf => ?_) (fun c4 hf => ?_)
    · refine g_bipush (v := (-2)) h dX8_let_19 kbipush_m2 ?_
      obtain ⟨rfl, rfl, rfl, rfl, rfl, rfl, rfl, rfl, rfl⟩ := sj9 hf
      exact g_iret h hF [0, 1, 2, 3, 4] rfl rfl ⟨rfl, rfl⟩ (fle rfl) (fle rfl) dX8_let_21
    · refine g_aload_n h 0 dX8_let_22 rfl rfl ?_
      obtain ⟨w_5, hv, hf⟩ := ob1 hf
      refine g_callV (ci := 8) (q0 := 0) (n := 0) (As := []) (st := []) (wr := [(a_up, .inl (X.E 1, 8, .inl up)), (a_down, .inl (X.E 1, 8, .inl down)), (a_fell, .inl (X.E 1, 8, .inl fell))]) (isC := [0, 1]) (isR := [2, 3, 4]) h hR (ct_X8_minds (a := a) (a_w := a_w) (a_tape := a_tape) (a_lane := a_lane) (a_size := a_size) (a_items := a_items) (a_up := a_up) (a_down := a_down) (a_fell := a_fell) (a_read := a_read) (a_comesUp := a_comesUp) (a_comesDown := a_comesDown) (a_held := a_held) (isImage := isImage) (taped := taped) (above := above) (below := below) (fallen := fallen) (torn := torn) (at_ := at_) (start := start) (number := number) (w := w) hv) rfl rfl (lw_V q1416 q1418 qs56 q80 q1419) (by decide +kernel) rfl ⟨rfl, rfl, rfl, rfl, by decide⟩ ⟨fle rfl, fle rfl, fle rfl, fle rfl, fle rfl⟩ rfl dX8_let_23 (pin (perm := [3, 4, 0, 1, 2]) (ws' := [(a, .inr (8, [.ref a_w, .int isImage, .ref a_tape, .int taped, .ref a_lane, .ref a_size, .ref a_items, .ref a_up, .ref a_down, .int above, .int below, .ref a_fell, .int fallen, .int torn, .int at_, .int start, .int number, .ref a_read, .ref a_comesUp, .ref a_comesDown, .ref a_held])), (a_w, .inl (X.E 1, 1142, .inl w_5)), (a_up, .inl (X.E 1, 8, .inl up)), (a_down, .inl (X.E 1, 8, .inl down)), (a_fell, .inl (X.E 1, 8, .inl fell))]) (stk := []) rfl rfl rfl ?_)
      clear hv
      refine g_aload_n h 0 dX8_let_26 rfl rfl ?_
      refine g_get (ci := 8) (v := .ref a_w) h in_X8 0 0 rfl rfl (fle rfl) rfl q1166 rfl dX8_let_27 ?_
      refine g_bipush (v := 20) h dX8_let_30 kbipush_20 ?_
      refine g_iload_n h 1 dX8_let_32 rfl rfl ?_
      refine g_iadd h dX8_let_33 ?_
      refine g_iconst (v := 0) h dX8_let_34 kiconst_0 ?_
      obtain ⟨g6, hf⟩ := gn hf
      refine g_iastore (ws' := [(a, .inr (8, [.ref a_w, .int isImage, .ref a_tape, .int taped, .ref a_lane, .ref a_size, .ref a_items, .ref a_up, .ref a_down, .int above, .int below, .ref a_fell, .int fallen, .int torn, .int at_, .int start, .int number, .ref a_read, .ref a_comesUp, .ref a_comesDown, .ref a_held])), (a_w, .inl (X.E 1, 1142, .inl (upd w_5 (20 + x1).toNatClampNeg 0))), (a_up, .inl (X.E 1, 8, .inl up)), (a_down, .inl (X.E 1, 8, .inl down)), (a_fell, .inl (X.E 1, 8, .inl fell))]) h 1 rfl g6 rfl dX8_let_35 ?_
      refine g_aload_n h 0 dX8_let_36 rfl rfl ?_
      refine g_iconst (v := 0) h dX8_let_37 kiconst_0 ?_
      obtain ⟨above_7, below_8, fallen_9, torn_10, w_11, up_12, down_13, fell_14, hv, hf⟩ := ob8 hf
      refine g_callV (ci := 8) (q0 := 0) (n := 1) (As := [.int 0]) (st := []) (wr := []) (isC := [0, 1, 2, 3, 4]) (isR := []) h hR (ct_X8_settles (a := a) (a_w := a_w) (a_tape := a_tape) (a_lane := a_lane) (a_size := a_size) (a_items := a_items) (a_up := a_up) (a_down := a_down) (a_fell := a_fell) (a_read := a_read) (a_comesUp := a_comesUp) (a_comesDown := a_comesDown) (a_held := a_held) (x1 := 0) (isImage := isImage) (taped := taped) (above := above) (below := below) (fallen := fallen) (torn := torn) (at_ := at_) (start := start) (number := number) (w := upd w_5 (20 + x1).toNatClampNeg 0) (up := up) (down := down) (fell := fell) hv) rfl rfl (lw_V q1276 q1278 qs35 q80 q1279) (by decide +kernel) rfl ⟨rfl, rfl, rfl, rfl, by decide⟩ ⟨fle rfl, fle rfl, fle rfl, fle rfl, fle rfl⟩ rfl dX8_let_38 (pin (perm := [0, 1, 2, 3, 4]) (ws' := [(a, .inr (8, [.ref a_w, .int isImage, .ref a_tape, .int taped, .ref a_lane, .ref a_size, .ref a_items, .ref a_up, .ref a_down, .int above_7, .int below_8, .ref a_fell, .int fallen_9, .int torn_10, .int at_, .int start, .int number, .ref a_read, .ref a_comesUp, .ref a_comesDown, .ref a_held])), (a_w, .inl (X.E 1, 1142, .inl w_11)), (a_up, .inl (X.E 1, 8, .inl up_12)), (a_down, .inl (X.E 1, 8, .inl down_13)), (a_fell, .inl (X.E 1, 8, .inl fell_14))]) (stk := []) rfl rfl rfl ?_)
      clear hv
      refine g_aload_n h 0 dX8_let_41 rfl rfl ?_
      refine g_get (ci := 8) (v := .int fallen_9) h in_X8 0 12 rfl rfl (fle rfl) rfl q1178 rfl dX8_let_42 ?_
      obtain ⟨rfl, rfl, rfl, rfl, rfl, rfl, rfl, rfl, rfl⟩ := sj9 hf
      exact g_iret h hF [0, 1, 2, 3, 4] rfl rfl ⟨rfl, rfl⟩ (fle rfl) (fle rfl) dX8_let_45
set_option maxHeartbeats 4000000 in
set_option maxRecDepth 100000 in
theorem ct_X8_takesHold {l : Launch} {D : va_G} {E : Ety} {a a_w a_tape a_lane a_size a_items a_up a_down a_fell a_read a_comesUp a_comesDown a_held : Nat} {x1 : Int32} {x2 : Int32} {isImage : Int32} {taped : Int32} {above : Int32} {below : Int32} {fallen : Int32} {torn : Int32} {at_ : Int32} {start : Int32} {number : Int32} {w : Nat → Int32} {up : Nat → Int32} {down : Nat → Int32} {o_above : Int32} {o_below : Int32} {o_w : Nat → Int32} {o_up : Nat → Int32} {o_down : Nat → Int32} (hf : f_X8_takesHold x1 x2 w up down = some (o_above, o_below, o_w, o_up, o_down)) : Ct l yX8_takesHold cX8_takesHold 4 none 4 94 0 0 D E [.ref a, .int x1, .int x2] [(a, .inr (8, [.ref a_w, .int isImage, .ref a_tape, .int taped, .ref a_lane, .ref a_size, .ref a_items, .ref a_up, .ref a_down, .int above, .int below, .ref a_fell, .int fallen, .int torn, .int at_, .int start, .int number, .ref a_read, .ref a_comesUp, .ref a_comesDown, .ref a_held])), (a_w, .inl (E 1, 1142, .inl w)), (a_up, .inl (E 1, 8, .inl up)), (a_down, .inl (E 1, 8, .inl down))] (Pn none [(a, .inr (8, [.ref a_w, .int isImage, .ref a_tape, .int taped, .ref a_lane, .ref a_size, .ref a_items, .ref a_up, .ref a_down, .int o_above, .int o_below, .ref a_fell, .int fallen, .int torn, .int at_, .int start, .int number, .ref a_read, .ref a_comesUp, .ref a_comesDown, .ref a_held])), (a_w, .inl (E 1, 1142, .inl o_w)), (a_up, .inl (E 1, 8, .inl o_up)), (a_down, .inl (E 1, 8, .inl o_down))]) := by
  refine ct_of (own := RX8) (plainFor_of_name (by decide)) rfl (fle rfl) rfl ?_
  intro X hl hD hE hnL hXF h hR hF hnm
  subst hl; subst hD; subst hE
  have hL : ∀ i, i < 4 → i < X.nL := fun i hi => by rw [hnL]; exact hi
  unfold f_X8_takesHold at hf
  refine g_aload_n h 0 dX8_takesHold_0 rfl rfl ?_
  refine g_iload_n h 1 dX8_takesHold_1 rfl rfl ?_
  refine g_iload_n h 2 dX8_takesHold_2 rfl rfl ?_
  obtain ⟨above_1, below_2, up_3, down_4, hv, hf⟩ := ob4 hf
  refine g_callV (ci := 8) (q0 := 0) (n := 2) (As := [.int x1, .int x2]) (st := []) (wr := []) (isC := [0, 1, 2, 3]) (isR := []) h hR (ct_X8_layPlace (a := a) (a_w := a_w) (a_tape := a_tape) (a_lane := a_lane) (a_size := a_size) (a_items := a_items) (a_up := a_up) (a_down := a_down) (a_fell := a_fell) (a_read := a_read) (a_comesUp := a_comesUp) (a_comesDown := a_comesDown) (a_held := a_held) (x1 := x1) (x2 := x2) (isImage := isImage) (taped := taped) (above := above) (below := below) (fallen := fallen) (torn := torn) (at_ := at_) (start := start) (number := number) (w := w) (up := up) (down := down) hv) rfl rfl (lw_V q1352 q1354 qs47 q80 q1355) (by decide +kernel) rfl ⟨rfl, rfl, rfl, rfl, by decide⟩ ⟨fle rfl, fle rfl, fle rfl, fle rfl, fle rfl⟩ rfl dX8_takesHold_3 (pin (perm := [0, 1, 2, 3]) (ws' := [(a, .inr (8, [.ref a_w, .int isImage, .ref a_tape, .int taped, .ref a_lane, .ref a_size, .ref a_items, .ref a_up, .ref a_down, .int above_1, .int below_2, .ref a_fell, .int fallen, .int torn, .int at_, .int start, .int number, .ref a_read, .ref a_comesUp, .ref a_comesDown, .ref a_held])), (a_w, .inl (X.E 1, 1142, .inl w)), (a_up, .inl (X.E 1, 8, .inl up_3)), (a_down, .inl (X.E 1, 8, .inl down_4))]) (stk := []) rfl rfl rfl ?_)
  clear hv
  refine g_aload_n h 0 dX8_takesHold_6 rfl rfl ?_
  refine g_get (ci := 8) (v := .int above_1) h in_X8 0 9 rfl rfl (fle rfl) rfl q1175 rfl dX8_takesHold_7 ?_
  refine g_aload_n h 0 dX8_takesHold_10 rfl rfl ?_
  refine g_get (ci := 8) (v := .int below_2) h in_X8 0 10 rfl rfl (fle rfl) rfl q1176 rfl dX8_takesHold_11 ?_
  obtain ⟨g5, hf⟩ := gn hf
  refine g_idiv h dX8_takesHold_14 g5 ?_
  refine g_istore_n (lv' := [(3, .int (above_1 / below_2)), (0, .ref a), (1, .int x1), (2, .int x2)]) h dX8_takesHold_15 rfl (hL 3 (fle rfl)) rfl ?_
  refine g_aload_n h 1 dX8_takesHold_16 rfl rfl ?_
  refine g_get (ci := 8) (v := .ref a_w) h in_X8 0 0 rfl rfl (fle rfl) rfl q1166 rfl dX8_takesHold_17 ?_
  refine g_iload_n h 2 dX8_takesHold_20 rfl rfl ?_
  refine g_bipush (v := 28) h dX8_takesHold_21 kbipush_28 ?_
  refine g_iadd h dX8_takesHold_23 ?_
  refine g_iload_n h 3 dX8_takesHold_24 rfl rfl ?_
  refine g_iadd h dX8_takesHold_25 ?_
  refine g_iload_n h 0 dX8_takesHold_26 rfl rfl ?_
  refine g_bipush (v := 99) h dX8_takesHold_27 kbipush_99 ?_
  obtain ⟨z_7, hw, hf⟩ := ob1 hf
  have K29 : G X [(a, .inr (8, [.ref a_w, .int isImage, .ref a_tape, .int taped, .ref a_lane, .ref a_size, .ref a_items, .ref a_up, .ref a_down, .int above_1, .int below_2, .ref a_fell, .int fallen, .int torn, .int at_, .int start, .int number, .ref a_read, .ref a_comesUp, .ref a_comesDown, .ref a_held])), (a_w, .inl (X.E 1, 1142, .inl w)), (a_up, .inl (X.E 1, 8, .inl up_3)), (a_down, .inl (X.E 1, 8, .inl down_4))] [(0, .ref a), (1, .int x1), (2, .int x2)] 0 0 38 [.int z_7, .int ((x1 + 28) + x2), .ref a_w] := by
    clear hw
    obtain ⟨g8, hf⟩ := gn hf
    refine g_iastore (ws' := [(a, .inr (8, [.ref a_w, .int isImage, .ref a_tape, .int taped, .ref a_lane, .ref a_size, .ref a_items, .ref a_up, .ref a_down, .int above_1, .int below_2, .ref a_fell, .int fallen, .int torn, .int at_, .int start, .int number, .ref a_read, .ref a_comesUp, .ref a_comesDown, .ref a_held])), (a_w, .inl (X.E 1, 1142, .inl (upd w ((x1 + 28) + x2).toNatClampNeg z_7))), (a_up, .inl (X.E 1, 8, .inl up_3)), (a_down, .inl (X.E 1, 8, .inl down_4))]) h 1 rfl g8 rfl dX8_takesHold_38 ?_
    refine g_aload_n h 0 dX8_takesHold_39 rfl rfl ?_
    refine g_get (ci := 8) (v := .ref a_w) h in_X8 0 0 rfl rfl (fle rfl) rfl q1166 rfl dX8_takesHold_40 ?_
    refine g_iload_n h 1 dX8_takesHold_43 rfl rfl ?_
    refine g_bipush (v := 20) h dX8_takesHold_44 kbipush_20 ?_
    refine g_iadd h dX8_takesHold_46 ?_
    refine g_iload_n h 2 dX8_takesHold_47 rfl rfl ?_
    refine g_iadd h dX8_takesHold_48 ?_
    refine g_iconst (v := 1) h dX8_takesHold_49 kiconst_1 ?_
    obtain ⟨g9, hf⟩ := gn hf
    refine g_iastore (ws' := [(a, .inr (8, [.ref a_w, .int isImage, .ref a_tape, .int taped, .ref a_lane, .ref a_size, .ref a_items, .ref a_up, .ref a_down, .int above_1, .int below_2, .ref a_fell, .int fallen, .int torn, .int at_, .int start, .int number, .ref a_read, .ref a_comesUp, .ref a_comesDown, .ref a_held])), (a_w, .inl (X.E 1, 1142, .inl (upd (upd w ((x1 + 28) + x2).toNatClampNeg z_7) ((x1 + 20) + x2).toNatClampNeg 1))), (a_up, .inl (X.E 1, 8, .inl up_3)), (a_down, .inl (X.E 1, 8, .inl down_4))]) h 1 rfl g9 rfl dX8_takesHold_50 ?_
    obtain ⟨rfl, rfl, rfl, rfl, rfl⟩ := sj5 hf
    exact g_vret h hF [0, 1, 2, 3] rfl rfl ⟨rfl, rfl⟩ (fle rfl) (fle rfl) dX8_takesHold_51
  clear hf
  have hf := hw
  clear hw
  refine g_icmp_le (tgt := 37) h dX8_takesHold_29 rfl hf (fun c6 hf => ?_) (fun c6 hf => ?_)
  · refine g_iload_n h 0 dX8_takesHold_37 rfl rfl ?_
    obtain rfl := sj1 hf
    exact G.lsub [1, 2, 3] rfl K29
  · refine g_bipush (v := 99) h dX8_takesHold_32 kbipush_99 ?_
    refine g_goto (tgt := 38) h dX8_takesHold_34 rfl ?_
    obtain rfl := sj1 hf
    exact G.lsub [1, 2, 3] rfl K29
set_option maxHeartbeats 4000000 in
set_option maxRecDepth 100000 in
theorem ct_X8_hold {l : Launch} {D : va_G} {E : Ety} {a a_w a_tape a_lane a_size a_items a_up a_down a_fell a_read a_comesUp a_comesDown a_held : Nat} {x1 : Int32} {isImage : Int32} {taped : Int32} {above : Int32} {below : Int32} {fallen : Int32} {torn : Int32} {at_ : Int32} {start : Int32} {number : Int32} {w : Nat → Int32} {up : Nat → Int32} {down : Nat → Int32} {fell : Nat → Int32} {r_ : Int32} {o_above : Int32} {o_below : Int32} {o_fallen : Int32} {o_torn : Int32} {o_w : Nat → Int32} {o_up : Nat → Int32} {o_down : Nat → Int32} {o_fell : Nat → Int32} (hf : f_X8_hold x1 above below fallen torn w up down fell = some (r_, o_above, o_below, o_fallen, o_torn, o_w, o_up, o_down, o_fell)) : Ct l yX8_hold cX8_hold 2 (some .int) 6 139 0 0 D E [.ref a, .int x1] [(a, .inr (8, [.ref a_w, .int isImage, .ref a_tape, .int taped, .ref a_lane, .ref a_size, .ref a_items, .ref a_up, .ref a_down, .int above, .int below, .ref a_fell, .int fallen, .int torn, .int at_, .int start, .int number, .ref a_read, .ref a_comesUp, .ref a_comesDown, .ref a_held])), (a_w, .inl (E 1, 1142, .inl w)), (a_up, .inl (E 1, 8, .inl up)), (a_down, .inl (E 1, 8, .inl down)), (a_fell, .inl (E 1, 8, .inl fell))] (Pn (some (.int r_)) [(a, .inr (8, [.ref a_w, .int isImage, .ref a_tape, .int taped, .ref a_lane, .ref a_size, .ref a_items, .ref a_up, .ref a_down, .int o_above, .int o_below, .ref a_fell, .int o_fallen, .int o_torn, .int at_, .int start, .int number, .ref a_read, .ref a_comesUp, .ref a_comesDown, .ref a_held])), (a_w, .inl (E 1, 1142, .inl o_w)), (a_up, .inl (E 1, 8, .inl o_up)), (a_down, .inl (E 1, 8, .inl o_down)), (a_fell, .inl (E 1, 8, .inl o_fell))]) := by
  refine ct_of (own := RX8) (plainFor_of_name (by decide)) rfl (fle rfl) rfl ?_
  intro X hl hD hE hnL hXF h hR hF hnm
  subst hl; subst hD; subst hE
  have hL : ∀ i, i < 2 → i < X.nL := fun i hi => by rw [hnL]; exact hi
  unfold f_X8_hold at hf
  refine g_aload_n h 0 dX8_hold_0 rfl rfl ?_
  refine g_iload_n h 1 dX8_hold_1 rfl rfl ?_
  obtain ⟨r_1, hv, hf⟩ := ob1 hf
  refine g_callV (ci := 8) (q0 := 0) (n := 1) (As := [.int x1]) (st := []) (wr := [(a_up, .inl (X.E 1, 8, .inl up)), (a_down, .inl (X.E 1, 8, .inl down)), (a_fell, .inl (X.E 1, 8, .inl fell))]) (isC := [0, 1]) (isR := [2, 3, 4]) h hR (ct_X8_isPerson (a := a) (a_w := a_w) (a_tape := a_tape) (a_lane := a_lane) (a_size := a_size) (a_items := a_items) (a_up := a_up) (a_down := a_down) (a_fell := a_fell) (a_read := a_read) (a_comesUp := a_comesUp) (a_comesDown := a_comesDown) (a_held := a_held) (x1 := x1) (isImage := isImage) (taped := taped) (above := above) (below := below) (fallen := fallen) (torn := torn) (at_ := at_) (start := start) (number := number) (w := w) hv) rfl rfl (lw_V q1340 q1342 qs45 q80 q1343) (by decide +kernel) rfl ⟨rfl, rfl, rfl, rfl, by decide⟩ ⟨fle rfl, fle rfl, fle rfl, fle rfl, fle rfl⟩ rfl dX8_hold_2 (pin (perm := [3, 4, 0, 1, 2]) (ws' := [(a, .inr (8, [.ref a_w, .int isImage, .ref a_tape, .int taped, .ref a_lane, .ref a_size, .ref a_items, .ref a_up, .ref a_down, .int above, .int below, .ref a_fell, .int fallen, .int torn, .int at_, .int start, .int number, .ref a_read, .ref a_comesUp, .ref a_comesDown, .ref a_held])), (a_w, .inl (X.E 1, 1142, .inl w)), (a_up, .inl (X.E 1, 8, .inl up)), (a_down, .inl (X.E 1, 8, .inl down)), (a_fell, .inl (X.E 1, 8, .inl fell))]) (stk := [.int r_1]) rfl rfl rfl ?_)
  clear hv
  refine g_if_ne (tgt := 10) h dX8_hold_5 rfl hf (fun c2 hf => ?_) (fun c2 hf => ?_)
  · refine g_iconst (v := (-1)) h dX8_hold_8 kiconst_m1 ?_
    obtain ⟨rfl, rfl, rfl, rfl, rfl, rfl, rfl, rfl, rfl⟩ := sj9 hf
    exact g_iret h hF [0, 1, 2, 3, 4] rfl rfl ⟨rfl, rfl⟩ (fle rfl) (fle rfl) dX8_hold_9
  · refine g_aload_n h 0 dX8_hold_10 rfl rfl ?_
    refine g_iconst (v := 0) h dX8_hold_11 kiconst_0 ?_
    refine g_iload_n h 1 dX8_hold_12 rfl rfl ?_
    obtain ⟨r_3, hv, hf⟩ := ob1 hf
    refine g_callV (ci := 8) (q0 := 0) (n := 2) (As := [.int 0, .int x1]) (st := []) (wr := [(a_up, .inl (X.E 1, 8, .inl up)), (a_down, .inl (X.E 1, 8, .inl down)), (a_fell, .inl (X.E 1, 8, .inl fell))]) (isC := [0, 1]) (isR := [2, 3, 4]) h hR (ct_X8_holds (a := a) (a_w := a_w) (a_tape := a_tape) (a_lane := a_lane) (a_size := a_size) (a_items := a_items) (a_up := a_up) (a_down := a_down) (a_fell := a_fell) (a_read := a_read) (a_comesUp := a_comesUp) (a_comesDown := a_comesDown) (a_held := a_held) (x1 := 0) (x2 := x1) (isImage := isImage) (taped := taped) (above := above) (below := below) (fallen := fallen) (torn := torn) (at_ := at_) (start := start) (number := number) (w := w) hv) rfl rfl (lw_V q1284 q1286 qs37 q80 q1287) (by decide +kernel) rfl ⟨rfl, rfl, rfl, rfl, by decide⟩ ⟨fle rfl, fle rfl, fle rfl, fle rfl, fle rfl⟩ rfl dX8_hold_13 (pin (perm := [3, 4, 0, 1, 2]) (ws' := [(a, .inr (8, [.ref a_w, .int isImage, .ref a_tape, .int taped, .ref a_lane, .ref a_size, .ref a_items, .ref a_up, .ref a_down, .int above, .int below, .ref a_fell, .int fallen, .int torn, .int at_, .int start, .int number, .ref a_read, .ref a_comesUp, .ref a_comesDown, .ref a_held])), (a_w, .inl (X.E 1, 1142, .inl w)), (a_up, .inl (X.E 1, 8, .inl up)), (a_down, .inl (X.E 1, 8, .inl down)), (a_fell, .inl (X.E 1, 8, .inl fell))]) (stk := [.int r_3]) rfl rfl rfl ?_)
    clear hv
    refine g_if_eq (tgt := 22) h dX8_hold_16 rfl hf (fun c4 hf => ?_) (fun c4 hf => ?_)
    · refine g_aload_n h 0 dX8_hold_22 rfl rfl ?_
      obtain ⟨w_5, hv, hf⟩ := ob1 hf
      refine g_callV (ci := 8) (q0 := 0) (n := 0) (As := []) (st := []) (wr := [(a_up, .inl (X.E 1, 8, .inl up)), (a_down, .inl (X.E 1, 8, .inl down)), (a_fell, .inl (X.E 1, 8, .inl fell))]) (isC := [0, 1]) (isR := [2, 3, 4]) h hR (ct_X8_minds (a := a) (a_w := a_w) (a_tape := a_tape) (a_lane := a_lane) (a_size := a_size) (a_items := a_items) (a_up := a_up) (a_down := a_down) (a_fell := a_fell) (a_read := a_read) (a_comesUp := a_comesUp) (a_comesDown := a_comesDown) (a_held := a_held) (isImage := isImage) (taped := taped) (above := above) (below := below) (fallen := fallen) (torn := torn) (at_ := at_) (start := start) (number := number) (w := w) hv) rfl rfl (lw_V q1416 q1418 qs56 q80 q1419) (by decide +kernel) rfl ⟨rfl, rfl, rfl, rfl, by decide⟩ ⟨fle rfl, fle rfl, fle rfl, fle rfl, fle rfl⟩ rfl dX8_hold_23 (pin (perm := [3, 4, 0, 1, 2]) (ws' := [(a, .inr (8, [.ref a_w, .int isImage, .ref a_tape, .int taped, .ref a_lane, .ref a_size, .ref a_items, .ref a_up, .ref a_down, .int above, .int below, .ref a_fell, .int fallen, .int torn, .int at_, .int start, .int number, .ref a_read, .ref a_comesUp, .ref a_comesDown, .ref a_held])), (a_w, .inl (X.E 1, 1142, .inl w_5)), (a_up, .inl (X.E 1, 8, .inl up)), (a_down, .inl (X.E 1, 8, .inl down)), (a_fell, .inl (X.E 1, 8, .inl fell))]) (stk := []) rfl rfl rfl ?_)
      clear hv
      refine g_aload_n h 0 dX8_hold_26 rfl rfl ?_
      refine g_iconst (v := 0) h dX8_hold_27 kiconst_0 ?_
      refine g_iload_n h 1 dX8_hold_28 rfl rfl ?_
      obtain ⟨above_6, below_7, w_8, up_9, down_10, hv, hf⟩ := ob5 hf
      refine g_callV (ci := 8) (q0 := 0) (n := 2) (As := [.int 0, .int x1]) (st := []) (wr := [(a_fell, .inl (X.E 1, 8, .inl fell))]) (isC := [0, 1, 2, 3]) (isR := [4]) h hR (ct_X8_takesHold (a := a) (a_w := a_w) (a_tape := a_tape) (a_lane := a_lane) (a_size := a_size) (a_items := a_items) (a_up := a_up) (a_down := a_down) (a_fell := a_fell) (a_read := a_read) (a_comesUp := a_comesUp) (a_comesDown := a_comesDown) (a_held := a_held) (x1 := 0) (x2 := x1) (isImage := isImage) (taped := taped) (above := above) (below := below) (fallen := fallen) (torn := torn) (at_ := at_) (start := start) (number := number) (w := w_5) (up := up) (down := down) hv) rfl rfl (lw_V q1428 q1430 qs57 q80 q1431) (by decide +kernel) rfl ⟨rfl, rfl, rfl, rfl, by decide⟩ ⟨fle rfl, fle rfl, fle rfl, fle rfl, fle rfl⟩ rfl dX8_hold_29 (pin (perm := [1, 2, 3, 4, 0]) (ws' := [(a, .inr (8, [.ref a_w, .int isImage, .ref a_tape, .int taped, .ref a_lane, .ref a_size, .ref a_items, .ref a_up, .ref a_down, .int above_6, .int below_7, .ref a_fell, .int fallen, .int torn, .int at_, .int start, .int number, .ref a_read, .ref a_comesUp, .ref a_comesDown, .ref a_held])), (a_w, .inl (X.E 1, 1142, .inl w_8)), (a_up, .inl (X.E 1, 8, .inl up_9)), (a_down, .inl (X.E 1, 8, .inl down_10)), (a_fell, .inl (X.E 1, 8, .inl fell))]) (stk := []) rfl rfl rfl ?_)
      clear hv
      refine g_aload_n h 0 dX8_hold_32 rfl rfl ?_
      refine g_iconst (v := 0) h dX8_hold_33 kiconst_0 ?_
      obtain ⟨above_11, below_12, fallen_13, torn_14, w_15, up_16, down_17, fell_18, hv, hf⟩ := ob8 hf
      refine g_callV (ci := 8) (q0 := 0) (n := 1) (As := [.int 0]) (st := []) (wr := []) (isC := [0, 1, 2, 3, 4]) (isR := []) h hR (ct_X8_settles (a := a) (a_w := a_w) (a_tape := a_tape) (a_lane := a_lane) (a_size := a_size) (a_items := a_items) (a_up := a_up) (a_down := a_down) (a_fell := a_fell) (a_read := a_read) (a_comesUp := a_comesUp) (a_comesDown := a_comesDown) (a_held := a_held) (x1 := 0) (isImage := isImage) (taped := taped) (above := above_6) (below := below_7) (fallen := fallen) (torn := torn) (at_ := at_) (start := start) (number := number) (w := w_8) (up := up_9) (down := down_10) (fell := fell) hv) rfl rfl (lw_V q1276 q1278 qs35 q80 q1279) (by decide +kernel) rfl ⟨rfl, rfl, rfl, rfl, by decide⟩ ⟨fle rfl, fle rfl, fle rfl, fle rfl, fle rfl⟩ rfl dX8_hold_34 (pin (perm := [0, 1, 2, 3, 4]) (ws' := [(a, .inr (8, [.ref a_w, .int isImage, .ref a_tape, .int taped, .ref a_lane, .ref a_size, .ref a_items, .ref a_up, .ref a_down, .int above_11, .int below_12, .ref a_fell, .int fallen_13, .int torn_14, .int at_, .int start, .int number, .ref a_read, .ref a_comesUp, .ref a_comesDown, .ref a_held])), (a_w, .inl (X.E 1, 1142, .inl w_15)), (a_up, .inl (X.E 1, 8, .inl up_16)), (a_down, .inl (X.E 1, 8, .inl down_17)), (a_fell, .inl (X.E 1, 8, .inl fell_18))]) (stk := []) rfl rfl rfl ?_)
      clear hv
      refine g_aload_n h 0 dX8_hold_37 rfl rfl ?_
      refine g_get (ci := 8) (v := .int fallen_13) h in_X8 0 12 rfl rfl (fle rfl) rfl q1178 rfl dX8_hold_38 ?_
      obtain ⟨rfl, rfl, rfl, rfl, rfl, rfl, rfl, rfl, rfl⟩ := sj9 hf
      exact g_iret h hF [0, 1, 2, 3, 4] rfl rfl ⟨rfl, rfl⟩ (fle rfl) (fle rfl) dX8_hold_41
    · refine g_bipush (v := (-2)) h dX8_hold_19 kbipush_m2 ?_
      obtain ⟨rfl, rfl, rfl, rfl, rfl, rfl, rfl, rfl, rfl⟩ := sj9 hf
      exact g_iret h hF [0, 1, 2, 3, 4] rfl rfl ⟨rfl, rfl⟩ (fle rfl) (fle rfl) dX8_hold_21
set_option maxHeartbeats 4000000 in
set_option maxRecDepth 100000 in
theorem ct_X8_sew {l : Launch} {D : va_G} {E : Ety} {a a_w a_tape a_lane a_size a_items a_up a_down a_fell a_read a_comesUp a_comesDown a_held : Nat} {x1 : Int32} {isImage : Int32} {taped : Int32} {above : Int32} {below : Int32} {fallen : Int32} {torn : Int32} {at_ : Int32} {start : Int32} {number : Int32} {w : Nat → Int32} {up : Nat → Int32} {down : Nat → Int32} {fell : Nat → Int32} {r_ : Int32} {o_above : Int32} {o_below : Int32} {o_fallen : Int32} {o_torn : Int32} {o_w : Nat → Int32} {o_up : Nat → Int32} {o_down : Nat → Int32} {o_fell : Nat → Int32} (hf : f_X8_sew x1 above below fallen torn w up down fell = some (r_, o_above, o_below, o_fallen, o_torn, o_w, o_up, o_down, o_fell)) : Ct l yX8_sew cX8_sew 2 (some .int) 6 139 0 0 D E [.ref a, .int x1] [(a, .inr (8, [.ref a_w, .int isImage, .ref a_tape, .int taped, .ref a_lane, .ref a_size, .ref a_items, .ref a_up, .ref a_down, .int above, .int below, .ref a_fell, .int fallen, .int torn, .int at_, .int start, .int number, .ref a_read, .ref a_comesUp, .ref a_comesDown, .ref a_held])), (a_w, .inl (E 1, 1142, .inl w)), (a_up, .inl (E 1, 8, .inl up)), (a_down, .inl (E 1, 8, .inl down)), (a_fell, .inl (E 1, 8, .inl fell))] (Pn (some (.int r_)) [(a, .inr (8, [.ref a_w, .int isImage, .ref a_tape, .int taped, .ref a_lane, .ref a_size, .ref a_items, .ref a_up, .ref a_down, .int o_above, .int o_below, .ref a_fell, .int o_fallen, .int o_torn, .int at_, .int start, .int number, .ref a_read, .ref a_comesUp, .ref a_comesDown, .ref a_held])), (a_w, .inl (E 1, 1142, .inl o_w)), (a_up, .inl (E 1, 8, .inl o_up)), (a_down, .inl (E 1, 8, .inl o_down)), (a_fell, .inl (E 1, 8, .inl o_fell))]) := by
  refine ct_of (own := RX8) (plainFor_of_name (by decide)) rfl (fle rfl) rfl ?_
  intro X hl hD hE hnL hXF h hR hF hnm
  subst hl; subst hD; subst hE
  have hL : ∀ i, i < 2 → i < X.nL := fun i hi => by rw [hnL]; exact hi
  unfold f_X8_sew at hf
  refine g_aload_n h 0 dX8_sew_0 rfl rfl ?_
  refine g_iload_n h 1 dX8_sew_1 rfl rfl ?_
  obtain ⟨r_1, hv, hf⟩ := ob1 hf
  refine g_callV (ci := 8) (q0 := 0) (n := 1) (As := [.int x1]) (st := []) (wr := [(a_up, .inl (X.E 1, 8, .inl up)), (a_down, .inl (X.E 1, 8, .inl down)), (a_fell, .inl (X.E 1, 8, .inl fell))]) (isC := [0, 1]) (isR := [2, 3, 4]) h hR (ct_X8_isSeam (a := a) (a_w := a_w) (a_tape := a_tape) (a_lane := a_lane) (a_size := a_size) (a_items := a_items) (a_up := a_up) (a_down := a_down) (a_fell := a_fell) (a_read := a_read) (a_comesUp := a_comesUp) (a_comesDown := a_comesDown) (a_held := a_held) (x1 := x1) (isImage := isImage) (taped := taped) (above := above) (below := below) (fallen := fallen) (torn := torn) (at_ := at_) (start := start) (number := number) (w := w) hv) rfl rfl (lw_V q1374 q1376 qs49 q80 q1377) (by decide +kernel) rfl ⟨rfl, rfl, rfl, rfl, by decide⟩ ⟨fle rfl, fle rfl, fle rfl, fle rfl, fle rfl⟩ rfl dX8_sew_2 (pin (perm := [3, 4, 0, 1, 2]) (ws' := [(a, .inr (8, [.ref a_w, .int isImage, .ref a_tape, .int taped, .ref a_lane, .ref a_size, .ref a_items, .ref a_up, .ref a_down, .int above, .int below, .ref a_fell, .int fallen, .int torn, .int at_, .int start, .int number, .ref a_read, .ref a_comesUp, .ref a_comesDown, .ref a_held])), (a_w, .inl (X.E 1, 1142, .inl w)), (a_up, .inl (X.E 1, 8, .inl up)), (a_down, .inl (X.E 1, 8, .inl down)), (a_fell, .inl (X.E 1, 8, .inl fell))]) (stk := [.int r_1]) rfl rfl rfl ?_)
  clear hv
  refine g_if_ne (tgt := 10) h dX8_sew_5 rfl hf (fun c2 hf => ?_) (fun c2 hf => ?_)
  · refine g_iconst (v := (-1)) h dX8_sew_8 kiconst_m1 ?_
    obtain ⟨rfl, rfl, rfl, rfl, rfl, rfl, rfl, rfl, rfl⟩ := sj9 hf
    exact g_iret h hF [0, 1, 2, 3, 4] rfl rfl ⟨rfl, rfl⟩ (fle rfl) (fle rfl) dX8_sew_9
  · refine g_aload_n h 0 dX8_sew_10 rfl rfl ?_
    refine g_get (ci := 8) (v := .ref a_w) h in_X8 0 0 rfl rfl (fle rfl) rfl q1166 rfl dX8_sew_11 ?_
    refine g_bipush (v := 52) h dX8_sew_14 kbipush_52 ?_
    refine g_iload_n h 1 dX8_sew_16 rfl rfl ?_
    refine g_iadd h dX8_sew_17 ?_
    obtain ⟨g3, hf⟩ := gn hf
    refine g_iaload h 1 rfl g3 dX8_sew_18 ?_
    refine g_if_ne (tgt := 25) h dX8_sew_19 rfl hf (fun c4 hf => ?_) (fun c4 hf => ?_)
    · refine g_bipush (v := (-2)) h dX8_sew_22 kbipush_m2 ?_
      obtain ⟨rfl, rfl, rfl, rfl, rfl, rfl, rfl, rfl, rfl⟩ := sj9 hf
      exact g_iret h hF [0, 1, 2, 3, 4] rfl rfl ⟨rfl, rfl⟩ (fle rfl) (fle rfl) dX8_sew_24
    · refine g_aload_n h 0 dX8_sew_25 rfl rfl ?_
      obtain ⟨w_5, hv, hf⟩ := ob1 hf
      refine g_callV (ci := 8) (q0 := 0) (n := 0) (As := []) (st := []) (wr := [(a_up, .inl (X.E 1, 8, .inl up)), (a_down, .inl (X.E 1, 8, .inl down)), (a_fell, .inl (X.E 1, 8, .inl fell))]) (isC := [0, 1]) (isR := [2, 3, 4]) h hR (ct_X8_minds (a := a) (a_w := a_w) (a_tape := a_tape) (a_lane := a_lane) (a_size := a_size) (a_items := a_items) (a_up := a_up) (a_down := a_down) (a_fell := a_fell) (a_read := a_read) (a_comesUp := a_comesUp) (a_comesDown := a_comesDown) (a_held := a_held) (isImage := isImage) (taped := taped) (above := above) (below := below) (fallen := fallen) (torn := torn) (at_ := at_) (start := start) (number := number) (w := w) hv) rfl rfl (lw_V q1416 q1418 qs56 q80 q1419) (by decide +kernel) rfl ⟨rfl, rfl, rfl, rfl, by decide⟩ ⟨fle rfl, fle rfl, fle rfl, fle rfl, fle rfl⟩ rfl dX8_sew_26 (pin (perm := [3, 4, 0, 1, 2]) (ws' := [(a, .inr (8, [.ref a_w, .int isImage, .ref a_tape, .int taped, .ref a_lane, .ref a_size, .ref a_items, .ref a_up, .ref a_down, .int above, .int below, .ref a_fell, .int fallen, .int torn, .int at_, .int start, .int number, .ref a_read, .ref a_comesUp, .ref a_comesDown, .ref a_held])), (a_w, .inl (X.E 1, 1142, .inl w_5)), (a_up, .inl (X.E 1, 8, .inl up)), (a_down, .inl (X.E 1, 8, .inl down)), (a_fell, .inl (X.E 1, 8, .inl fell))]) (stk := []) rfl rfl rfl ?_)
      clear hv
      refine g_aload_n h 0 dX8_sew_29 rfl rfl ?_
      refine g_get (ci := 8) (v := .ref a_w) h in_X8 0 0 rfl rfl (fle rfl) rfl q1166 rfl dX8_sew_30 ?_
      refine g_bipush (v := 52) h dX8_sew_33 kbipush_52 ?_
      refine g_iload_n h 1 dX8_sew_35 rfl rfl ?_
      refine g_iadd h dX8_sew_36 ?_
      refine g_iconst (v := 0) h dX8_sew_37 kiconst_0 ?_
      refine g_iastore (ws' := [(a, .inr (8, [.ref a_w, .int isImage, .ref a_tape, .int taped, .ref a_lane, .ref a_size, .ref a_items, .ref a_up, .ref a_down, .int above, .int below, .ref a_fell, .int fallen, .int torn, .int at_, .int start, .int number, .ref a_read, .ref a_comesUp, .ref a_comesDown, .ref a_held])), (a_w, .inl (X.E 1, 1142, .inl (upd w_5 (52 + x1).toNatClampNeg 0))), (a_up, .inl (X.E 1, 8, .inl up)), (a_down, .inl (X.E 1, 8, .inl down)), (a_fell, .inl (X.E 1, 8, .inl fell))]) h 1 rfl g3 rfl dX8_sew_38 ?_
      refine g_aload_n h 0 dX8_sew_39 rfl rfl ?_
      refine g_iconst (v := 0) h dX8_sew_40 kiconst_0 ?_
      obtain ⟨above_6, below_7, fallen_8, torn_9, w_10, up_11, down_12, fell_13, hv, hf⟩ := ob8 hf
      refine g_callV (ci := 8) (q0 := 0) (n := 1) (As := [.int 0]) (st := []) (wr := []) (isC := [0, 1, 2, 3, 4]) (isR := []) h hR (ct_X8_settles (a := a) (a_w := a_w) (a_tape := a_tape) (a_lane := a_lane) (a_size := a_size) (a_items := a_items) (a_up := a_up) (a_down := a_down) (a_fell := a_fell) (a_read := a_read) (a_comesUp := a_comesUp) (a_comesDown := a_comesDown) (a_held := a_held) (x1 := 0) (isImage := isImage) (taped := taped) (above := above) (below := below) (fallen := fallen) (torn := torn) (at_ := at_) (start := start) (number := number) (w := upd w_5 (52 + x1).toNatClampNeg 0) (up := up) (down := down) (fell := fell) hv) rfl rfl (lw_V q1276 q1278 qs35 q80 q1279) (by decide +kernel) rfl ⟨rfl, rfl, rfl, rfl, by decide⟩ ⟨fle rfl, fle rfl, fle rfl, fle rfl, fle rfl⟩ rfl dX8_sew_41 (pin (perm := [0, 1, 2, 3, 4]) (ws' := [(a, .inr (8, [.ref a_w, .int isImage, .ref a_tape, .int taped, .ref a_lane, .ref a_size, .ref a_items, .ref a_up, .ref a_down, .int above_6, .int below_7, .ref a_fell, .int fallen_8, .int torn_9, .int at_, .int start, .int number, .ref a_read, .ref a_comesUp, .ref a_comesDown, .ref a_held])), (a_w, .inl (X.E 1, 1142, .inl w_10)), (a_up, .inl (X.E 1, 8, .inl up_11)), (a_down, .inl (X.E 1, 8, .inl down_12)), (a_fell, .inl (X.E 1, 8, .inl fell_13))]) (stk := []) rfl rfl rfl ?_)
      clear hv
      refine g_aload_n h 0 dX8_sew_44 rfl rfl ?_
      refine g_get (ci := 8) (v := .int fallen_8) h in_X8 0 12 rfl rfl (fle rfl) rfl q1178 rfl dX8_sew_45 ?_
      obtain ⟨rfl, rfl, rfl, rfl, rfl, rfl, rfl, rfl, rfl⟩ := sj9 hf
      exact g_iret h hF [0, 1, 2, 3, 4] rfl rfl ⟨rfl, rfl⟩ (fle rfl) (fle rfl) dX8_sew_48
set_option maxHeartbeats 4000000 in
set_option maxRecDepth 100000 in
theorem ct_X8_bears {l : Launch} {D : va_G} {E : Ety} {a a_w a_tape a_lane a_size a_items a_up a_down a_fell a_read a_comesUp a_comesDown a_held : Nat} {x1 : Int32} {isImage : Int32} {taped : Int32} {above : Int32} {below : Int32} {fallen : Int32} {torn : Int32} {at_ : Int32} {start : Int32} {number : Int32} {w : Nat → Int32} {up : Nat → Int32} {down : Nat → Int32} {fell : Nat → Int32} {r_ : Int32} {o_above : Int32} {o_below : Int32} {o_fallen : Int32} {o_torn : Int32} {o_w : Nat → Int32} {o_up : Nat → Int32} {o_down : Nat → Int32} {o_fell : Nat → Int32} (hf : f_X8_bears x1 above below fallen torn w up down fell = some (r_, o_above, o_below, o_fallen, o_torn, o_w, o_up, o_down, o_fell)) : Ct l yX8_bears cX8_bears 3 (some .int) 6 139 0 0 D E [.ref a, .int x1] [(a, .inr (8, [.ref a_w, .int isImage, .ref a_tape, .int taped, .ref a_lane, .ref a_size, .ref a_items, .ref a_up, .ref a_down, .int above, .int below, .ref a_fell, .int fallen, .int torn, .int at_, .int start, .int number, .ref a_read, .ref a_comesUp, .ref a_comesDown, .ref a_held])), (a_w, .inl (E 1, 1142, .inl w)), (a_up, .inl (E 1, 8, .inl up)), (a_down, .inl (E 1, 8, .inl down)), (a_fell, .inl (E 1, 8, .inl fell))] (Pn (some (.int r_)) [(a, .inr (8, [.ref a_w, .int isImage, .ref a_tape, .int taped, .ref a_lane, .ref a_size, .ref a_items, .ref a_up, .ref a_down, .int o_above, .int o_below, .ref a_fell, .int o_fallen, .int o_torn, .int at_, .int start, .int number, .ref a_read, .ref a_comesUp, .ref a_comesDown, .ref a_held])), (a_w, .inl (E 1, 1142, .inl o_w)), (a_up, .inl (E 1, 8, .inl o_up)), (a_down, .inl (E 1, 8, .inl o_down)), (a_fell, .inl (E 1, 8, .inl o_fell))]) := by
  refine ct_of (own := RX8) (plainFor_of_name (by decide)) rfl (fle rfl) rfl ?_
  intro X hl hD hE hnL hXF h hR hF hnm
  subst hl; subst hD; subst hE
  have hL : ∀ i, i < 3 → i < X.nL := fun i hi => by rw [hnL]; exact hi
  unfold f_X8_bears at hf
  refine g_iload_n h 1 dX8_bears_0 rfl rfl ?_
  refine g_i2l h dX8_bears_1 ?_
  refine g_lconst (v := 1) h dX8_bears_2 rfl ?_
  refine g_ldc2 h q1440 dX8_bears_3 ?_
  obtain ⟨r_1, hv, hf⟩ := ob1 hf
  refine g_callS (n := 3) (As := [.long x1.toInt64, .long 1, .long 60]) (st := []) (wr := [(a, .inr (8, [.ref a_w, .int isImage, .ref a_tape, .int taped, .ref a_lane, .ref a_size, .ref a_items, .ref a_up, .ref a_down, .int above, .int below, .ref a_fell, .int fallen, .int torn, .int at_, .int start, .int number, .ref a_read, .ref a_comesUp, .ref a_comesDown, .ref a_held])), (a_w, .inl (X.E 1, 1142, .inl w)), (a_up, .inl (X.E 1, 8, .inl up)), (a_down, .inl (X.E 1, 8, .inl down)), (a_fell, .inl (X.E 1, 8, .inl fell))]) (isC := []) (isR := [0, 1, 2, 3, 4]) h hR (ct_X8_in (x0 := x1.toInt64) (x2 := 1) (x4 := 60) hv) (lw_S q1236 q1237 q80 q1238) (by decide +kernel) rfl ⟨rfl, rfl, rfl, rfl, by decide⟩ ⟨fle rfl, fle rfl, fle rfl, fle rfl, fle rfl⟩ rfl dX8_bears_6 (pin (perm := [0, 1, 2, 3, 4]) (ws' := [(a, .inr (8, [.ref a_w, .int isImage, .ref a_tape, .int taped, .ref a_lane, .ref a_size, .ref a_items, .ref a_up, .ref a_down, .int above, .int below, .ref a_fell, .int fallen, .int torn, .int at_, .int start, .int number, .ref a_read, .ref a_comesUp, .ref a_comesDown, .ref a_held])), (a_w, .inl (X.E 1, 1142, .inl w)), (a_up, .inl (X.E 1, 8, .inl up)), (a_down, .inl (X.E 1, 8, .inl down)), (a_fell, .inl (X.E 1, 8, .inl fell))]) (stk := [.int r_1]) rfl rfl rfl ?_)
  clear hv
  refine g_if_ne (tgt := 14) h dX8_bears_9 rfl hf (fun c2 hf => ?_) (fun c2 hf => ?_)
  · refine g_iconst (v := (-1)) h dX8_bears_12 kiconst_m1 ?_
    obtain ⟨rfl, rfl, rfl, rfl, rfl, rfl, rfl, rfl, rfl⟩ := sj9 hf
    exact g_iret h hF [0, 1, 2, 3, 4] rfl rfl ⟨rfl, rfl⟩ (fle rfl) (fle rfl) dX8_bears_13
  · refine g_aload_n h 0 dX8_bears_14 rfl rfl ?_
    refine g_get (ci := 8) (v := .ref a_w) h in_X8 0 0 rfl rfl (fle rfl) rfl q1166 rfl dX8_bears_15 ?_
    refine g_iconst (v := 1) h dX8_bears_18 kiconst_1 ?_
    refine g_iaload h 1 rfl (by decide) dX8_bears_19 ?_
    refine g_istore_n (lv' := [(2, .int (w (1 : Int32).toNatClampNeg)), (0, .ref a), (1, .int x1)]) h dX8_bears_20 rfl (hL 2 (fle rfl)) rfl ?_
    refine g_iload_n h 0 dX8_bears_21 rfl rfl ?_
    refine g_iload_n h 2 dX8_bears_22 rfl rfl ?_
    refine g_icmp_ne (tgt := 29) h dX8_bears_23 rfl hf (fun c3 hf => ?_) (fun c3 hf => ?_)
    · refine g_bipush (v := (-2)) h dX8_bears_26 kbipush_m2 ?_
      obtain ⟨rfl, rfl, rfl, rfl, rfl, rfl, rfl, rfl, rfl⟩ := sj9 hf
      exact g_iret h hF [0, 1, 2, 3, 4] rfl rfl ⟨rfl, rfl⟩ (fle rfl) (fle rfl) dX8_bears_28
    · refine g_aload_n h 1 dX8_bears_29 rfl rfl ?_
      obtain ⟨w_4, hv, hf⟩ := ob1 hf
      refine g_callV (ci := 8) (q0 := 0) (n := 0) (As := []) (st := []) (wr := [(a_up, .inl (X.E 1, 8, .inl up)), (a_down, .inl (X.E 1, 8, .inl down)), (a_fell, .inl (X.E 1, 8, .inl fell))]) (isC := [0, 1]) (isR := [2, 3, 4]) h hR (ct_X8_minds (a := a) (a_w := a_w) (a_tape := a_tape) (a_lane := a_lane) (a_size := a_size) (a_items := a_items) (a_up := a_up) (a_down := a_down) (a_fell := a_fell) (a_read := a_read) (a_comesUp := a_comesUp) (a_comesDown := a_comesDown) (a_held := a_held) (isImage := isImage) (taped := taped) (above := above) (below := below) (fallen := fallen) (torn := torn) (at_ := at_) (start := start) (number := number) (w := w) hv) rfl rfl (lw_V q1416 q1418 qs56 q80 q1419) (by decide +kernel) rfl ⟨rfl, rfl, rfl, rfl, by decide⟩ ⟨fle rfl, fle rfl, fle rfl, fle rfl, fle rfl⟩ rfl dX8_bears_30 (pin (perm := [3, 4, 0, 1, 2]) (ws' := [(a, .inr (8, [.ref a_w, .int isImage, .ref a_tape, .int taped, .ref a_lane, .ref a_size, .ref a_items, .ref a_up, .ref a_down, .int above, .int below, .ref a_fell, .int fallen, .int torn, .int at_, .int start, .int number, .ref a_read, .ref a_comesUp, .ref a_comesDown, .ref a_held])), (a_w, .inl (X.E 1, 1142, .inl w_4)), (a_up, .inl (X.E 1, 8, .inl up)), (a_down, .inl (X.E 1, 8, .inl down)), (a_fell, .inl (X.E 1, 8, .inl fell))]) (stk := []) rfl rfl rfl ?_)
      clear hv
      refine g_aload_n h 1 dX8_bears_33 rfl rfl ?_
      refine g_get (ci := 8) (v := .ref a_w) h in_X8 0 0 rfl rfl (fle rfl) rfl q1166 rfl dX8_bears_34 ?_
      refine g_iconst (v := 1) h dX8_bears_37 kiconst_1 ?_
      refine g_iload_n h 2 dX8_bears_38 rfl rfl ?_
      refine g_iastore (ws' := [(a, .inr (8, [.ref a_w, .int isImage, .ref a_tape, .int taped, .ref a_lane, .ref a_size, .ref a_items, .ref a_up, .ref a_down, .int above, .int below, .ref a_fell, .int fallen, .int torn, .int at_, .int start, .int number, .ref a_read, .ref a_comesUp, .ref a_comesDown, .ref a_held])), (a_w, .inl (X.E 1, 1142, .inl (upd w_4 (1 : Int32).toNatClampNeg x1))), (a_up, .inl (X.E 1, 8, .inl up)), (a_down, .inl (X.E 1, 8, .inl down)), (a_fell, .inl (X.E 1, 8, .inl fell))]) h 1 rfl (by decide) rfl dX8_bears_39 ?_
      refine g_aload_n h 1 dX8_bears_40 rfl rfl ?_
      refine g_iconst (v := 0) h dX8_bears_41 kiconst_0 ?_
      obtain ⟨above_5, below_6, fallen_7, torn_8, w_9, up_10, down_11, fell_12, hv, hf⟩ := ob8 hf
      refine g_callV (ci := 8) (q0 := 0) (n := 1) (As := [.int 0]) (st := []) (wr := []) (isC := [0, 1, 2, 3, 4]) (isR := []) h hR (ct_X8_settles (a := a) (a_w := a_w) (a_tape := a_tape) (a_lane := a_lane) (a_size := a_size) (a_items := a_items) (a_up := a_up) (a_down := a_down) (a_fell := a_fell) (a_read := a_read) (a_comesUp := a_comesUp) (a_comesDown := a_comesDown) (a_held := a_held) (x1 := 0) (isImage := isImage) (taped := taped) (above := above) (below := below) (fallen := fallen) (torn := torn) (at_ := at_) (start := start) (number := number) (w := upd w_4 (1 : Int32).toNatClampNeg x1) (up := up) (down := down) (fell := fell) hv) rfl rfl (lw_V q1276 q1278 qs35 q80 q1279) (by decide +kernel) rfl ⟨rfl, rfl, rfl, rfl, by decide⟩ ⟨fle rfl, fle rfl, fle rfl, fle rfl, fle rfl⟩ rfl dX8_bears_42 (pin (perm := [0, 1, 2, 3, 4]) (ws' := [(a, .inr (8, [.ref a_w, .int isImage, .ref a_tape, .int taped, .ref a_lane, .ref a_size, .ref a_items, .ref a_up, .ref a_down, .int above_5, .int below_6, .ref a_fell, .int fallen_7, .int torn_8, .int at_, .int start, .int number, .ref a_read, .ref a_comesUp, .ref a_comesDown, .ref a_held])), (a_w, .inl (X.E 1, 1142, .inl w_9)), (a_up, .inl (X.E 1, 8, .inl up_10)), (a_down, .inl (X.E 1, 8, .inl down_11)), (a_fell, .inl (X.E 1, 8, .inl fell_12))]) (stk := []) rfl rfl rfl ?_)
      clear hv
      refine g_iload_n h 0 dX8_bears_45 rfl rfl ?_
      obtain ⟨rfl, rfl, rfl, rfl, rfl, rfl, rfl, rfl, rfl⟩ := sj9 hf
      exact g_iret h hF [0, 1, 2, 3, 4] rfl rfl ⟨rfl, rfl⟩ (fle rfl) (fle rfl) dX8_bears_46
set_option maxHeartbeats 4000000 in
set_option maxRecDepth 100000 in
theorem ct_X8_hourOf {l : Launch} {D : va_G} {E : Ety} {a a_w a_tape a_lane a_size a_items a_up a_down a_fell a_read a_comesUp a_comesDown a_held : Nat} {x1 : Int32} {isImage : Int32} {taped : Int32} {above : Int32} {below : Int32} {fallen : Int32} {torn : Int32} {at_ : Int32} {start : Int32} {number : Int32} {w : Nat → Int32} {up : Nat → Int32} {down : Nat → Int32} {fell : Nat → Int32} {o_above : Int32} {o_below : Int32} {o_fallen : Int32} {o_torn : Int32} {o_w : Nat → Int32} {o_up : Nat → Int32} {o_down : Nat → Int32} {o_fell : Nat → Int32} (hf : f_X8_hourOf x1 above below w up down fell = some (o_above, o_below, o_fallen, o_torn, o_w, o_up, o_down, o_fell)) : Ct l yX8_hourOf cX8_hourOf 2 none 6 139 0 0 D E [.ref a, .int x1] [(a, .inr (8, [.ref a_w, .int isImage, .ref a_tape, .int taped, .ref a_lane, .ref a_size, .ref a_items, .ref a_up, .ref a_down, .int above, .int below, .ref a_fell, .int fallen, .int torn, .int at_, .int start, .int number, .ref a_read, .ref a_comesUp, .ref a_comesDown, .ref a_held])), (a_w, .inl (E 1, 1142, .inl w)), (a_up, .inl (E 1, 8, .inl up)), (a_down, .inl (E 1, 8, .inl down)), (a_fell, .inl (E 1, 8, .inl fell))] (Pn none [(a, .inr (8, [.ref a_w, .int isImage, .ref a_tape, .int taped, .ref a_lane, .ref a_size, .ref a_items, .ref a_up, .ref a_down, .int o_above, .int o_below, .ref a_fell, .int o_fallen, .int o_torn, .int at_, .int start, .int number, .ref a_read, .ref a_comesUp, .ref a_comesDown, .ref a_held])), (a_w, .inl (E 1, 1142, .inl o_w)), (a_up, .inl (E 1, 8, .inl o_up)), (a_down, .inl (E 1, 8, .inl o_down)), (a_fell, .inl (E 1, 8, .inl o_fell))]) := by
  refine ct_of (own := RX8) (plainFor_of_name (by decide)) rfl (fle rfl) rfl ?_
  intro X hl hD hE hnL hXF h hR hF hnm
  subst hl; subst hD; subst hE
  have hL : ∀ i, i < 2 → i < X.nL := fun i hi => by rw [hnL]; exact hi
  unfold f_X8_hourOf at hf
  refine g_aload_n h 0 dX8_hourOf_0 rfl rfl ?_
  refine g_get (ci := 8) (v := .ref a_w) h in_X8 0 0 rfl rfl (fle rfl) rfl q1166 rfl dX8_hourOf_1 ?_
  refine g_iload_n h 1 dX8_hourOf_4 rfl rfl ?_
  refine g_iconst (v := 2) h dX8_hourOf_5 kiconst_2 ?_
  refine g_iadd h dX8_hourOf_6 ?_
  refine g_aload_n h 0 dX8_hourOf_7 rfl rfl ?_
  refine g_get (ci := 8) (v := .ref a_w) h in_X8 0 0 rfl rfl (fle rfl) rfl q1166 rfl dX8_hourOf_8 ?_
  refine g_iload_n h 1 dX8_hourOf_11 rfl rfl ?_
  refine g_iconst (v := 2) h dX8_hourOf_12 kiconst_2 ?_
  refine g_iadd h dX8_hourOf_13 ?_
  obtain ⟨g1, hf⟩ := gn hf
  refine g_iaload h 1 rfl g1 dX8_hourOf_14 ?_
  refine g_iconst (v := 1) h dX8_hourOf_15 kiconst_1 ?_
  refine g_iadd h dX8_hourOf_16 ?_
  refine g_bipush (v := 24) h dX8_hourOf_17 kbipush_24 ?_
  refine g_irem h dX8_hourOf_19 (by decide) ?_
  refine g_iastore (ws' := [(a, .inr (8, [.ref a_w, .int isImage, .ref a_tape, .int taped, .ref a_lane, .ref a_size, .ref a_items, .ref a_up, .ref a_down, .int above, .int below, .ref a_fell, .int fallen, .int torn, .int at_, .int start, .int number, .ref a_read, .ref a_comesUp, .ref a_comesDown, .ref a_held])), (a_w, .inl (X.E 1, 1142, .inl (upd w (x1 + 2).toNatClampNeg (((w (x1 + 2).toNatClampNeg) + 1) - ((w (x1 + 2).toNatClampNeg) + 1) / 24 * 24)))), (a_up, .inl (X.E 1, 8, .inl up)), (a_down, .inl (X.E 1, 8, .inl down)), (a_fell, .inl (X.E 1, 8, .inl fell))]) h 1 rfl g1 rfl dX8_hourOf_20 ?_
  refine g_aload_n h 0 dX8_hourOf_21 rfl rfl ?_
  refine g_iload_n h 1 dX8_hourOf_22 rfl rfl ?_
  obtain ⟨above_2, below_3, fallen_4, torn_5, w_6, up_7, down_8, fell_9, hv, hf⟩ := ob8 hf
  refine g_callV (ci := 8) (q0 := 0) (n := 1) (As := [.int x1]) (st := []) (wr := []) (isC := [0, 1, 2, 3, 4]) (isR := []) h hR (ct_X8_settles (a := a) (a_w := a_w) (a_tape := a_tape) (a_lane := a_lane) (a_size := a_size) (a_items := a_items) (a_up := a_up) (a_down := a_down) (a_fell := a_fell) (a_read := a_read) (a_comesUp := a_comesUp) (a_comesDown := a_comesDown) (a_held := a_held) (x1 := x1) (isImage := isImage) (taped := taped) (above := above) (below := below) (fallen := fallen) (torn := torn) (at_ := at_) (start := start) (number := number) (w := upd w (x1 + 2).toNatClampNeg (((w (x1 + 2).toNatClampNeg) + 1) - ((w (x1 + 2).toNatClampNeg) + 1) / 24 * 24)) (up := up) (down := down) (fell := fell) hv) rfl rfl (lw_V q1276 q1278 qs35 q80 q1279) (by decide +kernel) rfl ⟨rfl, rfl, rfl, rfl, by decide⟩ ⟨fle rfl, fle rfl, fle rfl, fle rfl, fle rfl⟩ rfl dX8_hourOf_23 (pin (perm := [0, 1, 2, 3, 4]) (ws' := [(a, .inr (8, [.ref a_w, .int isImage, .ref a_tape, .int taped, .ref a_lane, .ref a_size, .ref a_items, .ref a_up, .ref a_down, .int above_2, .int below_3, .ref a_fell, .int fallen_4, .int torn_5, .int at_, .int start, .int number, .ref a_read, .ref a_comesUp, .ref a_comesDown, .ref a_held])), (a_w, .inl (X.E 1, 1142, .inl w_6)), (a_up, .inl (X.E 1, 8, .inl up_7)), (a_down, .inl (X.E 1, 8, .inl down_8)), (a_fell, .inl (X.E 1, 8, .inl fell_9))]) (stk := []) rfl rfl rfl ?_)
  clear hv
  obtain ⟨rfl, rfl, rfl, rfl, rfl, rfl, rfl, rfl⟩ := sj8 hf
  exact g_vret h hF [0, 1, 2, 3, 4] rfl rfl ⟨rfl, rfl⟩ (fle rfl) (fle rfl) dX8_hourOf_26
set_option maxHeartbeats 4000000 in
set_option maxRecDepth 100000 in
theorem w_X8_hours_L18 {X : Cx} {a a_comesDown a_comesUp a_down a_fell a_held a_items a_lane a_read a_size a_tape a_up a_w : Nat} {x1 : Int32} {isImage : Int32} {taped : Int32} {at_ : Int32} {start : Int32} {number : Int32} {ce sl : Nat} (h : Ok X cX8_hours RX8) (hR : Rm X 7 160 0 0) (hL : ∀ i, i < 4 → i < X.nL) (hce : ce ≤ 0) (hsl : sl ≤ 0) : ∀ (n0 : Nat) (x2 : Int32) (x3 : Int32) (above : Int32) (below : Int32) (fallen : Int32) (torn : Int32) (w : Nat → Int32) (up : Nat → Int32) (down : Nat → Int32) (fell : Nat → Int32) {o_x2 : Int32} {o_above : Int32} {o_below : Int32} {o_fallen : Int32} {o_torn : Int32} {o_w : Nat → Int32} {o_up : Nat → Int32} {o_down : Nat → Int32} {o_fell : Nat → Int32}, f_X8_hours_L18 x1 n0 x2 x3 above below fallen torn w up down fell = some (o_x2, o_above, o_below, o_fallen, o_torn, o_w, o_up, o_down, o_fell) → (G X [(a, .inr (8, [.ref a_w, .int isImage, .ref a_tape, .int taped, .ref a_lane, .ref a_size, .ref a_items, .ref a_up, .ref a_down, .int o_above, .int o_below, .ref a_fell, .int o_fallen, .int o_torn, .int at_, .int start, .int number, .ref a_read, .ref a_comesUp, .ref a_comesDown, .ref a_held])), (a_w, .inl (X.E 1, 1142, .inl o_w)), (a_up, .inl (X.E 1, 8, .inl o_up)), (a_down, .inl (X.E 1, 8, .inl o_down)), (a_fell, .inl (X.E 1, 8, .inl o_fell))] [(2, .int o_x2)] ce sl 45 []) → G X [(a, .inr (8, [.ref a_w, .int isImage, .ref a_tape, .int taped, .ref a_lane, .ref a_size, .ref a_items, .ref a_up, .ref a_down, .int above, .int below, .ref a_fell, .int fallen, .int torn, .int at_, .int start, .int number, .ref a_read, .ref a_comesUp, .ref a_comesDown, .ref a_held])), (a_w, .inl (X.E 1, 1142, .inl w)), (a_up, .inl (X.E 1, 8, .inl up)), (a_down, .inl (X.E 1, 8, .inl down)), (a_fell, .inl (X.E 1, 8, .inl fell))] [(0, .ref a), (1, .int x1), (2, .int x2), (3, .int x3)] ce sl 18 [] := by
  intro n0
  induction n0 with
  | zero => intro x2 x3 above below fallen torn w up down fell o_x2 o_above o_below o_fallen o_torn o_w o_up o_down o_fell hf; exact nomatch (show (none : Option _) = some _ from hf)
  | succ n0 ih =>
    intro x2 x3 above below fallen torn w up down fell o_x2 o_above o_below o_fallen o_torn o_w o_up o_down o_fell hf k0
    replace hf : t_X8_hours_L18 x1 (f_X8_hours_L18 x1 n0) x2 x3 above below fallen torn w up down fell = some (o_x2, o_above, o_below, o_fallen, o_torn, o_w, o_up, o_down, o_fell) := hf
    unfold t_X8_hours_L18 at hf
    refine g_iload_n h 3 dX8_hours_18 rfl rfl ?_
    refine g_iload_n h 1 dX8_hours_19 rfl rfl ?_
    refine g_icmp_ge (tgt := 45) h dX8_hours_20 rfl hf (fun c3 hf => ?_) (fun c3 hf => ?_)
    · obtain ⟨rfl, rfl, rfl, rfl, rfl, rfl, rfl, rfl, rfl⟩ := sj9 hf
      exact G.lsub [2] rfl k0
    · refine g_aload_n h 0 dX8_hours_23 rfl rfl ?_
      obtain ⟨w_4, hv, hf⟩ := ob1 hf
      refine g_callV (ci := 8) (q0 := 0) (n := 0) (As := []) (st := []) (wr := [(a_up, .inl (X.E 1, 8, .inl up)), (a_down, .inl (X.E 1, 8, .inl down)), (a_fell, .inl (X.E 1, 8, .inl fell))]) (isC := [0, 1]) (isR := [2, 3, 4]) h hR (ct_X8_minds (a := a) (a_w := a_w) (a_tape := a_tape) (a_lane := a_lane) (a_size := a_size) (a_items := a_items) (a_up := a_up) (a_down := a_down) (a_fell := a_fell) (a_read := a_read) (a_comesUp := a_comesUp) (a_comesDown := a_comesDown) (a_held := a_held) (isImage := isImage) (taped := taped) (above := above) (below := below) (fallen := fallen) (torn := torn) (at_ := at_) (start := start) (number := number) (w := w) hv) rfl rfl (lw_V q1416 q1418 qs56 q80 q1419) (by decide +kernel) rfl ⟨rfl, rfl, rfl, rfl, by decide⟩ ⟨hce, hsl, fle rfl, fle rfl, fle rfl⟩ rfl dX8_hours_24 (pin (perm := [3, 4, 0, 1, 2]) (ws' := [(a, .inr (8, [.ref a_w, .int isImage, .ref a_tape, .int taped, .ref a_lane, .ref a_size, .ref a_items, .ref a_up, .ref a_down, .int above, .int below, .ref a_fell, .int fallen, .int torn, .int at_, .int start, .int number, .ref a_read, .ref a_comesUp, .ref a_comesDown, .ref a_held])), (a_w, .inl (X.E 1, 1142, .inl w_4)), (a_up, .inl (X.E 1, 8, .inl up)), (a_down, .inl (X.E 1, 8, .inl down)), (a_fell, .inl (X.E 1, 8, .inl fell))]) (stk := []) rfl rfl rfl ?_)
      clear hv
      refine g_aload_n h 0 dX8_hours_27 rfl rfl ?_
      refine g_iconst (v := 0) h dX8_hours_28 kiconst_0 ?_
      obtain ⟨above_5, below_6, fallen_7, torn_8, w_9, up_10, down_11, fell_12, hv, hf⟩ := ob8 hf
      refine g_callV (ci := 8) (q0 := 0) (n := 1) (As := [.int 0]) (st := []) (wr := []) (isC := [0, 1, 2, 3, 4]) (isR := []) h hR (ct_X8_hourOf (a := a) (a_w := a_w) (a_tape := a_tape) (a_lane := a_lane) (a_size := a_size) (a_items := a_items) (a_up := a_up) (a_down := a_down) (a_fell := a_fell) (a_read := a_read) (a_comesUp := a_comesUp) (a_comesDown := a_comesDown) (a_held := a_held) (x1 := 0) (isImage := isImage) (taped := taped) (above := above) (below := below) (fallen := fallen) (torn := torn) (at_ := at_) (start := start) (number := number) (w := w_4) (up := up) (down := down) (fell := fell) hv) rfl rfl (lw_V q1446 q1448 qs58 q80 q1449) (by decide +kernel) rfl ⟨rfl, rfl, rfl, rfl, by decide⟩ ⟨hce, hsl, fle rfl, fle rfl, fle rfl⟩ rfl dX8_hours_29 (pin (perm := [0, 1, 2, 3, 4]) (ws' := [(a, .inr (8, [.ref a_w, .int isImage, .ref a_tape, .int taped, .ref a_lane, .ref a_size, .ref a_items, .ref a_up, .ref a_down, .int above_5, .int below_6, .ref a_fell, .int fallen_7, .int torn_8, .int at_, .int start, .int number, .ref a_read, .ref a_comesUp, .ref a_comesDown, .ref a_held])), (a_w, .inl (X.E 1, 1142, .inl w_9)), (a_up, .inl (X.E 1, 8, .inl up_10)), (a_down, .inl (X.E 1, 8, .inl down_11)), (a_fell, .inl (X.E 1, 8, .inl fell_12))]) (stk := []) rfl rfl rfl ?_)
      clear hv
      refine g_iload_n h 2 dX8_hours_32 rfl rfl ?_
      refine g_aload_n h 0 dX8_hours_33 rfl rfl ?_
      refine g_get (ci := 8) (v := .int fallen_7) h in_X8 0 12 rfl rfl (fle rfl) rfl q1178 rfl dX8_hours_34 ?_
      refine g_iadd h dX8_hours_37 ?_
      refine g_istore_n (lv' := [(2, .int (x2 + fallen_7)), (0, .ref a), (1, .int x1), (3, .int x3)]) h dX8_hours_38 rfl (hL 2 (fle rfl)) rfl ?_
      refine g_iinc (j := 3) (v := (x3 + 1)) (lv' := [(3, .int (x3 + 1)), (2, .int (x2 + fallen_7)), (0, .ref a), (1, .int x1)]) h dX8_hours_39 rfl (kinc_1 _) (hL 3 (fle rfl)) rfl ?_
      refine g_goto (tgt := 18) h dX8_hours_42 rfl ?_
      exact G.lsub [2, 3, 1, 0] rfl (ih _ _ _ _ _ _ _ _ _ _ hf k0)
set_option maxHeartbeats 4000000 in
set_option maxRecDepth 100000 in
theorem ct_X8_hours {l : Launch} {D : va_G} {E : Ety} {a a_w a_tape a_lane a_size a_items a_up a_down a_fell a_read a_comesUp a_comesDown a_held : Nat} {x1 : Int32} {isImage : Int32} {taped : Int32} {above : Int32} {below : Int32} {fallen : Int32} {torn : Int32} {at_ : Int32} {start : Int32} {number : Int32} {w : Nat → Int32} {up : Nat → Int32} {down : Nat → Int32} {fell : Nat → Int32} {r_ : Int32} {o_above : Int32} {o_below : Int32} {o_fallen : Int32} {o_torn : Int32} {o_w : Nat → Int32} {o_up : Nat → Int32} {o_down : Nat → Int32} {o_fell : Nat → Int32} (hf : f_X8_hours x1 above below fallen torn w up down fell = some (r_, o_above, o_below, o_fallen, o_torn, o_w, o_up, o_down, o_fell)) : Ct l yX8_hours cX8_hours 4 (some .int) 7 160 0 0 D E [.ref a, .int x1] [(a, .inr (8, [.ref a_w, .int isImage, .ref a_tape, .int taped, .ref a_lane, .ref a_size, .ref a_items, .ref a_up, .ref a_down, .int above, .int below, .ref a_fell, .int fallen, .int torn, .int at_, .int start, .int number, .ref a_read, .ref a_comesUp, .ref a_comesDown, .ref a_held])), (a_w, .inl (E 1, 1142, .inl w)), (a_up, .inl (E 1, 8, .inl up)), (a_down, .inl (E 1, 8, .inl down)), (a_fell, .inl (E 1, 8, .inl fell))] (Pn (some (.int r_)) [(a, .inr (8, [.ref a_w, .int isImage, .ref a_tape, .int taped, .ref a_lane, .ref a_size, .ref a_items, .ref a_up, .ref a_down, .int o_above, .int o_below, .ref a_fell, .int o_fallen, .int o_torn, .int at_, .int start, .int number, .ref a_read, .ref a_comesUp, .ref a_comesDown, .ref a_held])), (a_w, .inl (E 1, 1142, .inl o_w)), (a_up, .inl (E 1, 8, .inl o_up)), (a_down, .inl (E 1, 8, .inl o_down)), (a_fell, .inl (E 1, 8, .inl o_fell))]) := by
  refine ct_of (own := RX8) (plainFor_of_name (by decide)) rfl (fle rfl) rfl ?_
  intro X hl hD hE hnL hXF h hR hF hnm
  subst hl; subst hD; subst hE
  have hL : ∀ i, i < 4 → i < X.nL := fun i hi => by rw [hnL]; exact hi
  unfold f_X8_hours at hf
  refine g_iload_n h 1 dX8_hours_0 rfl rfl ?_
  refine g_i2l h dX8_hours_1 ?_
  refine g_lconst (v := 1) h dX8_hours_2 rfl ?_
  refine g_ldc2 h q1445 dX8_hours_3 ?_
  obtain ⟨r_1, hv, hf⟩ := ob1 hf
  refine g_callS (n := 3) (As := [.long x1.toInt64, .long 1, .long 24]) (st := []) (wr := [(a, .inr (8, [.ref a_w, .int isImage, .ref a_tape, .int taped, .ref a_lane, .ref a_size, .ref a_items, .ref a_up, .ref a_down, .int above, .int below, .ref a_fell, .int fallen, .int torn, .int at_, .int start, .int number, .ref a_read, .ref a_comesUp, .ref a_comesDown, .ref a_held])), (a_w, .inl (X.E 1, 1142, .inl w)), (a_up, .inl (X.E 1, 8, .inl up)), (a_down, .inl (X.E 1, 8, .inl down)), (a_fell, .inl (X.E 1, 8, .inl fell))]) (isC := []) (isR := [0, 1, 2, 3, 4]) h hR (ct_X8_in (x0 := x1.toInt64) (x2 := 1) (x4 := 24) hv) (lw_S q1236 q1237 q80 q1238) (by decide +kernel) rfl ⟨rfl, rfl, rfl, rfl, by decide⟩ ⟨fle rfl, fle rfl, fle rfl, fle rfl, fle rfl⟩ rfl dX8_hours_6 (pin (perm := [0, 1, 2, 3, 4]) (ws' := [(a, .inr (8, [.ref a_w, .int isImage, .ref a_tape, .int taped, .ref a_lane, .ref a_size, .ref a_items, .ref a_up, .ref a_down, .int above, .int below, .ref a_fell, .int fallen, .int torn, .int at_, .int start, .int number, .ref a_read, .ref a_comesUp, .ref a_comesDown, .ref a_held])), (a_w, .inl (X.E 1, 1142, .inl w)), (a_up, .inl (X.E 1, 8, .inl up)), (a_down, .inl (X.E 1, 8, .inl down)), (a_fell, .inl (X.E 1, 8, .inl fell))]) (stk := [.int r_1]) rfl rfl rfl ?_)
  clear hv
  refine g_if_ne (tgt := 14) h dX8_hours_9 rfl hf (fun c2 hf => ?_) (fun c2 hf => ?_)
  · refine g_iconst (v := (-1)) h dX8_hours_12 kiconst_m1 ?_
    obtain ⟨rfl, rfl, rfl, rfl, rfl, rfl, rfl, rfl, rfl⟩ := sj9 hf
    exact g_iret h hF [0, 1, 2, 3, 4] rfl rfl ⟨rfl, rfl⟩ (fle rfl) (fle rfl) dX8_hours_13
  · refine g_iconst (v := 0) h dX8_hours_14 kiconst_0 ?_
    refine g_istore_n (lv' := [(2, .int 0), (0, .ref a), (1, .int x1)]) h dX8_hours_15 rfl (hL 2 (fle rfl)) rfl ?_
    refine g_iconst (v := 0) h dX8_hours_16 kiconst_0 ?_
    refine g_istore_n (lv' := [(3, .int 0), (2, .int 0), (0, .ref a), (1, .int x1)]) h dX8_hours_17 rfl (hL 3 (fle rfl)) rfl ?_
    refine G.lsub (lv' := [(0, .ref a), (1, .int x1), (2, .int 0), (3, .int 0)]) [2, 3, 1, 0] rfl ?_
    obtain ⟨x2_13, above_14, below_15, fallen_16, torn_17, w_18, up_19, down_20, fell_21, hv, hf⟩ := ob9 hf
    refine w_X8_hours_L18 (x1 := x1) (isImage := isImage) (taped := taped) (at_ := at_) (start := start) (number := number) h hR hL (fle rfl) (fle rfl) FU _ _ _ _ _ _ _ _ _ _ hv ?_
    · clear hv
      refine g_iload_n h 0 dX8_hours_45 rfl rfl ?_
      obtain ⟨rfl, rfl, rfl, rfl, rfl, rfl, rfl, rfl, rfl⟩ := sj9 hf
      exact g_iret h hF [0, 1, 2, 3, 4] rfl rfl ⟨rfl, rfl⟩ (fle rfl) (fle rfl) dX8_hours_46
set_option maxHeartbeats 4000000 in
set_option maxRecDepth 100000 in
theorem ct_X8_springsOnce {l : Launch} {D : va_G} {E : Ety} {a a_w a_tape a_lane a_size a_items a_up a_down a_fell a_read a_comesUp a_comesDown a_held : Nat} {isImage : Int32} {taped : Int32} {above : Int32} {below : Int32} {fallen : Int32} {torn : Int32} {at_ : Int32} {start : Int32} {number : Int32} {w : Nat → Int32} {up : Nat → Int32} {down : Nat → Int32} {fell : Nat → Int32} {o_above : Int32} {o_below : Int32} {o_fallen : Int32} {o_torn : Int32} {o_w : Nat → Int32} {o_up : Nat → Int32} {o_down : Nat → Int32} {o_fell : Nat → Int32} (hf : f_X8_springsOnce above below fallen torn w up down fell = some (o_above, o_below, o_fallen, o_torn, o_w, o_up, o_down, o_fell)) : Ct l yX8_springsOnce cX8_springsOnce 4 none 6 139 0 0 D E [.ref a] [(a, .inr (8, [.ref a_w, .int isImage, .ref a_tape, .int taped, .ref a_lane, .ref a_size, .ref a_items, .ref a_up, .ref a_down, .int above, .int below, .ref a_fell, .int fallen, .int torn, .int at_, .int start, .int number, .ref a_read, .ref a_comesUp, .ref a_comesDown, .ref a_held])), (a_w, .inl (E 1, 1142, .inl w)), (a_up, .inl (E 1, 8, .inl up)), (a_down, .inl (E 1, 8, .inl down)), (a_fell, .inl (E 1, 8, .inl fell))] (Pn none [(a, .inr (8, [.ref a_w, .int isImage, .ref a_tape, .int taped, .ref a_lane, .ref a_size, .ref a_items, .ref a_up, .ref a_down, .int o_above, .int o_below, .ref a_fell, .int o_fallen, .int o_torn, .int at_, .int start, .int number, .ref a_read, .ref a_comesUp, .ref a_comesDown, .ref a_held])), (a_w, .inl (E 1, 1142, .inl o_w)), (a_up, .inl (E 1, 8, .inl o_up)), (a_down, .inl (E 1, 8, .inl o_down)), (a_fell, .inl (E 1, 8, .inl o_fell))]) := by
  refine ct_of (own := RX8) (plainFor_of_name (by decide)) rfl (fle rfl) rfl ?_
  intro X hl hD hE hnL hXF h hR hF hnm
  subst hl; subst hD; subst hE
  have hL : ∀ i, i < 4 → i < X.nL := fun i hi => by rw [hnL]; exact hi
  unfold f_X8_springsOnce at hf
  refine g_aload_n h 0 dX8_springsOnce_0 rfl rfl ?_
  refine g_get (ci := 8) (v := .ref a_w) h in_X8 0 0 rfl rfl (fle rfl) rfl q1166 rfl dX8_springsOnce_1 ?_
  refine g_iconst (v := 3) h dX8_springsOnce_4 kiconst_3 ?_
  refine g_iaload h 1 rfl (by decide) dX8_springsOnce_5 ?_
  refine g_ldc h q1459 dX8_springsOnce_6 ?_
  refine g_imul h dX8_springsOnce_8 ?_
  refine g_sipush (v := 12345) h dX8_springsOnce_9 ksipush_12345 ?_
  refine g_iadd h dX8_springsOnce_12 ?_
  refine g_ldc h q1460 dX8_springsOnce_13 ?_
  refine g_iand h dX8_springsOnce_15 ?_
  refine nm_i (fun y_1 ey_1 => ?_)
  have hf := nm_at hf y_1 ey_1
  refine g_istore_n (lv' := [(1, .int y_1), (0, .ref a)]) h dX8_springsOnce_16 rfl (hL 1 (fle rfl)) rfl ?_
  refine g_aload_n h 1 dX8_springsOnce_17 rfl rfl ?_
  refine g_get (ci := 8) (v := .ref a_w) h in_X8 0 0 rfl rfl (fle rfl) rfl q1166 rfl dX8_springsOnce_18 ?_
  refine g_iconst (v := 3) h dX8_springsOnce_21 kiconst_3 ?_
  refine g_iload_n h 0 dX8_springsOnce_22 rfl rfl ?_
  refine g_iastore (ws' := [(a, .inr (8, [.ref a_w, .int isImage, .ref a_tape, .int taped, .ref a_lane, .ref a_size, .ref a_items, .ref a_up, .ref a_down, .int above, .int below, .ref a_fell, .int fallen, .int torn, .int at_, .int start, .int number, .ref a_read, .ref a_comesUp, .ref a_comesDown, .ref a_held])), (a_w, .inl (X.E 1, 1142, .inl (upd w (3 : Int32).toNatClampNeg y_1))), (a_up, .inl (X.E 1, 8, .inl up)), (a_down, .inl (X.E 1, 8, .inl down)), (a_fell, .inl (X.E 1, 8, .inl fell))]) h 1 rfl (by decide) rfl dX8_springsOnce_23 ?_
  refine g_aload_n h 1 dX8_springsOnce_24 rfl rfl ?_
  refine g_get (ci := 8) (v := .ref a_w) h in_X8 0 0 rfl rfl (fle rfl) rfl q1166 rfl dX8_springsOnce_25 ?_
  refine g_iconst (v := 0) h dX8_springsOnce_28 kiconst_0 ?_
  refine g_iaload h 1 rfl (by decide) dX8_springsOnce_29 ?_
  refine g_if_le (tgt := 107) h dX8_springsOnce_30 rfl hf (fun c2 hf => ?_) (fun c2 hf => ?_)
  · obtain ⟨rfl, rfl, rfl, rfl, rfl, rfl, rfl, rfl⟩ := sj8 hf
    exact g_vret h hF [0, 1, 2, 3, 4] rfl rfl ⟨rfl, rfl⟩ (fle rfl) (fle rfl) dX8_springsOnce_107
  · refine g_iload_n h 0 dX8_springsOnce_33 rfl rfl ?_
    refine g_ldc h q1461 dX8_springsOnce_34 ?_
    refine g_idiv h dX8_springsOnce_36 (by decide) ?_
    refine g_aload_n h 1 dX8_springsOnce_37 rfl rfl ?_
    refine g_get (ci := 8) (v := .ref a_w) h in_X8 0 0 rfl rfl (fle rfl) rfl q1166 rfl dX8_springsOnce_38 ?_
    refine g_iconst (v := 0) h dX8_springsOnce_41 kiconst_0 ?_
    refine g_iaload h 1 rfl (by decide) dX8_springsOnce_42 ?_
    obtain ⟨g3, hf⟩ := gn hf
    refine g_irem h dX8_springsOnce_43 g3 ?_
    refine nm_i (fun y_4 ey_4 => ?_)
    have hf := nm_at hf y_4 ey_4
    refine g_istore_n (lv' := [(2, .int y_4), (1, .int y_1), (0, .ref a)]) h dX8_springsOnce_44 rfl (hL 2 (fle rfl)) rfl ?_
    refine g_iload_n h 1 dX8_springsOnce_45 rfl rfl ?_
    refine g_bipush (v := 9) h dX8_springsOnce_46 kbipush_9 ?_
    refine g_ishr h dX8_springsOnce_48 ?_
    refine g_iconst (v := 1) h dX8_springsOnce_49 kiconst_1 ?_
    refine g_iand h dX8_springsOnce_50 ?_
    refine g_iconst (v := 1) h dX8_springsOnce_51 kiconst_1 ?_
    obtain ⟨z_6, hw, hf⟩ := ob1 hf
    have K52 : G X [(a, .inr (8, [.ref a_w, .int isImage, .ref a_tape, .int taped, .ref a_lane, .ref a_size, .ref a_items, .ref a_up, .ref a_down, .int above, .int below, .ref a_fell, .int fallen, .int torn, .int at_, .int start, .int number, .ref a_read, .ref a_comesUp, .ref a_comesDown, .ref a_held])), (a_w, .inl (X.E 1, 1142, .inl (upd w (3 : Int32).toNatClampNeg y_1))), (a_up, .inl (X.E 1, 8, .inl up)), (a_down, .inl (X.E 1, 8, .inl down)), (a_fell, .inl (X.E 1, 8, .inl fell))] [(0, .ref a), (2, .int y_4)] 0 0 60 [.int z_6] := by
      clear hw
      refine g_istore_n (lv' := [(3, .int z_6), (0, .ref a), (2, .int y_4)]) h dX8_springsOnce_60 rfl (hL 3 (fle rfl)) rfl ?_
      refine g_aload_n h 1 dX8_springsOnce_61 rfl rfl ?_
      refine g_iconst (v := 0) h dX8_springsOnce_62 kiconst_0 ?_
      refine g_iload_n h 2 dX8_springsOnce_63 rfl rfl ?_
      obtain ⟨r_7, hv, hf⟩ := ob1 hf
      refine g_callV (ci := 8) (q0 := 0) (n := 2) (As := [.int 0, .int y_4]) (st := []) (wr := [(a_up, .inl (X.E 1, 8, .inl up)), (a_down, .inl (X.E 1, 8, .inl down)), (a_fell, .inl (X.E 1, 8, .inl fell))]) (isC := [0, 1]) (isR := [2, 3, 4]) h hR (ct_X8_holds (a := a) (a_w := a_w) (a_tape := a_tape) (a_lane := a_lane) (a_size := a_size) (a_items := a_items) (a_up := a_up) (a_down := a_down) (a_fell := a_fell) (a_read := a_read) (a_comesUp := a_comesUp) (a_comesDown := a_comesDown) (a_held := a_held) (x1 := 0) (x2 := y_4) (isImage := isImage) (taped := taped) (above := above) (below := below) (fallen := fallen) (torn := torn) (at_ := at_) (start := start) (number := number) (w := upd w (3 : Int32).toNatClampNeg y_1) hv) rfl rfl (lw_V q1284 q1286 qs37 q80 q1287) (by decide +kernel) rfl ⟨rfl, rfl, rfl, rfl, by decide⟩ ⟨fle rfl, fle rfl, fle rfl, fle rfl, fle rfl⟩ rfl dX8_springsOnce_64 (pin (perm := [3, 4, 0, 1, 2]) (ws' := [(a, .inr (8, [.ref a_w, .int isImage, .ref a_tape, .int taped, .ref a_lane, .ref a_size, .ref a_items, .ref a_up, .ref a_down, .int above, .int below, .ref a_fell, .int fallen, .int torn, .int at_, .int start, .int number, .ref a_read, .ref a_comesUp, .ref a_comesDown, .ref a_held])), (a_w, .inl (X.E 1, 1142, .inl (upd w (3 : Int32).toNatClampNeg y_1))), (a_up, .inl (X.E 1, 8, .inl up)), (a_down, .inl (X.E 1, 8, .inl down)), (a_fell, .inl (X.E 1, 8, .inl fell))]) (stk := [.int r_7]) rfl rfl rfl ?_)
      clear hv
      refine g_if_ne (tgt := 79) h dX8_springsOnce_67 rfl hf (fun c8 hf => ?_) (fun c8 hf => ?_)
      · refine g_aload_n h 1 dX8_springsOnce_70 rfl rfl ?_
        refine g_iconst (v := 0) h dX8_springsOnce_71 kiconst_0 ?_
        refine g_iload_n h 2 dX8_springsOnce_72 rfl rfl ?_
        obtain ⟨above_9, below_10, w_11, up_12, down_13, hv, hf⟩ := ob5 hf
        refine g_callV (ci := 8) (q0 := 0) (n := 2) (As := [.int 0, .int y_4]) (st := []) (wr := [(a_fell, .inl (X.E 1, 8, .inl fell))]) (isC := [0, 1, 2, 3]) (isR := [4]) h hR (ct_X8_takesHold (a := a) (a_w := a_w) (a_tape := a_tape) (a_lane := a_lane) (a_size := a_size) (a_items := a_items) (a_up := a_up) (a_down := a_down) (a_fell := a_fell) (a_read := a_read) (a_comesUp := a_comesUp) (a_comesDown := a_comesDown) (a_held := a_held) (x1 := 0) (x2 := y_4) (isImage := isImage) (taped := taped) (above := above) (below := below) (fallen := fallen) (torn := torn) (at_ := at_) (start := start) (number := number) (w := upd w (3 : Int32).toNatClampNeg y_1) (up := up) (down := down) hv) rfl rfl (lw_V q1428 q1430 qs57 q80 q1431) (by decide +kernel) rfl ⟨rfl, rfl, rfl, rfl, by decide⟩ ⟨fle rfl, fle rfl, fle rfl, fle rfl, fle rfl⟩ rfl dX8_springsOnce_73 (pin (perm := [1, 2, 3, 4, 0]) (ws' := [(a, .inr (8, [.ref a_w, .int isImage, .ref a_tape, .int taped, .ref a_lane, .ref a_size, .ref a_items, .ref a_up, .ref a_down, .int above_9, .int below_10, .ref a_fell, .int fallen, .int torn, .int at_, .int start, .int number, .ref a_read, .ref a_comesUp, .ref a_comesDown, .ref a_held])), (a_w, .inl (X.E 1, 1142, .inl w_11)), (a_up, .inl (X.E 1, 8, .inl up_12)), (a_down, .inl (X.E 1, 8, .inl down_13)), (a_fell, .inl (X.E 1, 8, .inl fell))]) (stk := []) rfl rfl rfl ?_)
        clear hv
        refine g_goto (tgt := 102) h dX8_springsOnce_76 rfl ?_
        refine g_aload_n h 1 dX8_springsOnce_102 rfl rfl ?_
        refine g_iconst (v := 0) h dX8_springsOnce_103 kiconst_0 ?_
        obtain ⟨above_14, below_15, fallen_16, torn_17, w_18, up_19, down_20, fell_21, hv, hf⟩ := ob8 hf
        refine g_callV (ci := 8) (q0 := 0) (n := 1) (As := [.int 0]) (st := []) (wr := []) (isC := [0, 1, 2, 3, 4]) (isR := []) h hR (ct_X8_settles (a := a) (a_w := a_w) (a_tape := a_tape) (a_lane := a_lane) (a_size := a_size) (a_items := a_items) (a_up := a_up) (a_down := a_down) (a_fell := a_fell) (a_read := a_read) (a_comesUp := a_comesUp) (a_comesDown := a_comesDown) (a_held := a_held) (x1 := 0) (isImage := isImage) (taped := taped) (above := above_9) (below := below_10) (fallen := fallen) (torn := torn) (at_ := at_) (start := start) (number := number) (w := w_11) (up := up_12) (down := down_13) (fell := fell) hv) rfl rfl (lw_V q1276 q1278 qs35 q80 q1279) (by decide +kernel) rfl ⟨rfl, rfl, rfl, rfl, by decide⟩ ⟨fle rfl, fle rfl, fle rfl, fle rfl, fle rfl⟩ rfl dX8_springsOnce_104 (pin (perm := [0, 1, 2, 3, 4]) (ws' := [(a, .inr (8, [.ref a_w, .int isImage, .ref a_tape, .int taped, .ref a_lane, .ref a_size, .ref a_items, .ref a_up, .ref a_down, .int above_14, .int below_15, .ref a_fell, .int fallen_16, .int torn_17, .int at_, .int start, .int number, .ref a_read, .ref a_comesUp, .ref a_comesDown, .ref a_held])), (a_w, .inl (X.E 1, 1142, .inl w_18)), (a_up, .inl (X.E 1, 8, .inl up_19)), (a_down, .inl (X.E 1, 8, .inl down_20)), (a_fell, .inl (X.E 1, 8, .inl fell_21))]) (stk := []) rfl rfl rfl ?_)
        clear hv
        obtain ⟨rfl, rfl, rfl, rfl, rfl, rfl, rfl, rfl⟩ := sj8 hf
        exact g_vret h hF [0, 1, 2, 3, 4] rfl rfl ⟨rfl, rfl⟩ (fle rfl) (fle rfl) dX8_springsOnce_107
      · refine g_aload_n h 1 dX8_springsOnce_79 rfl rfl ?_
        refine g_iconst (v := 0) h dX8_springsOnce_80 kiconst_0 ?_
        refine g_iload_n h 2 dX8_springsOnce_81 rfl rfl ?_
        refine g_iload_n h 0 dX8_springsOnce_82 rfl rfl ?_
        obtain ⟨r_22, hv, hf⟩ := ob1 hf
        refine g_callV (ci := 8) (q0 := 0) (n := 3) (As := [.int 0, .int y_4, .int z_6]) (st := []) (wr := [(a_up, .inl (X.E 1, 8, .inl up)), (a_down, .inl (X.E 1, 8, .inl down)), (a_fell, .inl (X.E 1, 8, .inl fell))]) (isC := [0, 1]) (isR := [2, 3, 4]) h hR (ct_X8_mayGo (a := a) (a_w := a_w) (a_tape := a_tape) (a_lane := a_lane) (a_size := a_size) (a_items := a_items) (a_up := a_up) (a_down := a_down) (a_fell := a_fell) (a_read := a_read) (a_comesUp := a_comesUp) (a_comesDown := a_comesDown) (a_held := a_held) (x1 := 0) (x2 := y_4) (x3 := z_6) (isImage := isImage) (taped := taped) (above := above) (below := below) (fallen := fallen) (torn := torn) (at_ := at_) (start := start) (number := number) (w := upd w (3 : Int32).toNatClampNeg y_1) hv) rfl rfl (lw_V q1412 q1414 qs55 q80 q1415) (by decide +kernel) rfl ⟨rfl, rfl, rfl, rfl, by decide⟩ ⟨fle rfl, fle rfl, fle rfl, fle rfl, fle rfl⟩ rfl dX8_springsOnce_83 (pin (perm := [3, 4, 0, 1, 2]) (ws' := [(a, .inr (8, [.ref a_w, .int isImage, .ref a_tape, .int taped, .ref a_lane, .ref a_size, .ref a_items, .ref a_up, .ref a_down, .int above, .int below, .ref a_fell, .int fallen, .int torn, .int at_, .int start, .int number, .ref a_read, .ref a_comesUp, .ref a_comesDown, .ref a_held])), (a_w, .inl (X.E 1, 1142, .inl (upd w (3 : Int32).toNatClampNeg y_1))), (a_up, .inl (X.E 1, 8, .inl up)), (a_down, .inl (X.E 1, 8, .inl down)), (a_fell, .inl (X.E 1, 8, .inl fell))]) (stk := [.int r_22]) rfl rfl rfl ?_)
        clear hv
        refine g_if_eq (tgt := 102) h dX8_springsOnce_86 rfl hf (fun c23 hf => ?_) (fun c23 hf => ?_)
        · refine g_aload_n h 1 dX8_springsOnce_102 rfl rfl ?_
          refine g_iconst (v := 0) h dX8_springsOnce_103 kiconst_0 ?_
          obtain ⟨above_24, below_25, fallen_26, torn_27, w_28, up_29, down_30, fell_31, hv, hf⟩ := ob8 hf
          refine g_callV (ci := 8) (q0 := 0) (n := 1) (As := [.int 0]) (st := []) (wr := []) (isC := [0, 1, 2, 3, 4]) (isR := []) h hR (ct_X8_settles (a := a) (a_w := a_w) (a_tape := a_tape) (a_lane := a_lane) (a_size := a_size) (a_items := a_items) (a_up := a_up) (a_down := a_down) (a_fell := a_fell) (a_read := a_read) (a_comesUp := a_comesUp) (a_comesDown := a_comesDown) (a_held := a_held) (x1 := 0) (isImage := isImage) (taped := taped) (above := above) (below := below) (fallen := fallen) (torn := torn) (at_ := at_) (start := start) (number := number) (w := upd w (3 : Int32).toNatClampNeg y_1) (up := up) (down := down) (fell := fell) hv) rfl rfl (lw_V q1276 q1278 qs35 q80 q1279) (by decide +kernel) rfl ⟨rfl, rfl, rfl, rfl, by decide⟩ ⟨fle rfl, fle rfl, fle rfl, fle rfl, fle rfl⟩ rfl dX8_springsOnce_104 (pin (perm := [0, 1, 2, 3, 4]) (ws' := [(a, .inr (8, [.ref a_w, .int isImage, .ref a_tape, .int taped, .ref a_lane, .ref a_size, .ref a_items, .ref a_up, .ref a_down, .int above_24, .int below_25, .ref a_fell, .int fallen_26, .int torn_27, .int at_, .int start, .int number, .ref a_read, .ref a_comesUp, .ref a_comesDown, .ref a_held])), (a_w, .inl (X.E 1, 1142, .inl w_28)), (a_up, .inl (X.E 1, 8, .inl up_29)), (a_down, .inl (X.E 1, 8, .inl down_30)), (a_fell, .inl (X.E 1, 8, .inl fell_31))]) (stk := []) rfl rfl rfl ?_)
          clear hv
          obtain ⟨rfl, rfl, rfl, rfl, rfl, rfl, rfl, rfl⟩ := sj8 hf
          exact g_vret h hF [0, 1, 2, 3, 4] rfl rfl ⟨rfl, rfl⟩ (fle rfl) (fle rfl) dX8_springsOnce_107
        · refine g_aload_n h 1 dX8_springsOnce_89 rfl rfl ?_
          refine g_get (ci := 8) (v := .ref a_w) h in_X8 0 0 rfl rfl (fle rfl) rfl q1166 rfl dX8_springsOnce_90 ?_
          refine g_bipush (v := 28) h dX8_springsOnce_93 kbipush_28 ?_
          refine g_iload_n h 2 dX8_springsOnce_95 rfl rfl ?_
          refine g_iadd h dX8_springsOnce_96 ?_
          refine g_dup2 h dX8_springsOnce_97 rfl rfl ?_
          obtain ⟨g32, hf⟩ := gn hf
          refine g_iaload h 1 rfl g32 dX8_springsOnce_98 ?_
          refine g_iload_n h 0 dX8_springsOnce_99 rfl rfl ?_
          refine g_iadd h dX8_springsOnce_100 ?_
          refine g_iastore (ws' := [(a, .inr (8, [.ref a_w, .int isImage, .ref a_tape, .int taped, .ref a_lane, .ref a_size, .ref a_items, .ref a_up, .ref a_down, .int above, .int below, .ref a_fell, .int fallen, .int torn, .int at_, .int start, .int number, .ref a_read, .ref a_comesUp, .ref a_comesDown, .ref a_held])), (a_w, .inl (X.E 1, 1142, .inl (upd (upd w (3 : Int32).toNatClampNeg y_1) (28 + y_4).toNatClampNeg (((upd w (3 : Int32).toNatClampNeg y_1) (28 + y_4).toNatClampNeg) + z_6)))), (a_up, .inl (X.E 1, 8, .inl up)), (a_down, .inl (X.E 1, 8, .inl down)), (a_fell, .inl (X.E 1, 8, .inl fell))]) h 1 rfl g32 rfl dX8_springsOnce_101 ?_
          refine g_aload_n h 1 dX8_springsOnce_102 rfl rfl ?_
          refine g_iconst (v := 0) h dX8_springsOnce_103 kiconst_0 ?_
          obtain ⟨above_33, below_34, fallen_35, torn_36, w_37, up_38, down_39, fell_40, hv, hf⟩ := ob8 hf
          refine g_callV (ci := 8) (q0 := 0) (n := 1) (As := [.int 0]) (st := []) (wr := []) (isC := [0, 1, 2, 3, 4]) (isR := []) h hR (ct_X8_settles (a := a) (a_w := a_w) (a_tape := a_tape) (a_lane := a_lane) (a_size := a_size) (a_items := a_items) (a_up := a_up) (a_down := a_down) (a_fell := a_fell) (a_read := a_read) (a_comesUp := a_comesUp) (a_comesDown := a_comesDown) (a_held := a_held) (x1 := 0) (isImage := isImage) (taped := taped) (above := above) (below := below) (fallen := fallen) (torn := torn) (at_ := at_) (start := start) (number := number) (w := upd (upd w (3 : Int32).toNatClampNeg y_1) (28 + y_4).toNatClampNeg (((upd w (3 : Int32).toNatClampNeg y_1) (28 + y_4).toNatClampNeg) + z_6)) (up := up) (down := down) (fell := fell) hv) rfl rfl (lw_V q1276 q1278 qs35 q80 q1279) (by decide +kernel) rfl ⟨rfl, rfl, rfl, rfl, by decide⟩ ⟨fle rfl, fle rfl, fle rfl, fle rfl, fle rfl⟩ rfl dX8_springsOnce_104 (pin (perm := [0, 1, 2, 3, 4]) (ws' := [(a, .inr (8, [.ref a_w, .int isImage, .ref a_tape, .int taped, .ref a_lane, .ref a_size, .ref a_items, .ref a_up, .ref a_down, .int above_33, .int below_34, .ref a_fell, .int fallen_35, .int torn_36, .int at_, .int start, .int number, .ref a_read, .ref a_comesUp, .ref a_comesDown, .ref a_held])), (a_w, .inl (X.E 1, 1142, .inl w_37)), (a_up, .inl (X.E 1, 8, .inl up_38)), (a_down, .inl (X.E 1, 8, .inl down_39)), (a_fell, .inl (X.E 1, 8, .inl fell_40))]) (stk := []) rfl rfl rfl ?_)
          clear hv
          obtain ⟨rfl, rfl, rfl, rfl, rfl, rfl, rfl, rfl⟩ := sj8 hf
          exact g_vret h hF [0, 1, 2, 3, 4] rfl rfl ⟨rfl, rfl⟩ (fle rfl) (fle rfl) dX8_springsOnce_107
    clear hf
    have hf := hw
    clear hw
    refine g_icmp_ne (tgt := 59) h dX8_springsOnce_52 rfl hf (fun c5 hf => ?_) (fun c5 hf => ?_)
    · refine g_iconst (v := 1) h dX8_springsOnce_55 kiconst_1 ?_
      refine g_goto (tgt := 60) h dX8_springsOnce_56 rfl ?_
      obtain rfl := sj1 hf
      exact G.lsub [2, 0] rfl K52
    · refine g_iconst (v := (-1)) h dX8_springsOnce_59 kiconst_m1 ?_
      obtain rfl := sj1 hf
      exact G.lsub [2, 0] rfl K52
set_option maxHeartbeats 4000000 in
set_option maxRecDepth 100000 in
theorem w_X8_ones_L4 {X : Cx}  {x0 : Int32} {ce sl : Nat} (h : Ok X cX8_ones RX8) (hR : Rm X 0 0 0 0) (hL : ∀ i, i < 3 → i < X.nL) (hce : ce ≤ 0) (hsl : sl ≤ 0) : ∀ (n0 : Nat) (x1 : Int32) (x2 : Int32) {o_x1 : Int32}, f_X8_ones_L4 x0 n0 x1 x2 = some o_x1 → (G X [] [(1, .int o_x1)] ce sl 24 []) → G X [] [(0, .int x0), (1, .int x1), (2, .int x2)] ce sl 4 [] := by
  intro n0
  induction n0 with
  | zero => intro x1 x2 o_x1 hf; exact nomatch (show (none : Option _) = some _ from hf)
  | succ n0 ih =>
    intro x1 x2 o_x1 hf k0
    replace hf : t_X8_ones_L4 x0 (f_X8_ones_L4 x0 n0) x1 x2 = some o_x1 := hf
    unfold t_X8_ones_L4 at hf
    refine g_iload_n h 2 dX8_ones_4 rfl rfl ?_
    refine g_bipush (v := 8) h dX8_ones_5 kbipush_8 ?_
    refine g_icmp_ge (tgt := 24) h dX8_ones_7 rfl hf (fun c1 hf => ?_) (fun c1 hf => ?_)
    · obtain rfl := sj1 hf
      exact G.lsub [1] rfl k0
    · refine g_iload_n h 1 dX8_ones_10 rfl rfl ?_
      refine g_iload_n h 0 dX8_ones_11 rfl rfl ?_
      refine g_iload_n h 2 dX8_ones_12 rfl rfl ?_
      refine g_ishr h dX8_ones_13 ?_
      refine g_iconst (v := 1) h dX8_ones_14 kiconst_1 ?_
      refine g_iand h dX8_ones_15 ?_
      refine g_iadd h dX8_ones_16 ?_
      refine nm_i (fun y_2 ey_2 => ?_)
      have hf := nm_at hf y_2 ey_2
      refine g_istore_n (lv' := [(1, .int y_2), (0, .int x0), (2, .int x2)]) h dX8_ones_17 rfl (hL 1 (fle rfl)) rfl ?_
      refine g_iinc (j := 2) (v := (x2 + 1)) (lv' := [(2, .int (x2 + 1)), (1, .int y_2), (0, .int x0)]) h dX8_ones_18 rfl (kinc_1 _) (hL 2 (fle rfl)) rfl ?_
      refine g_goto (tgt := 4) h dX8_ones_21 rfl ?_
      exact G.lsub [2, 1, 0] rfl (ih _ _ hf k0)
set_option maxHeartbeats 4000000 in
set_option maxRecDepth 100000 in
theorem ct_X8_ones {l : Launch} {D : va_G} {E : Ety}  {x0 : Int32} {r_ : Int32} (hf : f_X8_ones x0 = some r_) : Ct l yX8_ones cX8_ones 3 (some .int) 0 0 0 0 D E [.int x0] [] (Pn (some (.int r_)) []) := by
  refine ct_of (own := RX8) (plainFor_of_name (by decide)) rfl (fle rfl) rfl ?_
  intro X hl hD hE hnL hXF h hR hF hnm
  subst hl; subst hD; subst hE
  have hL : ∀ i, i < 3 → i < X.nL := fun i hi => by rw [hnL]; exact hi
  unfold f_X8_ones at hf
  refine g_iconst (v := 0) h dX8_ones_0 kiconst_0 ?_
  refine g_istore_n (lv' := [(1, .int 0), (0, .int x0)]) h dX8_ones_1 rfl (hL 1 (fle rfl)) rfl ?_
  refine g_iconst (v := 0) h dX8_ones_2 kiconst_0 ?_
  refine g_istore_n (lv' := [(2, .int 0), (1, .int 0), (0, .int x0)]) h dX8_ones_3 rfl (hL 2 (fle rfl)) rfl ?_
  refine G.lsub (lv' := [(0, .int x0), (1, .int 0), (2, .int 0)]) [2, 1, 0] rfl ?_
  obtain ⟨x1_3, hv, hf⟩ := ob1 hf
  refine w_X8_ones_L4 (x0 := x0) h hR hL (fle rfl) (fle rfl) FU _ _ hv ?_
  · clear hv
    refine g_iload_n h 0 dX8_ones_24 rfl rfl ?_
    obtain rfl := sj1 hf
    exact g_iret h hF [] rfl rfl ⟨rfl, rfl⟩ (fle rfl) (fle rfl) dX8_ones_25
set_option maxHeartbeats 4000000 in
set_option maxRecDepth 100000 in
theorem w_X8_springs_L16 {X : Cx} {a a_comesDown a_comesUp a_down a_fell a_held a_items a_lane a_read a_size a_tape a_up a_w : Nat} {x1 : Int32} {isImage : Int32} {taped : Int32} {at_ : Int32} {start : Int32} {number : Int32} {ce sl : Nat} (h : Ok X cX8_springs RX8) (hR : Rm X 7 162 0 0) (hL : ∀ i, i < 3 → i < X.nL) (hce : ce ≤ 0) (hsl : sl ≤ 0) : ∀ (n0 : Nat) (x2 : Int32) (above : Int32) (below : Int32) (fallen : Int32) (torn : Int32) (w : Nat → Int32) (up : Nat → Int32) (down : Nat → Int32) (fell : Nat → Int32) {o_above : Int32} {o_below : Int32} {o_fallen : Int32} {o_torn : Int32} {o_w : Nat → Int32} {o_up : Nat → Int32} {o_down : Nat → Int32} {o_fell : Nat → Int32}, f_X8_springs_L16 x1 n0 x2 above below fallen torn w up down fell = some (o_above, o_below, o_fallen, o_torn, o_w, o_up, o_down, o_fell) → (G X [(a, .inr (8, [.ref a_w, .int isImage, .ref a_tape, .int taped, .ref a_lane, .ref a_size, .ref a_items, .ref a_up, .ref a_down, .int o_above, .int o_below, .ref a_fell, .int o_fallen, .int o_torn, .int at_, .int start, .int number, .ref a_read, .ref a_comesUp, .ref a_comesDown, .ref a_held])), (a_w, .inl (X.E 1, 1142, .inl o_w)), (a_up, .inl (X.E 1, 8, .inl o_up)), (a_down, .inl (X.E 1, 8, .inl o_down)), (a_fell, .inl (X.E 1, 8, .inl o_fell))] [(0, .ref a)] ce sl 35 []) → G X [(a, .inr (8, [.ref a_w, .int isImage, .ref a_tape, .int taped, .ref a_lane, .ref a_size, .ref a_items, .ref a_up, .ref a_down, .int above, .int below, .ref a_fell, .int fallen, .int torn, .int at_, .int start, .int number, .ref a_read, .ref a_comesUp, .ref a_comesDown, .ref a_held])), (a_w, .inl (X.E 1, 1142, .inl w)), (a_up, .inl (X.E 1, 8, .inl up)), (a_down, .inl (X.E 1, 8, .inl down)), (a_fell, .inl (X.E 1, 8, .inl fell))] [(0, .ref a), (1, .int x1), (2, .int x2)] ce sl 16 [] := by
  intro n0
  induction n0 with
  | zero => intro x2 above below fallen torn w up down fell o_above o_below o_fallen o_torn o_w o_up o_down o_fell hf; exact nomatch (show (none : Option _) = some _ from hf)
  | succ n0 ih =>
    intro x2 above below fallen torn w up down fell o_above o_below o_fallen o_torn o_w o_up o_down o_fell hf k0
    replace hf : t_X8_springs_L16 x1 (f_X8_springs_L16 x1 n0) x2 above below fallen torn w up down fell = some (o_above, o_below, o_fallen, o_torn, o_w, o_up, o_down, o_fell) := hf
    unfold t_X8_springs_L16 at hf
    refine g_iload_n h 2 dX8_springs_16 rfl rfl ?_
    refine g_iload_n h 1 dX8_springs_17 rfl rfl ?_
    refine g_icmp_ge (tgt := 35) h dX8_springs_18 rfl hf (fun c3 hf => ?_) (fun c3 hf => ?_)
    · obtain ⟨rfl, rfl, rfl, rfl, rfl, rfl, rfl, rfl⟩ := sj8 hf
      exact G.lsub [0] rfl k0
    · refine g_aload_n h 0 dX8_springs_21 rfl rfl ?_
      obtain ⟨w_4, hv, hf⟩ := ob1 hf
      refine g_callV (ci := 8) (q0 := 0) (n := 0) (As := []) (st := []) (wr := [(a_up, .inl (X.E 1, 8, .inl up)), (a_down, .inl (X.E 1, 8, .inl down)), (a_fell, .inl (X.E 1, 8, .inl fell))]) (isC := [0, 1]) (isR := [2, 3, 4]) h hR (ct_X8_minds (a := a) (a_w := a_w) (a_tape := a_tape) (a_lane := a_lane) (a_size := a_size) (a_items := a_items) (a_up := a_up) (a_down := a_down) (a_fell := a_fell) (a_read := a_read) (a_comesUp := a_comesUp) (a_comesDown := a_comesDown) (a_held := a_held) (isImage := isImage) (taped := taped) (above := above) (below := below) (fallen := fallen) (torn := torn) (at_ := at_) (start := start) (number := number) (w := w) hv) rfl rfl (lw_V q1416 q1418 qs56 q80 q1419) (by decide +kernel) rfl ⟨rfl, rfl, rfl, rfl, by decide⟩ ⟨hce, hsl, fle rfl, fle rfl, fle rfl⟩ rfl dX8_springs_22 (pin (perm := [3, 4, 0, 1, 2]) (ws' := [(a, .inr (8, [.ref a_w, .int isImage, .ref a_tape, .int taped, .ref a_lane, .ref a_size, .ref a_items, .ref a_up, .ref a_down, .int above, .int below, .ref a_fell, .int fallen, .int torn, .int at_, .int start, .int number, .ref a_read, .ref a_comesUp, .ref a_comesDown, .ref a_held])), (a_w, .inl (X.E 1, 1142, .inl w_4)), (a_up, .inl (X.E 1, 8, .inl up)), (a_down, .inl (X.E 1, 8, .inl down)), (a_fell, .inl (X.E 1, 8, .inl fell))]) (stk := []) rfl rfl rfl ?_)
      clear hv
      refine g_aload_n h 0 dX8_springs_25 rfl rfl ?_
      obtain ⟨above_5, below_6, fallen_7, torn_8, w_9, up_10, down_11, fell_12, hv, hf⟩ := ob8 hf
      refine g_callV (ci := 8) (q0 := 0) (n := 0) (As := []) (st := []) (wr := []) (isC := [0, 1, 2, 3, 4]) (isR := []) h hR (ct_X8_springsOnce (a := a) (a_w := a_w) (a_tape := a_tape) (a_lane := a_lane) (a_size := a_size) (a_items := a_items) (a_up := a_up) (a_down := a_down) (a_fell := a_fell) (a_read := a_read) (a_comesUp := a_comesUp) (a_comesDown := a_comesDown) (a_held := a_held) (isImage := isImage) (taped := taped) (above := above) (below := below) (fallen := fallen) (torn := torn) (at_ := at_) (start := start) (number := number) (w := w_4) (up := up) (down := down) (fell := fell) hv) rfl rfl (lw_V q1455 q1457 qs59 q80 q1458) (by decide +kernel) rfl ⟨rfl, rfl, rfl, rfl, by decide⟩ ⟨hce, hsl, fle rfl, fle rfl, fle rfl⟩ rfl dX8_springs_26 (pin (perm := [0, 1, 2, 3, 4]) (ws' := [(a, .inr (8, [.ref a_w, .int isImage, .ref a_tape, .int taped, .ref a_lane, .ref a_size, .ref a_items, .ref a_up, .ref a_down, .int above_5, .int below_6, .ref a_fell, .int fallen_7, .int torn_8, .int at_, .int start, .int number, .ref a_read, .ref a_comesUp, .ref a_comesDown, .ref a_held])), (a_w, .inl (X.E 1, 1142, .inl w_9)), (a_up, .inl (X.E 1, 8, .inl up_10)), (a_down, .inl (X.E 1, 8, .inl down_11)), (a_fell, .inl (X.E 1, 8, .inl fell_12))]) (stk := []) rfl rfl rfl ?_)
      clear hv
      refine g_iinc (j := 2) (v := (x2 + 1)) (lv' := [(2, .int (x2 + 1)), (0, .ref a), (1, .int x1)]) h dX8_springs_29 rfl (kinc_1 _) (hL 2 (fle rfl)) rfl ?_
      refine g_goto (tgt := 16) h dX8_springs_32 rfl ?_
      exact G.lsub [1, 2, 0] rfl (ih _ _ _ _ _ _ _ _ _ hf k0)
set_option maxHeartbeats 4000000 in
set_option maxRecDepth 100000 in
theorem ct_X8_springs {l : Launch} {D : va_G} {E : Ety} {a a_w a_tape a_lane a_size a_items a_up a_down a_fell a_read a_comesUp a_comesDown a_held : Nat} {x1 : Int32} {isImage : Int32} {taped : Int32} {above : Int32} {below : Int32} {fallen : Int32} {torn : Int32} {at_ : Int32} {start : Int32} {number : Int32} {w : Nat → Int32} {up : Nat → Int32} {down : Nat → Int32} {fell : Nat → Int32} {r_ : Int32} {o_above : Int32} {o_below : Int32} {o_fallen : Int32} {o_torn : Int32} {o_w : Nat → Int32} {o_up : Nat → Int32} {o_down : Nat → Int32} {o_fell : Nat → Int32} (hf : f_X8_springs x1 above below fallen torn w up down fell = some (r_, o_above, o_below, o_fallen, o_torn, o_w, o_up, o_down, o_fell)) : Ct l yX8_springs cX8_springs 3 (some .int) 7 162 0 0 D E [.ref a, .int x1] [(a, .inr (8, [.ref a_w, .int isImage, .ref a_tape, .int taped, .ref a_lane, .ref a_size, .ref a_items, .ref a_up, .ref a_down, .int above, .int below, .ref a_fell, .int fallen, .int torn, .int at_, .int start, .int number, .ref a_read, .ref a_comesUp, .ref a_comesDown, .ref a_held])), (a_w, .inl (E 1, 1142, .inl w)), (a_up, .inl (E 1, 8, .inl up)), (a_down, .inl (E 1, 8, .inl down)), (a_fell, .inl (E 1, 8, .inl fell))] (Pn (some (.int r_)) [(a, .inr (8, [.ref a_w, .int isImage, .ref a_tape, .int taped, .ref a_lane, .ref a_size, .ref a_items, .ref a_up, .ref a_down, .int o_above, .int o_below, .ref a_fell, .int o_fallen, .int o_torn, .int at_, .int start, .int number, .ref a_read, .ref a_comesUp, .ref a_comesDown, .ref a_held])), (a_w, .inl (E 1, 1142, .inl o_w)), (a_up, .inl (E 1, 8, .inl o_up)), (a_down, .inl (E 1, 8, .inl o_down)), (a_fell, .inl (E 1, 8, .inl o_fell))]) := by
  refine ct_of (own := RX8) (plainFor_of_name (by decide)) rfl (fle rfl) rfl ?_
  intro X hl hD hE hnL hXF h hR hF hnm
  subst hl; subst hD; subst hE
  have hL : ∀ i, i < 3 → i < X.nL := fun i hi => by rw [hnL]; exact hi
  unfold f_X8_springs at hf
  refine g_iload_n h 1 dX8_springs_0 rfl rfl ?_
  refine g_i2l h dX8_springs_1 ?_
  refine g_lconst (v := 1) h dX8_springs_2 rfl ?_
  refine g_ldc2 h q1454 dX8_springs_3 ?_
  obtain ⟨r_1, hv, hf⟩ := ob1 hf
  refine g_callS (n := 3) (As := [.long x1.toInt64, .long 1, .long 40]) (st := []) (wr := [(a, .inr (8, [.ref a_w, .int isImage, .ref a_tape, .int taped, .ref a_lane, .ref a_size, .ref a_items, .ref a_up, .ref a_down, .int above, .int below, .ref a_fell, .int fallen, .int torn, .int at_, .int start, .int number, .ref a_read, .ref a_comesUp, .ref a_comesDown, .ref a_held])), (a_w, .inl (X.E 1, 1142, .inl w)), (a_up, .inl (X.E 1, 8, .inl up)), (a_down, .inl (X.E 1, 8, .inl down)), (a_fell, .inl (X.E 1, 8, .inl fell))]) (isC := []) (isR := [0, 1, 2, 3, 4]) h hR (ct_X8_in (x0 := x1.toInt64) (x2 := 1) (x4 := 40) hv) (lw_S q1236 q1237 q80 q1238) (by decide +kernel) rfl ⟨rfl, rfl, rfl, rfl, by decide⟩ ⟨fle rfl, fle rfl, fle rfl, fle rfl, fle rfl⟩ rfl dX8_springs_6 (pin (perm := [0, 1, 2, 3, 4]) (ws' := [(a, .inr (8, [.ref a_w, .int isImage, .ref a_tape, .int taped, .ref a_lane, .ref a_size, .ref a_items, .ref a_up, .ref a_down, .int above, .int below, .ref a_fell, .int fallen, .int torn, .int at_, .int start, .int number, .ref a_read, .ref a_comesUp, .ref a_comesDown, .ref a_held])), (a_w, .inl (X.E 1, 1142, .inl w)), (a_up, .inl (X.E 1, 8, .inl up)), (a_down, .inl (X.E 1, 8, .inl down)), (a_fell, .inl (X.E 1, 8, .inl fell))]) (stk := [.int r_1]) rfl rfl rfl ?_)
  clear hv
  refine g_if_ne (tgt := 14) h dX8_springs_9 rfl hf (fun c2 hf => ?_) (fun c2 hf => ?_)
  · refine g_iconst (v := (-1)) h dX8_springs_12 kiconst_m1 ?_
    obtain ⟨rfl, rfl, rfl, rfl, rfl, rfl, rfl, rfl, rfl⟩ := sj9 hf
    exact g_iret h hF [0, 1, 2, 3, 4] rfl rfl ⟨rfl, rfl⟩ (fle rfl) (fle rfl) dX8_springs_13
  · refine g_iconst (v := 0) h dX8_springs_14 kiconst_0 ?_
    refine g_istore_n (lv' := [(2, .int 0), (0, .ref a), (1, .int x1)]) h dX8_springs_15 rfl (hL 2 (fle rfl)) rfl ?_
    refine G.lsub (lv' := [(0, .ref a), (1, .int x1), (2, .int 0)]) [1, 2, 0] rfl ?_
    obtain ⟨above_13, below_14, fallen_15, torn_16, w_17, up_18, down_19, fell_20, hv, hf⟩ := ob8 hf
    refine w_X8_springs_L16 (x1 := x1) (isImage := isImage) (taped := taped) (at_ := at_) (start := start) (number := number) h hR hL (fle rfl) (fle rfl) FU _ _ _ _ _ _ _ _ _ hv ?_
    · clear hv
      refine g_aload_n h 0 dX8_springs_35 rfl rfl ?_
      refine g_iconst (v := 0) h dX8_springs_36 kiconst_0 ?_
      obtain ⟨r_21, hv, hf⟩ := ob1 hf
      refine g_callV (ci := 8) (q0 := 0) (n := 1) (As := [.int 0]) (st := []) (wr := [(a_up, .inl (X.E 1, 8, .inl up_18)), (a_down, .inl (X.E 1, 8, .inl down_19)), (a_fell, .inl (X.E 1, 8, .inl fell_20))]) (isC := [0, 1]) (isR := [2, 3, 4]) h hR (ct_X8_holding (a := a) (a_w := a_w) (a_tape := a_tape) (a_lane := a_lane) (a_size := a_size) (a_items := a_items) (a_up := a_up) (a_down := a_down) (a_fell := a_fell) (a_read := a_read) (a_comesUp := a_comesUp) (a_comesDown := a_comesDown) (a_held := a_held) (x1 := 0) (isImage := isImage) (taped := taped) (above := above_13) (below := below_14) (fallen := fallen_15) (torn := torn_16) (at_ := at_) (start := start) (number := number) (w := w_17) hv) rfl rfl (lw_V q1387 q1389 qs50 q80 q1390) (by decide +kernel) rfl ⟨rfl, rfl, rfl, rfl, by decide⟩ ⟨fle rfl, fle rfl, fle rfl, fle rfl, fle rfl⟩ rfl dX8_springs_37 (pin (perm := [3, 4, 0, 1, 2]) (ws' := [(a, .inr (8, [.ref a_w, .int isImage, .ref a_tape, .int taped, .ref a_lane, .ref a_size, .ref a_items, .ref a_up, .ref a_down, .int above_13, .int below_14, .ref a_fell, .int fallen_15, .int torn_16, .int at_, .int start, .int number, .ref a_read, .ref a_comesUp, .ref a_comesDown, .ref a_held])), (a_w, .inl (X.E 1, 1142, .inl w_17)), (a_up, .inl (X.E 1, 8, .inl up_18)), (a_down, .inl (X.E 1, 8, .inl down_19)), (a_fell, .inl (X.E 1, 8, .inl fell_20))]) (stk := [.int r_21]) rfl rfl rfl ?_)
      clear hv
      obtain ⟨r_22, hv, hf⟩ := ob1 hf
      refine g_callS (n := 1) (As := [.int r_21]) (st := []) (wr := [(a, .inr (8, [.ref a_w, .int isImage, .ref a_tape, .int taped, .ref a_lane, .ref a_size, .ref a_items, .ref a_up, .ref a_down, .int above_13, .int below_14, .ref a_fell, .int fallen_15, .int torn_16, .int at_, .int start, .int number, .ref a_read, .ref a_comesUp, .ref a_comesDown, .ref a_held])), (a_w, .inl (X.E 1, 1142, .inl w_17)), (a_up, .inl (X.E 1, 8, .inl up_18)), (a_down, .inl (X.E 1, 8, .inl down_19)), (a_fell, .inl (X.E 1, 8, .inl fell_20))]) (isC := []) (isR := [0, 1, 2, 3, 4]) h hR (ct_X8_ones (x0 := r_21) hv) (lw_S q1462 q1463 q80 q1464) (by decide +kernel) rfl ⟨rfl, rfl, rfl, rfl, by decide⟩ ⟨fle rfl, fle rfl, fle rfl, fle rfl, fle rfl⟩ rfl dX8_springs_40 (pin (perm := [0, 1, 2, 3, 4]) (ws' := [(a, .inr (8, [.ref a_w, .int isImage, .ref a_tape, .int taped, .ref a_lane, .ref a_size, .ref a_items, .ref a_up, .ref a_down, .int above_13, .int below_14, .ref a_fell, .int fallen_15, .int torn_16, .int at_, .int start, .int number, .ref a_read, .ref a_comesUp, .ref a_comesDown, .ref a_held])), (a_w, .inl (X.E 1, 1142, .inl w_17)), (a_up, .inl (X.E 1, 8, .inl up_18)), (a_down, .inl (X.E 1, 8, .inl down_19)), (a_fell, .inl (X.E 1, 8, .inl fell_20))]) (stk := [.int r_22]) rfl rfl rfl ?_)
      clear hv
      obtain ⟨rfl, rfl, rfl, rfl, rfl, rfl, rfl, rfl, rfl⟩ := sj9 hf
      exact g_iret h hF [0, 1, 2, 3, 4] rfl rfl ⟨rfl, rfl⟩ (fle rfl) (fle rfl) dX8_springs_43
set_option maxHeartbeats 4000000 in
set_option maxRecDepth 100000 in
theorem w_X8_undo_L26 {X : Cx} {a a_comesDown a_comesUp a_down a_fell a_held a_items a_lane a_read a_size a_tape a_up a_w : Nat} {isImage : Int32} {taped : Int32} {above : Int32} {below : Int32} {fallen : Int32} {torn : Int32} {at_ : Int32} {start : Int32} {number : Int32} {ce sl : Nat} (h : Ok X cX8_undo RX8) (hR : Rm X 0 0 0 0) (hL : ∀ i, i < 2 → i < X.nL) (hce : ce ≤ 0) (hsl : sl ≤ 0) : ∀ (n0 : Nat) (x1 : Int32) (w : Nat → Int32) {o_w : Nat → Int32}, f_X8_undo_L26 n0 x1 w = some o_w → (G X [(a, .inr (8, [.ref a_w, .int isImage, .ref a_tape, .int taped, .ref a_lane, .ref a_size, .ref a_items, .ref a_up, .ref a_down, .int above, .int below, .ref a_fell, .int fallen, .int torn, .int at_, .int start, .int number, .ref a_read, .ref a_comesUp, .ref a_comesDown, .ref a_held])), (a_w, .inl (X.E 1, 1142, .inl o_w))] [(0, .ref a)] ce sl 64 []) → G X [(a, .inr (8, [.ref a_w, .int isImage, .ref a_tape, .int taped, .ref a_lane, .ref a_size, .ref a_items, .ref a_up, .ref a_down, .int above, .int below, .ref a_fell, .int fallen, .int torn, .int at_, .int start, .int number, .ref a_read, .ref a_comesUp, .ref a_comesDown, .ref a_held])), (a_w, .inl (X.E 1, 1142, .inl w))] [(0, .ref a), (1, .int x1)] ce sl 26 [] := by
  intro n0
  induction n0 with
  | zero => intro x1 w o_w hf; exact nomatch (show (none : Option _) = some _ from hf)
  | succ n0 ih =>
    intro x1 w o_w hf k0
    replace hf : t_X8_undo_L26 (f_X8_undo_L26 n0) x1 w = some o_w := hf
    unfold t_X8_undo_L26 at hf
    refine g_iload_n h 1 dX8_undo_26 rfl rfl ?_
    refine g_bipush (v := 60) h dX8_undo_27 kbipush_60 ?_
    refine g_icmp_ge (tgt := 64) h dX8_undo_29 rfl hf (fun c2 hf => ?_) (fun c2 hf => ?_)
    · obtain rfl := sj1 hf
      exact G.lsub [0] rfl k0
    · refine g_aload_n h 0 dX8_undo_32 rfl rfl ?_
      refine g_get (ci := 8) (v := .ref a_w) h in_X8 0 0 rfl rfl (fle rfl) rfl q1166 rfl dX8_undo_33 ?_
      refine g_iload_n h 1 dX8_undo_36 rfl rfl ?_
      refine g_aload_n h 0 dX8_undo_37 rfl rfl ?_
      refine g_get (ci := 8) (v := .ref a_w) h in_X8 0 0 rfl rfl (fle rfl) rfl q1166 rfl dX8_undo_38 ?_
      refine g_bipush (v := 61) h dX8_undo_41 kbipush_61 ?_
      refine g_bipush (v := 60) h dX8_undo_43 kbipush_60 ?_
      refine g_aload_n h 0 dX8_undo_45 rfl rfl ?_
      refine g_get (ci := 8) (v := .ref a_w) h in_X8 0 0 rfl rfl (fle rfl) rfl q1166 rfl dX8_undo_46 ?_
      refine g_bipush (v := 60) h dX8_undo_49 kbipush_60 ?_
      refine g_iaload h 1 rfl (by decide) dX8_undo_51 ?_
      refine g_imul h dX8_undo_52 ?_
      refine g_iadd h dX8_undo_53 ?_
      refine g_iload_n h 1 dX8_undo_54 rfl rfl ?_
      refine g_iadd h dX8_undo_55 ?_
      obtain ⟨g3, hf⟩ := gn hf
      refine g_iaload h 1 rfl g3 dX8_undo_56 ?_
      obtain ⟨g4, hf⟩ := gn hf
      refine g_iastore (ws' := [(a, .inr (8, [.ref a_w, .int isImage, .ref a_tape, .int taped, .ref a_lane, .ref a_size, .ref a_items, .ref a_up, .ref a_down, .int above, .int below, .ref a_fell, .int fallen, .int torn, .int at_, .int start, .int number, .ref a_read, .ref a_comesUp, .ref a_comesDown, .ref a_held])), (a_w, .inl (X.E 1, 1142, .inl (upd w x1.toNatClampNeg (w ((61 + (60 * (w (60 : Int32).toNatClampNeg))) + x1).toNatClampNeg))))]) h 1 rfl g4 rfl dX8_undo_57 ?_
      refine g_iinc (j := 1) (v := (x1 + 1)) (lv' := [(1, .int (x1 + 1)), (0, .ref a)]) h dX8_undo_58 rfl (kinc_1 _) (hL 1 (fle rfl)) rfl ?_
      refine g_goto (tgt := 26) h dX8_undo_61 rfl ?_
      exact G.lsub [1, 0] rfl (ih _ _ hf k0)
set_option maxHeartbeats 4000000 in
set_option maxRecDepth 100000 in
theorem ct_X8_undo {l : Launch} {D : va_G} {E : Ety} {a a_w a_tape a_lane a_size a_items a_up a_down a_fell a_read a_comesUp a_comesDown a_held : Nat} {isImage : Int32} {taped : Int32} {above : Int32} {below : Int32} {fallen : Int32} {torn : Int32} {at_ : Int32} {start : Int32} {number : Int32} {w : Nat → Int32} {r_ : Int32} {o_w : Nat → Int32} (hf : f_X8_undo w = some (r_, o_w)) : Ct l yX8_undo cX8_undo 2 (some .int) 0 0 0 0 D E [.ref a] [(a, .inr (8, [.ref a_w, .int isImage, .ref a_tape, .int taped, .ref a_lane, .ref a_size, .ref a_items, .ref a_up, .ref a_down, .int above, .int below, .ref a_fell, .int fallen, .int torn, .int at_, .int start, .int number, .ref a_read, .ref a_comesUp, .ref a_comesDown, .ref a_held])), (a_w, .inl (E 1, 1142, .inl w))] (Pn (some (.int r_)) [(a, .inr (8, [.ref a_w, .int isImage, .ref a_tape, .int taped, .ref a_lane, .ref a_size, .ref a_items, .ref a_up, .ref a_down, .int above, .int below, .ref a_fell, .int fallen, .int torn, .int at_, .int start, .int number, .ref a_read, .ref a_comesUp, .ref a_comesDown, .ref a_held])), (a_w, .inl (E 1, 1142, .inl o_w))]) := by
  refine ct_of (own := RX8) (plainFor_of_name (by decide)) rfl (fle rfl) rfl ?_
  intro X hl hD hE hnL hXF h hR hF hnm
  subst hl; subst hD; subst hE
  have hL : ∀ i, i < 2 → i < X.nL := fun i hi => by rw [hnL]; exact hi
  unfold f_X8_undo at hf
  refine g_aload_n h 0 dX8_undo_0 rfl rfl ?_
  refine g_get (ci := 8) (v := .ref a_w) h in_X8 0 0 rfl rfl (fle rfl) rfl q1166 rfl dX8_undo_1 ?_
  refine g_bipush (v := 60) h dX8_undo_4 kbipush_60 ?_
  refine g_iaload h 1 rfl (by decide) dX8_undo_6 ?_
  refine g_if_ne (tgt := 13) h dX8_undo_7 rfl hf (fun c1 hf => ?_) (fun c1 hf => ?_)
  · refine g_bipush (v := (-4)) h dX8_undo_10 kbipush_m4 ?_
    obtain ⟨rfl, rfl⟩ := sj2 hf
    exact g_iret h hF [0, 1] rfl rfl ⟨rfl, rfl⟩ (fle rfl) (fle rfl) dX8_undo_12
  · refine g_aload_n h 0 dX8_undo_13 rfl rfl ?_
    refine g_get (ci := 8) (v := .ref a_w) h in_X8 0 0 rfl rfl (fle rfl) rfl q1166 rfl dX8_undo_14 ?_
    refine g_bipush (v := 60) h dX8_undo_17 kbipush_60 ?_
    refine g_dup2 h dX8_undo_19 rfl rfl ?_
    refine g_iaload h 1 rfl (by decide) dX8_undo_20 ?_
    refine g_iconst (v := 1) h dX8_undo_21 kiconst_1 ?_
    refine g_isub h dX8_undo_22 ?_
    refine g_iastore (ws' := [(a, .inr (8, [.ref a_w, .int isImage, .ref a_tape, .int taped, .ref a_lane, .ref a_size, .ref a_items, .ref a_up, .ref a_down, .int above, .int below, .ref a_fell, .int fallen, .int torn, .int at_, .int start, .int number, .ref a_read, .ref a_comesUp, .ref a_comesDown, .ref a_held])), (a_w, .inl (X.E 1, 1142, .inl (upd w (60 : Int32).toNatClampNeg ((w (60 : Int32).toNatClampNeg) - 1))))]) h 1 rfl (by decide) rfl dX8_undo_23 ?_
    refine g_iconst (v := 0) h dX8_undo_24 kiconst_0 ?_
    refine g_istore_n (lv' := [(1, .int 0), (0, .ref a)]) h dX8_undo_25 rfl (hL 1 (fle rfl)) rfl ?_
    refine G.lsub (lv' := [(0, .ref a), (1, .int 0)]) [1, 0] rfl ?_
    obtain ⟨w_5, hv, hf⟩ := ob1 hf
    refine w_X8_undo_L26 (isImage := isImage) (taped := taped) (above := above) (below := below) (fallen := fallen) (torn := torn) (at_ := at_) (start := start) (number := number) h hR hL (fle rfl) (fle rfl) FU _ _ hv ?_
    · clear hv
      refine g_aload_n h 0 dX8_undo_64 rfl rfl ?_
      refine g_get (ci := 8) (v := .ref a_w) h in_X8 0 0 rfl rfl (fle rfl) rfl q1166 rfl dX8_undo_65 ?_
      refine g_bipush (v := 60) h dX8_undo_68 kbipush_60 ?_
      refine g_iaload h 1 rfl (by decide) dX8_undo_70 ?_
      obtain ⟨rfl, rfl⟩ := sj2 hf
      exact g_iret h hF [0, 1] rfl rfl ⟨rfl, rfl⟩ (fle rfl) (fle rfl) dX8_undo_71
set_option maxHeartbeats 4000000 in
set_option maxRecDepth 100000 in
theorem ct_X8_seed {l : Launch} {D : va_G} {E : Ety} {a a_w a_tape a_lane a_size a_items a_up a_down a_fell a_read a_comesUp a_comesDown a_held : Nat} {x1 : Int32} {isImage : Int32} {taped : Int32} {above : Int32} {below : Int32} {fallen : Int32} {torn : Int32} {at_ : Int32} {start : Int32} {number : Int32} {w : Nat → Int32} {r_ : Int32} {o_w : Nat → Int32} (hf : f_X8_seed x1 w = some (r_, o_w)) : Ct l yX8_seed cX8_seed 3 (some .int) 0 0 0 0 D E [.ref a, .int x1] [(a, .inr (8, [.ref a_w, .int isImage, .ref a_tape, .int taped, .ref a_lane, .ref a_size, .ref a_items, .ref a_up, .ref a_down, .int above, .int below, .ref a_fell, .int fallen, .int torn, .int at_, .int start, .int number, .ref a_read, .ref a_comesUp, .ref a_comesDown, .ref a_held])), (a_w, .inl (E 1, 1142, .inl w))] (Pn (some (.int r_)) [(a, .inr (8, [.ref a_w, .int isImage, .ref a_tape, .int taped, .ref a_lane, .ref a_size, .ref a_items, .ref a_up, .ref a_down, .int above, .int below, .ref a_fell, .int fallen, .int torn, .int at_, .int start, .int number, .ref a_read, .ref a_comesUp, .ref a_comesDown, .ref a_held])), (a_w, .inl (E 1, 1142, .inl o_w))]) := by
  refine ct_of (own := RX8) (plainFor_of_name (by decide)) rfl (fle rfl) rfl ?_
  intro X hl hD hE hnL hXF h hR hF hnm
  subst hl; subst hD; subst hE
  have hL : ∀ i, i < 3 → i < X.nL := fun i hi => by rw [hnL]; exact hi
  unfold f_X8_seed at hf
  refine g_iload_n h 1 dX8_seed_0 rfl rfl ?_
  refine g_if_ge (tgt := 6) h dX8_seed_1 rfl hf (fun c1 hf => ?_) (fun c1 hf => ?_)
  · refine g_aload_n h 0 dX8_seed_6 rfl rfl ?_
    refine g_get (ci := 8) (v := .ref a_w) h in_X8 0 0 rfl rfl (fle rfl) rfl q1166 rfl dX8_seed_7 ?_
    refine g_iconst (v := 3) h dX8_seed_10 kiconst_3 ?_
    refine g_iaload h 1 rfl (by decide) dX8_seed_11 ?_
    refine g_istore_n (lv' := [(2, .int (w (3 : Int32).toNatClampNeg)), (0, .ref a), (1, .int x1)]) h dX8_seed_12 rfl (hL 2 (fle rfl)) rfl ?_
    refine g_aload_n h 1 dX8_seed_13 rfl rfl ?_
    refine g_get (ci := 8) (v := .ref a_w) h in_X8 0 0 rfl rfl (fle rfl) rfl q1166 rfl dX8_seed_14 ?_
    refine g_iconst (v := 3) h dX8_seed_17 kiconst_3 ?_
    refine g_iload_n h 2 dX8_seed_18 rfl rfl ?_
    refine g_iastore (ws' := [(a, .inr (8, [.ref a_w, .int isImage, .ref a_tape, .int taped, .ref a_lane, .ref a_size, .ref a_items, .ref a_up, .ref a_down, .int above, .int below, .ref a_fell, .int fallen, .int torn, .int at_, .int start, .int number, .ref a_read, .ref a_comesUp, .ref a_comesDown, .ref a_held])), (a_w, .inl (X.E 1, 1142, .inl (upd w (3 : Int32).toNatClampNeg x1)))]) h 1 rfl (by decide) rfl dX8_seed_19 ?_
    refine g_iload_n h 0 dX8_seed_20 rfl rfl ?_
    obtain ⟨rfl, rfl⟩ := sj2 hf
    exact g_iret h hF [0, 1] rfl rfl ⟨rfl, rfl⟩ (fle rfl) (fle rfl) dX8_seed_21
  · refine g_iconst (v := (-1)) h dX8_seed_4 kiconst_m1 ?_
    obtain ⟨rfl, rfl⟩ := sj2 hf
    exact g_iret h hF [0, 1] rfl rfl ⟨rfl, rfl⟩ (fle rfl) (fle rfl) dX8_seed_5
set_option maxHeartbeats 4000000 in
set_option maxRecDepth 100000 in
theorem w_X8_tries_L2 {X : Cx} {a a_comesDown a_comesUp a_down a_fell a_held a_items a_lane a_read a_size a_tape a_up a_w : Nat} {isImage : Int32} {taped : Int32} {above : Int32} {below : Int32} {fallen : Int32} {torn : Int32} {at_ : Int32} {start : Int32} {number : Int32} {ce sl : Nat} (h : Ok X cX8_tries RX8) (hR : Rm X 0 0 0 0) (hL : ∀ i, i < 2 → i < X.nL) (hce : ce ≤ 0) (hsl : sl ≤ 0) : ∀ (n0 : Nat) (x1 : Int32) (w : Nat → Int32) {o_w : Nat → Int32}, f_X8_tries_L2 n0 x1 w = some o_w → (G X [(a, .inr (8, [.ref a_w, .int isImage, .ref a_tape, .int taped, .ref a_lane, .ref a_size, .ref a_items, .ref a_up, .ref a_down, .int above, .int below, .ref a_fell, .int fallen, .int torn, .int at_, .int start, .int number, .ref a_read, .ref a_comesUp, .ref a_comesDown, .ref a_held])), (a_w, .inl (X.E 1, 1142, .inl o_w))] [] ce sl 30 []) → G X [(a, .inr (8, [.ref a_w, .int isImage, .ref a_tape, .int taped, .ref a_lane, .ref a_size, .ref a_items, .ref a_up, .ref a_down, .int above, .int below, .ref a_fell, .int fallen, .int torn, .int at_, .int start, .int number, .ref a_read, .ref a_comesUp, .ref a_comesDown, .ref a_held])), (a_w, .inl (X.E 1, 1142, .inl w))] [(0, .ref a), (1, .int x1)] ce sl 2 [] := by
  intro n0
  induction n0 with
  | zero => intro x1 w o_w hf; exact nomatch (show (none : Option _) = some _ from hf)
  | succ n0 ih =>
    intro x1 w o_w hf k0
    replace hf : t_X8_tries_L2 (f_X8_tries_L2 n0) x1 w = some o_w := hf
    unfold t_X8_tries_L2 at hf
    refine g_iload_n h 1 dX8_tries_2 rfl rfl ?_
    refine g_bipush (v := 60) h dX8_tries_3 kbipush_60 ?_
    refine g_icmp_ge (tgt := 30) h dX8_tries_5 rfl hf (fun c1 hf => ?_) (fun c1 hf => ?_)
    · obtain rfl := sj1 hf
      exact G.lsub [] rfl k0
    · refine g_aload_n h 0 dX8_tries_8 rfl rfl ?_
      refine g_get (ci := 8) (v := .ref a_w) h in_X8 0 0 rfl rfl (fle rfl) rfl q1166 rfl dX8_tries_9 ?_
      refine g_sipush (v := 1082) h dX8_tries_12 ksipush_1082 ?_
      refine g_iload_n h 1 dX8_tries_15 rfl rfl ?_
      refine g_iadd h dX8_tries_16 ?_
      refine g_aload_n h 0 dX8_tries_17 rfl rfl ?_
      refine g_get (ci := 8) (v := .ref a_w) h in_X8 0 0 rfl rfl (fle rfl) rfl q1166 rfl dX8_tries_18 ?_
      refine g_iload_n h 1 dX8_tries_21 rfl rfl ?_
      obtain ⟨g2, hf⟩ := gn hf
      refine g_iaload h 1 rfl g2 dX8_tries_22 ?_
      obtain ⟨g3, hf⟩ := gn hf
      refine g_iastore (ws' := [(a, .inr (8, [.ref a_w, .int isImage, .ref a_tape, .int taped, .ref a_lane, .ref a_size, .ref a_items, .ref a_up, .ref a_down, .int above, .int below, .ref a_fell, .int fallen, .int torn, .int at_, .int start, .int number, .ref a_read, .ref a_comesUp, .ref a_comesDown, .ref a_held])), (a_w, .inl (X.E 1, 1142, .inl (upd w (1082 + x1).toNatClampNeg (w x1.toNatClampNeg))))]) h 1 rfl g3 rfl dX8_tries_23 ?_
      refine g_iinc (j := 1) (v := (x1 + 1)) (lv' := [(1, .int (x1 + 1)), (0, .ref a)]) h dX8_tries_24 rfl (kinc_1 _) (hL 1 (fle rfl)) rfl ?_
      refine g_goto (tgt := 2) h dX8_tries_27 rfl ?_
      exact G.lsub [1, 0] rfl (ih _ _ hf k0)
set_option maxHeartbeats 4000000 in
set_option maxRecDepth 100000 in
theorem ct_X8_tries {l : Launch} {D : va_G} {E : Ety} {a a_w a_tape a_lane a_size a_items a_up a_down a_fell a_read a_comesUp a_comesDown a_held : Nat} {isImage : Int32} {taped : Int32} {above : Int32} {below : Int32} {fallen : Int32} {torn : Int32} {at_ : Int32} {start : Int32} {number : Int32} {w : Nat → Int32} {o_w : Nat → Int32} (hf : f_X8_tries w = some o_w) : Ct l yX8_tries cX8_tries 2 none 0 0 0 0 D E [.ref a] [(a, .inr (8, [.ref a_w, .int isImage, .ref a_tape, .int taped, .ref a_lane, .ref a_size, .ref a_items, .ref a_up, .ref a_down, .int above, .int below, .ref a_fell, .int fallen, .int torn, .int at_, .int start, .int number, .ref a_read, .ref a_comesUp, .ref a_comesDown, .ref a_held])), (a_w, .inl (E 1, 1142, .inl w))] (Pn none [(a, .inr (8, [.ref a_w, .int isImage, .ref a_tape, .int taped, .ref a_lane, .ref a_size, .ref a_items, .ref a_up, .ref a_down, .int above, .int below, .ref a_fell, .int fallen, .int torn, .int at_, .int start, .int number, .ref a_read, .ref a_comesUp, .ref a_comesDown, .ref a_held])), (a_w, .inl (E 1, 1142, .inl o_w))]) := by
  refine ct_of (own := RX8) (plainFor_of_name (by decide)) rfl (fle rfl) rfl ?_
  intro X hl hD hE hnL hXF h hR hF hnm
  subst hl; subst hD; subst hE
  have hL : ∀ i, i < 2 → i < X.nL := fun i hi => by rw [hnL]; exact hi
  unfold f_X8_tries at hf
  refine g_iconst (v := 0) h dX8_tries_0 kiconst_0 ?_
  refine g_istore_n (lv' := [(1, .int 0), (0, .ref a)]) h dX8_tries_1 rfl (hL 1 (fle rfl)) rfl ?_
  refine G.lsub (lv' := [(0, .ref a), (1, .int 0)]) [1, 0] rfl ?_
  obtain ⟨w_4, hv, hf⟩ := ob1 hf
  refine w_X8_tries_L2 (isImage := isImage) (taped := taped) (above := above) (below := below) (fallen := fallen) (torn := torn) (at_ := at_) (start := start) (number := number) h hR hL (fle rfl) (fle rfl) FU _ _ hv ?_
  · clear hv
    obtain rfl := sj1 hf
    exact g_vret h hF [0, 1] rfl rfl ⟨rfl, rfl⟩ (fle rfl) (fle rfl) dX8_tries_30
set_option maxHeartbeats 4000000 in
set_option maxRecDepth 100000 in
theorem w_X8_far_L45 {X : Cx} {a a_comesDown a_comesUp a_down a_fell a_held a_items a_lane a_read a_size a_tape a_up a_w : Nat} {x1 : Int32} {x3 : Int32} {isImage : Int32} {taped : Int32} {at_ : Int32} {start : Int32} {number : Int32} {ce sl : Nat} (h : Ok X cX8_far RX8) (hR : Rm X 6 139 0 0) (hL : ∀ i, i < 5 → i < X.nL) (hce : ce ≤ 0) (hsl : sl ≤ 0) : ∀ (n0 : Nat) (x4 : Int32) (above : Int32) (below : Int32) (fallen : Int32) (torn : Int32) (w : Nat → Int32) (up : Nat → Int32) (down : Nat → Int32) (fell : Nat → Int32) {otag : Nat} {o_x4 : Int32} {o_above : Int32} {o_below : Int32} {o_fallen : Int32} {o_torn : Int32} {o_w : Nat → Int32} {o_up : Nat → Int32} {o_down : Nat → Int32} {o_fell : Nat → Int32}, f_X8_far_L45 x1 x3 n0 x4 above below fallen torn w up down fell = some (otag, o_x4, o_above, o_below, o_fallen, o_torn, o_w, o_up, o_down, o_fell) → (otag = 0 → G X [(a, .inr (8, [.ref a_w, .int isImage, .ref a_tape, .int taped, .ref a_lane, .ref a_size, .ref a_items, .ref a_up, .ref a_down, .int o_above, .int o_below, .ref a_fell, .int o_fallen, .int o_torn, .int at_, .int start, .int number, .ref a_read, .ref a_comesUp, .ref a_comesDown, .ref a_held])), (a_w, .inl (X.E 1, 1142, .inl o_w)), (a_up, .inl (X.E 1, 8, .inl o_up)), (a_down, .inl (X.E 1, 8, .inl o_down)), (a_fell, .inl (X.E 1, 8, .inl o_fell))] [(4, .int o_x4)] ce sl 102 []) → (otag = 1 → G X [(a, .inr (8, [.ref a_w, .int isImage, .ref a_tape, .int taped, .ref a_lane, .ref a_size, .ref a_items, .ref a_up, .ref a_down, .int o_above, .int o_below, .ref a_fell, .int o_fallen, .int o_torn, .int at_, .int start, .int number, .ref a_read, .ref a_comesUp, .ref a_comesDown, .ref a_held])), (a_w, .inl (X.E 1, 1142, .inl o_w)), (a_up, .inl (X.E 1, 8, .inl o_up)), (a_down, .inl (X.E 1, 8, .inl o_down)), (a_fell, .inl (X.E 1, 8, .inl o_fell))] [(4, .int o_x4)] ce sl 111 []) → G X [(a, .inr (8, [.ref a_w, .int isImage, .ref a_tape, .int taped, .ref a_lane, .ref a_size, .ref a_items, .ref a_up, .ref a_down, .int above, .int below, .ref a_fell, .int fallen, .int torn, .int at_, .int start, .int number, .ref a_read, .ref a_comesUp, .ref a_comesDown, .ref a_held])), (a_w, .inl (X.E 1, 1142, .inl w)), (a_up, .inl (X.E 1, 8, .inl up)), (a_down, .inl (X.E 1, 8, .inl down)), (a_fell, .inl (X.E 1, 8, .inl fell))] [(0, .ref a), (1, .int x1), (3, .int x3), (4, .int x4)] ce sl 45 [] := by
  intro n0
  induction n0 with
  | zero => intro x4 above below fallen torn w up down fell otag o_x4 o_above o_below o_fallen o_torn o_w o_up o_down o_fell hf; exact nomatch (show (none : Option _) = some _ from hf)
  | succ n0 ih =>
    intro x4 above below fallen torn w up down fell otag o_x4 o_above o_below o_fallen o_torn o_w o_up o_down o_fell hf k0 k1
    replace hf : t_X8_far_L45 x1 x3 (f_X8_far_L45 x1 x3 n0) x4 above below fallen torn w up down fell = some (otag, o_x4, o_above, o_below, o_fallen, o_torn, o_w, o_up, o_down, o_fell) := hf
    unfold t_X8_far_L45 at hf
    refine g_aload_n h 0 dX8_far_45 rfl rfl ?_
    refine g_iconst (v := 0) h dX8_far_46 kiconst_0 ?_
    refine g_iload_n h 1 dX8_far_47 rfl rfl ?_
    refine g_iload_n h 2 dX8_far_48 rfl rfl ?_
    refine g_iload h 3 dX8_far_49 rfl ?_
    refine g_iconst (v := 1) h dX8_far_51 kiconst_1 ?_
    refine g_iadd h dX8_far_52 ?_
    refine g_imul h dX8_far_53 ?_
    obtain ⟨r_9, hv, hf⟩ := ob1 hf
    refine g_callV (ci := 8) (q0 := 0) (n := 3) (As := [.int 0, .int x1, .int (x3 * (x4 + 1))]) (st := []) (wr := [(a_up, .inl (X.E 1, 8, .inl up)), (a_down, .inl (X.E 1, 8, .inl down)), (a_fell, .inl (X.E 1, 8, .inl fell))]) (isC := [0, 1]) (isR := [2, 3, 4]) h hR (ct_X8_mayGo (a := a) (a_w := a_w) (a_tape := a_tape) (a_lane := a_lane) (a_size := a_size) (a_items := a_items) (a_up := a_up) (a_down := a_down) (a_fell := a_fell) (a_read := a_read) (a_comesUp := a_comesUp) (a_comesDown := a_comesDown) (a_held := a_held) (x1 := 0) (x2 := x1) (x3 := (x3 * (x4 + 1))) (isImage := isImage) (taped := taped) (above := above) (below := below) (fallen := fallen) (torn := torn) (at_ := at_) (start := start) (number := number) (w := w) hv) rfl rfl (lw_V q1412 q1414 qs55 q80 q1415) (by decide +kernel) rfl ⟨rfl, rfl, rfl, rfl, by decide⟩ ⟨hce, hsl, fle rfl, fle rfl, fle rfl⟩ rfl dX8_far_54 (pin (perm := [3, 4, 0, 1, 2]) (ws' := [(a, .inr (8, [.ref a_w, .int isImage, .ref a_tape, .int taped, .ref a_lane, .ref a_size, .ref a_items, .ref a_up, .ref a_down, .int above, .int below, .ref a_fell, .int fallen, .int torn, .int at_, .int start, .int number, .ref a_read, .ref a_comesUp, .ref a_comesDown, .ref a_held])), (a_w, .inl (X.E 1, 1142, .inl w)), (a_up, .inl (X.E 1, 8, .inl up)), (a_down, .inl (X.E 1, 8, .inl down)), (a_fell, .inl (X.E 1, 8, .inl fell))]) (stk := [.int r_9]) rfl rfl rfl ?_)
    clear hv
    refine g_if_eq (tgt := 111) h dX8_far_57 rfl hf (fun c10 hf => ?_) (fun c10 hf => ?_)
    · obtain ⟨rfl, rfl, rfl, rfl, rfl, rfl, rfl, rfl, rfl, rfl⟩ := sj10 hf
      exact G.lsub [3] rfl (k1 rfl)
    · refine g_aload_n h 0 dX8_far_60 rfl rfl ?_
      obtain ⟨w_11, hv, hf⟩ := ob1 hf
      refine g_callV (ci := 8) (q0 := 0) (n := 0) (As := []) (st := []) (wr := [(a_up, .inl (X.E 1, 8, .inl up)), (a_down, .inl (X.E 1, 8, .inl down)), (a_fell, .inl (X.E 1, 8, .inl fell))]) (isC := [0, 1]) (isR := [2, 3, 4]) h hR (ct_X8_tries (a := a) (a_w := a_w) (a_tape := a_tape) (a_lane := a_lane) (a_size := a_size) (a_items := a_items) (a_up := a_up) (a_down := a_down) (a_fell := a_fell) (a_read := a_read) (a_comesUp := a_comesUp) (a_comesDown := a_comesDown) (a_held := a_held) (isImage := isImage) (taped := taped) (above := above) (below := below) (fallen := fallen) (torn := torn) (at_ := at_) (start := start) (number := number) (w := w) hv) rfl rfl (lw_V q1477 q1479 qs60 q80 q1480) (by decide +kernel) rfl ⟨rfl, rfl, rfl, rfl, by decide⟩ ⟨hce, hsl, fle rfl, fle rfl, fle rfl⟩ rfl dX8_far_61 (pin (perm := [3, 4, 0, 1, 2]) (ws' := [(a, .inr (8, [.ref a_w, .int isImage, .ref a_tape, .int taped, .ref a_lane, .ref a_size, .ref a_items, .ref a_up, .ref a_down, .int above, .int below, .ref a_fell, .int fallen, .int torn, .int at_, .int start, .int number, .ref a_read, .ref a_comesUp, .ref a_comesDown, .ref a_held])), (a_w, .inl (X.E 1, 1142, .inl w_11)), (a_up, .inl (X.E 1, 8, .inl up)), (a_down, .inl (X.E 1, 8, .inl down)), (a_fell, .inl (X.E 1, 8, .inl fell))]) (stk := []) rfl rfl rfl ?_)
      clear hv
      refine g_aload_n h 0 dX8_far_64 rfl rfl ?_
      refine g_get (ci := 8) (v := .ref a_w) h in_X8 0 0 rfl rfl (fle rfl) rfl q1166 rfl dX8_far_65 ?_
      refine g_sipush (v := 1110) h dX8_far_68 ksipush_1110 ?_
      refine g_iload_n h 1 dX8_far_71 rfl rfl ?_
      refine g_iadd h dX8_far_72 ?_
      refine g_dup2 h dX8_far_73 rfl rfl ?_
      obtain ⟨g12, hf⟩ := gn hf
      refine g_iaload h 1 rfl g12 dX8_far_74 ?_
      refine g_iload_n h 2 dX8_far_75 rfl rfl ?_
      refine g_iload h 3 dX8_far_76 rfl ?_
      refine g_iconst (v := 1) h dX8_far_78 kiconst_1 ?_
      refine g_iadd h dX8_far_79 ?_
      refine g_imul h dX8_far_80 ?_
      refine g_iadd h dX8_far_81 ?_
      refine g_iastore (ws' := [(a, .inr (8, [.ref a_w, .int isImage, .ref a_tape, .int taped, .ref a_lane, .ref a_size, .ref a_items, .ref a_up, .ref a_down, .int above, .int below, .ref a_fell, .int fallen, .int torn, .int at_, .int start, .int number, .ref a_read, .ref a_comesUp, .ref a_comesDown, .ref a_held])), (a_w, .inl (X.E 1, 1142, .inl (upd w_11 (1110 + x1).toNatClampNeg ((w_11 (1110 + x1).toNatClampNeg) + (x3 * (x4 + 1)))))), (a_up, .inl (X.E 1, 8, .inl up)), (a_down, .inl (X.E 1, 8, .inl down)), (a_fell, .inl (X.E 1, 8, .inl fell))]) h 1 rfl g12 rfl dX8_far_82 ?_
      refine g_aload_n h 0 dX8_far_83 rfl rfl ?_
      refine g_sipush (v := 1082) h dX8_far_84 ksipush_1082 ?_
      obtain ⟨above_13, below_14, fallen_15, torn_16, w_17, up_18, down_19, fell_20, hv, hf⟩ := ob8 hf
      refine g_callV (ci := 8) (q0 := 0) (n := 1) (As := [.int 1082]) (st := []) (wr := []) (isC := [0, 1, 2, 3, 4]) (isR := []) h hR (ct_X8_settles (a := a) (a_w := a_w) (a_tape := a_tape) (a_lane := a_lane) (a_size := a_size) (a_items := a_items) (a_up := a_up) (a_down := a_down) (a_fell := a_fell) (a_read := a_read) (a_comesUp := a_comesUp) (a_comesDown := a_comesDown) (a_held := a_held) (x1 := 1082) (isImage := isImage) (taped := taped) (above := above) (below := below) (fallen := fallen) (torn := torn) (at_ := at_) (start := start) (number := number) (w := upd w_11 (1110 + x1).toNatClampNeg ((w_11 (1110 + x1).toNatClampNeg) + (x3 * (x4 + 1)))) (up := up) (down := down) (fell := fell) hv) rfl rfl (lw_V q1276 q1278 qs35 q80 q1279) (by decide +kernel) rfl ⟨rfl, rfl, rfl, rfl, by decide⟩ ⟨hce, hsl, fle rfl, fle rfl, fle rfl⟩ rfl dX8_far_87 (pin (perm := [0, 1, 2, 3, 4]) (ws' := [(a, .inr (8, [.ref a_w, .int isImage, .ref a_tape, .int taped, .ref a_lane, .ref a_size, .ref a_items, .ref a_up, .ref a_down, .int above_13, .int below_14, .ref a_fell, .int fallen_15, .int torn_16, .int at_, .int start, .int number, .ref a_read, .ref a_comesUp, .ref a_comesDown, .ref a_held])), (a_w, .inl (X.E 1, 1142, .inl w_17)), (a_up, .inl (X.E 1, 8, .inl up_18)), (a_down, .inl (X.E 1, 8, .inl down_19)), (a_fell, .inl (X.E 1, 8, .inl fell_20))]) (stk := []) rfl rfl rfl ?_)
      clear hv
      refine g_aload_n h 0 dX8_far_90 rfl rfl ?_
      refine g_get (ci := 8) (v := .int fallen_15) h in_X8 0 12 rfl rfl (fle rfl) rfl q1178 rfl dX8_far_91 ?_
      refine g_aload_n h 0 dX8_far_94 rfl rfl ?_
      refine g_get (ci := 8) (v := .int torn_16) h in_X8 0 13 rfl rfl (fle rfl) rfl q1179 rfl dX8_far_95 ?_
      refine g_iadd h dX8_far_98 ?_
      refine g_if_le (tgt := 105) h dX8_far_99 rfl hf (fun c21 hf => ?_) (fun c21 hf => ?_)
      · refine g_iinc (j := 3) (v := (x4 + 1)) (lv' := [(4, .int (x4 + 1)), (0, .ref a), (1, .int x1), (3, .int x3)]) h dX8_far_105 rfl (kinc_1 _) (hL 4 (fle rfl)) rfl ?_
        refine g_goto (tgt := 45) h dX8_far_108 rfl ?_
        exact G.lsub [1, 2, 3, 0] rfl (ih _ _ _ _ _ _ _ _ _ hf k0 k1)
      · obtain ⟨rfl, rfl, rfl, rfl, rfl, rfl, rfl, rfl, rfl, rfl⟩ := sj10 hf
        exact G.lsub [3] rfl (k0 rfl)
set_option maxHeartbeats 4000000 in
set_option maxRecDepth 100000 in
theorem ct_X8_far {l : Launch} {D : va_G} {E : Ety} {a a_w a_tape a_lane a_size a_items a_up a_down a_fell a_read a_comesUp a_comesDown a_held : Nat} {x1 : Int32} {x2 : Int32} {isImage : Int32} {taped : Int32} {above : Int32} {below : Int32} {fallen : Int32} {torn : Int32} {at_ : Int32} {start : Int32} {number : Int32} {w : Nat → Int32} {up : Nat → Int32} {down : Nat → Int32} {fell : Nat → Int32} {r_ : Int32} {o_above : Int32} {o_below : Int32} {o_fallen : Int32} {o_torn : Int32} {o_w : Nat → Int32} {o_up : Nat → Int32} {o_down : Nat → Int32} {o_fell : Nat → Int32} (hf : f_X8_far x1 x2 above below fallen torn w up down fell = some (r_, o_above, o_below, o_fallen, o_torn, o_w, o_up, o_down, o_fell)) : Ct l yX8_far cX8_far 5 (some .int) 6 139 0 0 D E [.ref a, .int x1, .int x2] [(a, .inr (8, [.ref a_w, .int isImage, .ref a_tape, .int taped, .ref a_lane, .ref a_size, .ref a_items, .ref a_up, .ref a_down, .int above, .int below, .ref a_fell, .int fallen, .int torn, .int at_, .int start, .int number, .ref a_read, .ref a_comesUp, .ref a_comesDown, .ref a_held])), (a_w, .inl (E 1, 1142, .inl w)), (a_up, .inl (E 1, 8, .inl up)), (a_down, .inl (E 1, 8, .inl down)), (a_fell, .inl (E 1, 8, .inl fell))] (Pn (some (.int r_)) [(a, .inr (8, [.ref a_w, .int isImage, .ref a_tape, .int taped, .ref a_lane, .ref a_size, .ref a_items, .ref a_up, .ref a_down, .int o_above, .int o_below, .ref a_fell, .int o_fallen, .int o_torn, .int at_, .int start, .int number, .ref a_read, .ref a_comesUp, .ref a_comesDown, .ref a_held])), (a_w, .inl (E 1, 1142, .inl o_w)), (a_up, .inl (E 1, 8, .inl o_up)), (a_down, .inl (E 1, 8, .inl o_down)), (a_fell, .inl (E 1, 8, .inl o_fell))]) := by
  refine ct_of (own := RX8) (plainFor_of_name (by decide)) rfl (fle rfl) rfl ?_
  intro X hl hD hE hnL hXF h hR hF hnm
  subst hl; subst hD; subst hE
  have hL : ∀ i, i < 5 → i < X.nL := fun i hi => by rw [hnL]; exact hi
  unfold f_X8_far at hf
  refine g_aload_n h 0 dX8_far_0 rfl rfl ?_
  refine g_iload_n h 1 dX8_far_1 rfl rfl ?_
  obtain ⟨r_1, hv, hf⟩ := ob1 hf
  refine g_callV (ci := 8) (q0 := 0) (n := 1) (As := [.int x1]) (st := []) (wr := [(a_up, .inl (X.E 1, 8, .inl up)), (a_down, .inl (X.E 1, 8, .inl down)), (a_fell, .inl (X.E 1, 8, .inl fell))]) (isC := [0, 1]) (isR := [2, 3, 4]) h hR (ct_X8_isPerson (a := a) (a_w := a_w) (a_tape := a_tape) (a_lane := a_lane) (a_size := a_size) (a_items := a_items) (a_up := a_up) (a_down := a_down) (a_fell := a_fell) (a_read := a_read) (a_comesUp := a_comesUp) (a_comesDown := a_comesDown) (a_held := a_held) (x1 := x1) (isImage := isImage) (taped := taped) (above := above) (below := below) (fallen := fallen) (torn := torn) (at_ := at_) (start := start) (number := number) (w := w) hv) rfl rfl (lw_V q1340 q1342 qs45 q80 q1343) (by decide +kernel) rfl ⟨rfl, rfl, rfl, rfl, by decide⟩ ⟨fle rfl, fle rfl, fle rfl, fle rfl, fle rfl⟩ rfl dX8_far_2 (pin (perm := [3, 4, 0, 1, 2]) (ws' := [(a, .inr (8, [.ref a_w, .int isImage, .ref a_tape, .int taped, .ref a_lane, .ref a_size, .ref a_items, .ref a_up, .ref a_down, .int above, .int below, .ref a_fell, .int fallen, .int torn, .int at_, .int start, .int number, .ref a_read, .ref a_comesUp, .ref a_comesDown, .ref a_held])), (a_w, .inl (X.E 1, 1142, .inl w)), (a_up, .inl (X.E 1, 8, .inl up)), (a_down, .inl (X.E 1, 8, .inl down)), (a_fell, .inl (X.E 1, 8, .inl fell))]) (stk := [.int r_1]) rfl rfl rfl ?_)
  clear hv
  refine g_if_eq (tgt := 18) h dX8_far_5 rfl hf (fun c2 hf => ?_) (fun c2 hf => ?_)
  · refine g_iconst (v := (-1)) h dX8_far_18 kiconst_m1 ?_
    obtain ⟨rfl, rfl, rfl, rfl, rfl, rfl, rfl, rfl, rfl⟩ := sj9 hf
    exact g_iret h hF [0, 1, 2, 3, 4] rfl rfl ⟨rfl, rfl⟩ (fle rfl) (fle rfl) dX8_far_19
  · refine g_iload_n h 2 dX8_far_8 rfl rfl ?_
    refine g_i2l h dX8_far_9 ?_
    refine g_lconst (v := 0) h dX8_far_10 rfl ?_
    refine g_lconst (v := 1) h dX8_far_11 rfl ?_
    obtain ⟨r_3, hv, hf⟩ := ob1 hf
    refine g_callS (n := 3) (As := [.long x2.toInt64, .long 0, .long 1]) (st := []) (wr := [(a, .inr (8, [.ref a_w, .int isImage, .ref a_tape, .int taped, .ref a_lane, .ref a_size, .ref a_items, .ref a_up, .ref a_down, .int above, .int below, .ref a_fell, .int fallen, .int torn, .int at_, .int start, .int number, .ref a_read, .ref a_comesUp, .ref a_comesDown, .ref a_held])), (a_w, .inl (X.E 1, 1142, .inl w)), (a_up, .inl (X.E 1, 8, .inl up)), (a_down, .inl (X.E 1, 8, .inl down)), (a_fell, .inl (X.E 1, 8, .inl fell))]) (isC := []) (isR := [0, 1, 2, 3, 4]) h hR (ct_X8_in (x0 := x2.toInt64) (x2 := 0) (x4 := 1) hv) (lw_S q1236 q1237 q80 q1238) (by decide +kernel) rfl ⟨rfl, rfl, rfl, rfl, by decide⟩ ⟨fle rfl, fle rfl, fle rfl, fle rfl, fle rfl⟩ rfl dX8_far_12 (pin (perm := [0, 1, 2, 3, 4]) (ws' := [(a, .inr (8, [.ref a_w, .int isImage, .ref a_tape, .int taped, .ref a_lane, .ref a_size, .ref a_items, .ref a_up, .ref a_down, .int above, .int below, .ref a_fell, .int fallen, .int torn, .int at_, .int start, .int number, .ref a_read, .ref a_comesUp, .ref a_comesDown, .ref a_held])), (a_w, .inl (X.E 1, 1142, .inl w)), (a_up, .inl (X.E 1, 8, .inl up)), (a_down, .inl (X.E 1, 8, .inl down)), (a_fell, .inl (X.E 1, 8, .inl fell))]) (stk := [.int r_3]) rfl rfl rfl ?_)
    clear hv
    refine g_if_ne (tgt := 20) h dX8_far_15 rfl hf (fun c4 hf => ?_) (fun c4 hf => ?_)
    · refine g_iconst (v := (-1)) h dX8_far_18 kiconst_m1 ?_
      obtain ⟨rfl, rfl, rfl, rfl, rfl, rfl, rfl, rfl, rfl⟩ := sj9 hf
      exact g_iret h hF [0, 1, 2, 3, 4] rfl rfl ⟨rfl, rfl⟩ (fle rfl) (fle rfl) dX8_far_19
    · refine g_aload_n h 0 dX8_far_20 rfl rfl ?_
      refine g_iconst (v := 0) h dX8_far_21 kiconst_0 ?_
      refine g_iload_n h 1 dX8_far_22 rfl rfl ?_
      obtain ⟨r_5, hv, hf⟩ := ob1 hf
      refine g_callV (ci := 8) (q0 := 0) (n := 2) (As := [.int 0, .int x1]) (st := []) (wr := [(a_up, .inl (X.E 1, 8, .inl up)), (a_down, .inl (X.E 1, 8, .inl down)), (a_fell, .inl (X.E 1, 8, .inl fell))]) (isC := [0, 1]) (isR := [2, 3, 4]) h hR (ct_X8_holds (a := a) (a_w := a_w) (a_tape := a_tape) (a_lane := a_lane) (a_size := a_size) (a_items := a_items) (a_up := a_up) (a_down := a_down) (a_fell := a_fell) (a_read := a_read) (a_comesUp := a_comesUp) (a_comesDown := a_comesDown) (a_held := a_held) (x1 := 0) (x2 := x1) (isImage := isImage) (taped := taped) (above := above) (below := below) (fallen := fallen) (torn := torn) (at_ := at_) (start := start) (number := number) (w := w) hv) rfl rfl (lw_V q1284 q1286 qs37 q80 q1287) (by decide +kernel) rfl ⟨rfl, rfl, rfl, rfl, by decide⟩ ⟨fle rfl, fle rfl, fle rfl, fle rfl, fle rfl⟩ rfl dX8_far_23 (pin (perm := [3, 4, 0, 1, 2]) (ws' := [(a, .inr (8, [.ref a_w, .int isImage, .ref a_tape, .int taped, .ref a_lane, .ref a_size, .ref a_items, .ref a_up, .ref a_down, .int above, .int below, .ref a_fell, .int fallen, .int torn, .int at_, .int start, .int number, .ref a_read, .ref a_comesUp, .ref a_comesDown, .ref a_held])), (a_w, .inl (X.E 1, 1142, .inl w)), (a_up, .inl (X.E 1, 8, .inl up)), (a_down, .inl (X.E 1, 8, .inl down)), (a_fell, .inl (X.E 1, 8, .inl fell))]) (stk := [.int r_5]) rfl rfl rfl ?_)
      clear hv
      refine g_if_ne (tgt := 32) h dX8_far_26 rfl hf (fun c6 hf => ?_) (fun c6 hf => ?_)
      · refine g_bipush (v := (-2)) h dX8_far_29 kbipush_m2 ?_
        obtain ⟨rfl, rfl, rfl, rfl, rfl, rfl, rfl, rfl, rfl⟩ := sj9 hf
        exact g_iret h hF [0, 1, 2, 3, 4] rfl rfl ⟨rfl, rfl⟩ (fle rfl) (fle rfl) dX8_far_31
      · refine g_iload_n h 2 dX8_far_32 rfl rfl ?_
        obtain ⟨z_8, hw, hf⟩ := ob1 hf
        have K33 : G X [(a, .inr (8, [.ref a_w, .int isImage, .ref a_tape, .int taped, .ref a_lane, .ref a_size, .ref a_items, .ref a_up, .ref a_down, .int above, .int below, .ref a_fell, .int fallen, .int torn, .int at_, .int start, .int number, .ref a_read, .ref a_comesUp, .ref a_comesDown, .ref a_held])), (a_w, .inl (X.E 1, 1142, .inl w)), (a_up, .inl (X.E 1, 8, .inl up)), (a_down, .inl (X.E 1, 8, .inl down)), (a_fell, .inl (X.E 1, 8, .inl fell))] [(0, .ref a), (1, .int x1)] 0 0 41 [.int z_8] := by
          clear hw
          refine g_istore_n (lv' := [(3, .int z_8), (0, .ref a), (1, .int x1)]) h dX8_far_41 rfl (hL 3 (fle rfl)) rfl ?_
          refine g_iconst (v := 0) h dX8_far_42 kiconst_0 ?_
          refine g_istore (lv' := [(4, .int 0), (3, .int z_8), (0, .ref a), (1, .int x1)]) h dX8_far_43 (hL 4 (fle rfl)) rfl ?_
          refine G.lsub (lv' := [(0, .ref a), (1, .int x1), (3, .int z_8), (4, .int 0)]) [2, 3, 1, 0] rfl ?_
          obtain ⟨tag_22, x4_23, above_24, below_25, fallen_26, torn_27, w_28, up_29, down_30, fell_31, hv, hf⟩ := ob10 hf
          refine w_X8_far_L45 (x1 := x1) (x3 := z_8) (isImage := isImage) (taped := taped) (at_ := at_) (start := start) (number := number) h hR hL (fle rfl) (fle rfl) FU _ _ _ _ _ _ _ _ _ hv ?_ ?_
          · intro ht
            have hf := (if_pos ht).symm.trans hf
            clear hv
            refine g_iload h 0 dX8_far_102 rfl ?_
            obtain ⟨rfl, rfl, rfl, rfl, rfl, rfl, rfl, rfl, rfl⟩ := sj9 hf
            exact g_iret h hF [0, 1, 2, 3, 4] rfl rfl ⟨rfl, rfl⟩ (fle rfl) (fle rfl) dX8_far_104
          · intro ht
            have hf := (if_neg (show ¬ tag_22 = 0 from by rw [ht]; decide)).symm.trans hf
            clear hv
            refine g_iload h 0 dX8_far_111 rfl ?_
            obtain ⟨rfl, rfl, rfl, rfl, rfl, rfl, rfl, rfl, rfl⟩ := sj9 hf
            exact g_iret h hF [0, 1, 2, 3, 4] rfl rfl ⟨rfl, rfl⟩ (fle rfl) (fle rfl) dX8_far_113
        clear hf
        have hf := hw
        clear hw
        refine g_if_ne (tgt := 40) h dX8_far_33 rfl hf (fun c7 hf => ?_) (fun c7 hf => ?_)
        · refine g_iconst (v := (-1)) h dX8_far_36 kiconst_m1 ?_
          refine g_goto (tgt := 41) h dX8_far_37 rfl ?_
          obtain rfl := sj1 hf
          exact G.lsub [0, 1] rfl K33
        · refine g_iconst (v := 1) h dX8_far_40 kiconst_1 ?_
          obtain rfl := sj1 hf
          exact G.lsub [0, 1] rfl K33
set_option maxHeartbeats 4000000 in
set_option maxRecDepth 100000 in
theorem ct_X8_fall {l : Launch} {D : va_G} {E : Ety} {a a_w a_tape a_lane a_size a_items a_up a_down a_fell a_read a_comesUp a_comesDown a_held : Nat} {x1 : Int32} {x2 : Int32} {isImage : Int32} {taped : Int32} {above : Int32} {below : Int32} {fallen : Int32} {torn : Int32} {at_ : Int32} {start : Int32} {number : Int32} {w : Nat → Int32} {up : Nat → Int32} {down : Nat → Int32} {fell : Nat → Int32} {r_ : Int32} {o_above : Int32} {o_below : Int32} {o_fallen : Int32} {o_torn : Int32} {o_w : Nat → Int32} {o_up : Nat → Int32} {o_down : Nat → Int32} {o_fell : Nat → Int32} (hf : f_X8_fall x1 x2 above below fallen torn w up down fell = some (r_, o_above, o_below, o_fallen, o_torn, o_w, o_up, o_down, o_fell)) : Ct l yX8_fall cX8_fall 3 (some .int) 6 139 0 0 D E [.ref a, .int x1, .int x2] [(a, .inr (8, [.ref a_w, .int isImage, .ref a_tape, .int taped, .ref a_lane, .ref a_size, .ref a_items, .ref a_up, .ref a_down, .int above, .int below, .ref a_fell, .int fallen, .int torn, .int at_, .int start, .int number, .ref a_read, .ref a_comesUp, .ref a_comesDown, .ref a_held])), (a_w, .inl (E 1, 1142, .inl w)), (a_up, .inl (E 1, 8, .inl up)), (a_down, .inl (E 1, 8, .inl down)), (a_fell, .inl (E 1, 8, .inl fell))] (Pn (some (.int r_)) [(a, .inr (8, [.ref a_w, .int isImage, .ref a_tape, .int taped, .ref a_lane, .ref a_size, .ref a_items, .ref a_up, .ref a_down, .int o_above, .int o_below, .ref a_fell, .int o_fallen, .int o_torn, .int at_, .int start, .int number, .ref a_read, .ref a_comesUp, .ref a_comesDown, .ref a_held])), (a_w, .inl (E 1, 1142, .inl o_w)), (a_up, .inl (E 1, 8, .inl o_up)), (a_down, .inl (E 1, 8, .inl o_down)), (a_fell, .inl (E 1, 8, .inl o_fell))]) := by
  refine ct_of (own := RX8) (plainFor_of_name (by decide)) rfl (fle rfl) rfl ?_
  intro X hl hD hE hnL hXF h hR hF hnm
  subst hl; subst hD; subst hE
  have hL : ∀ i, i < 3 → i < X.nL := fun i hi => by rw [hnL]; exact hi
  unfold f_X8_fall at hf
  refine g_aload_n h 0 dX8_fall_0 rfl rfl ?_
  refine g_iload_n h 1 dX8_fall_1 rfl rfl ?_
  obtain ⟨r_1, hv, hf⟩ := ob1 hf
  refine g_callV (ci := 8) (q0 := 0) (n := 1) (As := [.int x1]) (st := []) (wr := [(a_up, .inl (X.E 1, 8, .inl up)), (a_down, .inl (X.E 1, 8, .inl down)), (a_fell, .inl (X.E 1, 8, .inl fell))]) (isC := [0, 1]) (isR := [2, 3, 4]) h hR (ct_X8_isPerson (a := a) (a_w := a_w) (a_tape := a_tape) (a_lane := a_lane) (a_size := a_size) (a_items := a_items) (a_up := a_up) (a_down := a_down) (a_fell := a_fell) (a_read := a_read) (a_comesUp := a_comesUp) (a_comesDown := a_comesDown) (a_held := a_held) (x1 := x1) (isImage := isImage) (taped := taped) (above := above) (below := below) (fallen := fallen) (torn := torn) (at_ := at_) (start := start) (number := number) (w := w) hv) rfl rfl (lw_V q1340 q1342 qs45 q80 q1343) (by decide +kernel) rfl ⟨rfl, rfl, rfl, rfl, by decide⟩ ⟨fle rfl, fle rfl, fle rfl, fle rfl, fle rfl⟩ rfl dX8_fall_2 (pin (perm := [3, 4, 0, 1, 2]) (ws' := [(a, .inr (8, [.ref a_w, .int isImage, .ref a_tape, .int taped, .ref a_lane, .ref a_size, .ref a_items, .ref a_up, .ref a_down, .int above, .int below, .ref a_fell, .int fallen, .int torn, .int at_, .int start, .int number, .ref a_read, .ref a_comesUp, .ref a_comesDown, .ref a_held])), (a_w, .inl (X.E 1, 1142, .inl w)), (a_up, .inl (X.E 1, 8, .inl up)), (a_down, .inl (X.E 1, 8, .inl down)), (a_fell, .inl (X.E 1, 8, .inl fell))]) (stk := [.int r_1]) rfl rfl rfl ?_)
  clear hv
  refine g_if_eq (tgt := 13) h dX8_fall_5 rfl hf (fun c2 hf => ?_) (fun c2 hf => ?_)
  · refine g_iconst (v := (-1)) h dX8_fall_13 kiconst_m1 ?_
    obtain ⟨rfl, rfl, rfl, rfl, rfl, rfl, rfl, rfl, rfl⟩ := sj9 hf
    exact g_iret h hF [0, 1, 2, 3, 4] rfl rfl ⟨rfl, rfl⟩ (fle rfl) (fle rfl) dX8_fall_14
  · refine g_iload_n h 2 dX8_fall_8 rfl rfl ?_
    refine g_iconst (v := (-1)) h dX8_fall_9 kiconst_m1 ?_
    refine g_icmp_ge (tgt := 15) h dX8_fall_10 rfl hf (fun c3 hf => ?_) (fun c3 hf => ?_)
    · refine g_aload_n h 0 dX8_fall_15 rfl rfl ?_
      refine g_iconst (v := 0) h dX8_fall_16 kiconst_0 ?_
      refine g_iload_n h 1 dX8_fall_17 rfl rfl ?_
      obtain ⟨r_4, hv, hf⟩ := ob1 hf
      refine g_callV (ci := 8) (q0 := 0) (n := 2) (As := [.int 0, .int x1]) (st := []) (wr := [(a_up, .inl (X.E 1, 8, .inl up)), (a_down, .inl (X.E 1, 8, .inl down)), (a_fell, .inl (X.E 1, 8, .inl fell))]) (isC := [0, 1]) (isR := [2, 3, 4]) h hR (ct_X8_holds (a := a) (a_w := a_w) (a_tape := a_tape) (a_lane := a_lane) (a_size := a_size) (a_items := a_items) (a_up := a_up) (a_down := a_down) (a_fell := a_fell) (a_read := a_read) (a_comesUp := a_comesUp) (a_comesDown := a_comesDown) (a_held := a_held) (x1 := 0) (x2 := x1) (isImage := isImage) (taped := taped) (above := above) (below := below) (fallen := fallen) (torn := torn) (at_ := at_) (start := start) (number := number) (w := w) hv) rfl rfl (lw_V q1284 q1286 qs37 q80 q1287) (by decide +kernel) rfl ⟨rfl, rfl, rfl, rfl, by decide⟩ ⟨fle rfl, fle rfl, fle rfl, fle rfl, fle rfl⟩ rfl dX8_fall_18 (pin (perm := [3, 4, 0, 1, 2]) (ws' := [(a, .inr (8, [.ref a_w, .int isImage, .ref a_tape, .int taped, .ref a_lane, .ref a_size, .ref a_items, .ref a_up, .ref a_down, .int above, .int below, .ref a_fell, .int fallen, .int torn, .int at_, .int start, .int number, .ref a_read, .ref a_comesUp, .ref a_comesDown, .ref a_held])), (a_w, .inl (X.E 1, 1142, .inl w)), (a_up, .inl (X.E 1, 8, .inl up)), (a_down, .inl (X.E 1, 8, .inl down)), (a_fell, .inl (X.E 1, 8, .inl fell))]) (stk := [.int r_4]) rfl rfl rfl ?_)
      clear hv
      refine g_if_ne (tgt := 27) h dX8_fall_21 rfl hf (fun c5 hf => ?_) (fun c5 hf => ?_)
      · refine g_bipush (v := (-2)) h dX8_fall_24 kbipush_m2 ?_
        obtain ⟨rfl, rfl, rfl, rfl, rfl, rfl, rfl, rfl, rfl⟩ := sj9 hf
        exact g_iret h hF [0, 1, 2, 3, 4] rfl rfl ⟨rfl, rfl⟩ (fle rfl) (fle rfl) dX8_fall_26
      · refine g_aload_n h 0 dX8_fall_27 rfl rfl ?_
        obtain ⟨w_6, hv, hf⟩ := ob1 hf
        refine g_callV (ci := 8) (q0 := 0) (n := 0) (As := []) (st := []) (wr := [(a_up, .inl (X.E 1, 8, .inl up)), (a_down, .inl (X.E 1, 8, .inl down)), (a_fell, .inl (X.E 1, 8, .inl fell))]) (isC := [0, 1]) (isR := [2, 3, 4]) h hR (ct_X8_tries (a := a) (a_w := a_w) (a_tape := a_tape) (a_lane := a_lane) (a_size := a_size) (a_items := a_items) (a_up := a_up) (a_down := a_down) (a_fell := a_fell) (a_read := a_read) (a_comesUp := a_comesUp) (a_comesDown := a_comesDown) (a_held := a_held) (isImage := isImage) (taped := taped) (above := above) (below := below) (fallen := fallen) (torn := torn) (at_ := at_) (start := start) (number := number) (w := w) hv) rfl rfl (lw_V q1477 q1479 qs60 q80 q1480) (by decide +kernel) rfl ⟨rfl, rfl, rfl, rfl, by decide⟩ ⟨fle rfl, fle rfl, fle rfl, fle rfl, fle rfl⟩ rfl dX8_fall_28 (pin (perm := [3, 4, 0, 1, 2]) (ws' := [(a, .inr (8, [.ref a_w, .int isImage, .ref a_tape, .int taped, .ref a_lane, .ref a_size, .ref a_items, .ref a_up, .ref a_down, .int above, .int below, .ref a_fell, .int fallen, .int torn, .int at_, .int start, .int number, .ref a_read, .ref a_comesUp, .ref a_comesDown, .ref a_held])), (a_w, .inl (X.E 1, 1142, .inl w_6)), (a_up, .inl (X.E 1, 8, .inl up)), (a_down, .inl (X.E 1, 8, .inl down)), (a_fell, .inl (X.E 1, 8, .inl fell))]) (stk := []) rfl rfl rfl ?_)
        clear hv
        refine g_aload_n h 0 dX8_fall_31 rfl rfl ?_
        refine g_get (ci := 8) (v := .ref a_w) h in_X8 0 0 rfl rfl (fle rfl) rfl q1166 rfl dX8_fall_32 ?_
        refine g_sipush (v := 1102) h dX8_fall_35 ksipush_1102 ?_
        refine g_iload_n h 1 dX8_fall_38 rfl rfl ?_
        refine g_iadd h dX8_fall_39 ?_
        refine g_iconst (v := 0) h dX8_fall_40 kiconst_0 ?_
        obtain ⟨g7, hf⟩ := gn hf
        refine g_iastore (ws' := [(a, .inr (8, [.ref a_w, .int isImage, .ref a_tape, .int taped, .ref a_lane, .ref a_size, .ref a_items, .ref a_up, .ref a_down, .int above, .int below, .ref a_fell, .int fallen, .int torn, .int at_, .int start, .int number, .ref a_read, .ref a_comesUp, .ref a_comesDown, .ref a_held])), (a_w, .inl (X.E 1, 1142, .inl (upd w_6 (1102 + x1).toNatClampNeg 0))), (a_up, .inl (X.E 1, 8, .inl up)), (a_down, .inl (X.E 1, 8, .inl down)), (a_fell, .inl (X.E 1, 8, .inl fell))]) h 1 rfl g7 rfl dX8_fall_41 ?_
        refine g_aload_n h 0 dX8_fall_42 rfl rfl ?_
        refine g_sipush (v := 1082) h dX8_fall_43 ksipush_1082 ?_
        obtain ⟨above_8, below_9, fallen_10, torn_11, w_12, up_13, down_14, fell_15, hv, hf⟩ := ob8 hf
        refine g_callV (ci := 8) (q0 := 0) (n := 1) (As := [.int 1082]) (st := []) (wr := []) (isC := [0, 1, 2, 3, 4]) (isR := []) h hR (ct_X8_settles (a := a) (a_w := a_w) (a_tape := a_tape) (a_lane := a_lane) (a_size := a_size) (a_items := a_items) (a_up := a_up) (a_down := a_down) (a_fell := a_fell) (a_read := a_read) (a_comesUp := a_comesUp) (a_comesDown := a_comesDown) (a_held := a_held) (x1 := 1082) (isImage := isImage) (taped := taped) (above := above) (below := below) (fallen := fallen) (torn := torn) (at_ := at_) (start := start) (number := number) (w := upd w_6 (1102 + x1).toNatClampNeg 0) (up := up) (down := down) (fell := fell) hv) rfl rfl (lw_V q1276 q1278 qs35 q80 q1279) (by decide +kernel) rfl ⟨rfl, rfl, rfl, rfl, by decide⟩ ⟨fle rfl, fle rfl, fle rfl, fle rfl, fle rfl⟩ rfl dX8_fall_46 (pin (perm := [0, 1, 2, 3, 4]) (ws' := [(a, .inr (8, [.ref a_w, .int isImage, .ref a_tape, .int taped, .ref a_lane, .ref a_size, .ref a_items, .ref a_up, .ref a_down, .int above_8, .int below_9, .ref a_fell, .int fallen_10, .int torn_11, .int at_, .int start, .int number, .ref a_read, .ref a_comesUp, .ref a_comesDown, .ref a_held])), (a_w, .inl (X.E 1, 1142, .inl w_12)), (a_up, .inl (X.E 1, 8, .inl up_13)), (a_down, .inl (X.E 1, 8, .inl down_14)), (a_fell, .inl (X.E 1, 8, .inl fell_15))]) (stk := []) rfl rfl rfl ?_)
        clear hv
        refine g_iload_n h 2 dX8_fall_49 rfl rfl ?_
        refine g_iconst (v := (-1)) h dX8_fall_50 kiconst_m1 ?_
        refine g_icmp_ne (tgt := 61) h dX8_fall_51 rfl hf (fun c16 hf => ?_) (fun c16 hf => ?_)
        · refine g_aload_n h 0 dX8_fall_54 rfl rfl ?_
          refine g_get (ci := 8) (v := .int fallen_10) h in_X8 0 12 rfl rfl (fle rfl) rfl q1178 rfl dX8_fall_55 ?_
          refine g_goto (tgt := 80) h dX8_fall_58 rfl ?_
          obtain ⟨rfl, rfl, rfl, rfl, rfl, rfl, rfl, rfl, rfl⟩ := sj9 hf
          exact g_iret h hF [0, 1, 2, 3, 4] rfl rfl ⟨rfl, rfl⟩ (fle rfl) (fle rfl) dX8_fall_80
        · refine g_iload_n h 2 dX8_fall_61 rfl rfl ?_
          refine g_aload_n h 0 dX8_fall_62 rfl rfl ?_
          refine g_get (ci := 8) (v := .int fallen_10) h in_X8 0 12 rfl rfl (fle rfl) rfl q1178 rfl dX8_fall_63 ?_
          refine g_icmp_ge (tgt := 78) h dX8_fall_66 rfl hf (fun c17 hf => ?_) (fun c17 hf => ?_)
          · refine g_bipush (v := (-4)) h dX8_fall_78 kbipush_m4 ?_
            obtain ⟨rfl, rfl, rfl, rfl, rfl, rfl, rfl, rfl, rfl⟩ := sj9 hf
            exact g_iret h hF [0, 1, 2, 3, 4] rfl rfl ⟨rfl, rfl⟩ (fle rfl) (fle rfl) dX8_fall_80
          · refine g_aload_n h 0 dX8_fall_69 rfl rfl ?_
            refine g_get (ci := 8) (v := .ref a_fell) h in_X8 0 11 rfl rfl (fle rfl) rfl q1177 rfl dX8_fall_70 ?_
            refine g_iload_n h 2 dX8_fall_73 rfl rfl ?_
            obtain ⟨g18, hf⟩ := gn hf
            refine g_iaload h 4 rfl g18 dX8_fall_74 ?_
            refine g_goto (tgt := 80) h dX8_fall_75 rfl ?_
            obtain ⟨rfl, rfl, rfl, rfl, rfl, rfl, rfl, rfl, rfl⟩ := sj9 hf
            exact g_iret h hF [0, 1, 2, 3, 4] rfl rfl ⟨rfl, rfl⟩ (fle rfl) (fle rfl) dX8_fall_80
    · refine g_iconst (v := (-1)) h dX8_fall_13 kiconst_m1 ?_
      obtain ⟨rfl, rfl, rfl, rfl, rfl, rfl, rfl, rfl, rfl⟩ := sj9 hf
      exact g_iret h hF [0, 1, 2, 3, 4] rfl rfl ⟨rfl, rfl⟩ (fle rfl) (fle rfl) dX8_fall_14
set_option maxHeartbeats 4000000 in
set_option maxRecDepth 100000 in
theorem w_X8_tie_L33 {X : Cx} {a a_comesDown a_comesUp a_down a_fell a_held a_items a_lane a_read a_size a_tape a_up a_w : Nat} {x1 : Int32} {x2 : Int32} {isImage : Int32} {taped : Int32} {above : Int32} {below : Int32} {fallen : Int32} {torn : Int32} {at_ : Int32} {start : Int32} {number : Int32} {ce sl : Nat} (h : Ok X cX8_tie RX8) (hR : Rm X 3 70 0 0) (hL : ∀ i, i < 9 → i < X.nL) (hce : ce ≤ 0) (hsl : sl ≤ 0) : ∀ (n0 : Nat) (x3 : Int32) (x4 : Int32) (x5 : Int32) (x6 : Int32) (w : Nat → Int32) (up : Nat → Int32) (down : Nat → Int32) {o_x3 : Int32} {o_x4 : Int32} {o_x5 : Int32} {o_w : Nat → Int32} {o_up : Nat → Int32} {o_down : Nat → Int32}, f_X8_tie_L33 x1 n0 x3 x4 x5 x6 w up down = some (o_x3, o_x4, o_x5, o_w, o_up, o_down) → (G X [(a, .inr (8, [.ref a_w, .int isImage, .ref a_tape, .int taped, .ref a_lane, .ref a_size, .ref a_items, .ref a_up, .ref a_down, .int above, .int below, .ref a_fell, .int fallen, .int torn, .int at_, .int start, .int number, .ref a_read, .ref a_comesUp, .ref a_comesDown, .ref a_held])), (a_w, .inl (X.E 1, 1142, .inl o_w)), (a_up, .inl (X.E 1, 8, .inl o_up)), (a_down, .inl (X.E 1, 8, .inl o_down))] [(2, .int x2), (3, .int o_x3), (4, .int o_x4), (5, .int o_x5)] ce sl 174 []) → G X [(a, .inr (8, [.ref a_w, .int isImage, .ref a_tape, .int taped, .ref a_lane, .ref a_size, .ref a_items, .ref a_up, .ref a_down, .int above, .int below, .ref a_fell, .int fallen, .int torn, .int at_, .int start, .int number, .ref a_read, .ref a_comesUp, .ref a_comesDown, .ref a_held])), (a_w, .inl (X.E 1, 1142, .inl w)), (a_up, .inl (X.E 1, 8, .inl up)), (a_down, .inl (X.E 1, 8, .inl down))] [(0, .ref a), (1, .int x1), (2, .int x2), (3, .int x3), (4, .int x4), (5, .int x5), (6, .int x6)] ce sl 33 [] := by
  intro n0
  induction n0 with
  | zero => intro x3 x4 x5 x6 w up down o_x3 o_x4 o_x5 o_w o_up o_down hf; exact nomatch (show (none : Option _) = some _ from hf)
  | succ n0 ih =>
    intro x3 x4 x5 x6 w up down o_x3 o_x4 o_x5 o_w o_up o_down hf k0
    replace hf : t_X8_tie_L33 x1 (f_X8_tie_L33 x1 n0) x3 x4 x5 x6 w up down = some (o_x3, o_x4, o_x5, o_w, o_up, o_down) := hf
    unfold t_X8_tie_L33 at hf
    refine g_iload h 6 dX8_tie_33 rfl ?_
    refine g_bipush (v := 99) h dX8_tie_35 kbipush_99 ?_
    refine g_icmp_gt (tgt := 174) h dX8_tie_37 rfl hf (fun c5 hf => ?_) (fun c5 hf => ?_)
    · obtain ⟨rfl, rfl, rfl, rfl, rfl, rfl⟩ := sj6 hf
      exact G.lsub [2, 3, 4, 5] rfl k0
    · refine g_aload_n h 0 dX8_tie_40 rfl rfl ?_
      obtain ⟨w_6, hv, hf⟩ := ob1 hf
      refine g_callV (ci := 8) (q0 := 0) (n := 0) (As := []) (st := []) (wr := [(a_up, .inl (X.E 1, 8, .inl up)), (a_down, .inl (X.E 1, 8, .inl down))]) (isC := [0, 1]) (isR := [2, 3]) h hR (ct_X8_tries (a := a) (a_w := a_w) (a_tape := a_tape) (a_lane := a_lane) (a_size := a_size) (a_items := a_items) (a_up := a_up) (a_down := a_down) (a_fell := a_fell) (a_read := a_read) (a_comesUp := a_comesUp) (a_comesDown := a_comesDown) (a_held := a_held) (isImage := isImage) (taped := taped) (above := above) (below := below) (fallen := fallen) (torn := torn) (at_ := at_) (start := start) (number := number) (w := w) hv) rfl rfl (lw_V q1477 q1479 qs60 q80 q1480) (by decide +kernel) rfl ⟨rfl, rfl, rfl, rfl, by decide⟩ ⟨hce, hsl, fle rfl, fle rfl, fle rfl⟩ rfl dX8_tie_41 (pin (perm := [2, 3, 0, 1]) (ws' := [(a, .inr (8, [.ref a_w, .int isImage, .ref a_tape, .int taped, .ref a_lane, .ref a_size, .ref a_items, .ref a_up, .ref a_down, .int above, .int below, .ref a_fell, .int fallen, .int torn, .int at_, .int start, .int number, .ref a_read, .ref a_comesUp, .ref a_comesDown, .ref a_held])), (a_w, .inl (X.E 1, 1142, .inl w_6)), (a_up, .inl (X.E 1, 8, .inl up)), (a_down, .inl (X.E 1, 8, .inl down))]) (stk := []) rfl rfl rfl ?_)
      clear hv
      refine g_aload_n h 0 dX8_tie_44 rfl rfl ?_
      refine g_get (ci := 8) (v := .ref a_w) h in_X8 0 0 rfl rfl (fle rfl) rfl q1166 rfl dX8_tie_45 ?_
      refine g_sipush (v := 1102) h dX8_tie_48 ksipush_1102 ?_
      refine g_iload_n h 1 dX8_tie_51 rfl rfl ?_
      refine g_iadd h dX8_tie_52 ?_
      refine g_iconst (v := 1) h dX8_tie_53 kiconst_1 ?_
      obtain ⟨g7, hf⟩ := gn hf
      refine g_iastore (ws' := [(a, .inr (8, [.ref a_w, .int isImage, .ref a_tape, .int taped, .ref a_lane, .ref a_size, .ref a_items, .ref a_up, .ref a_down, .int above, .int below, .ref a_fell, .int fallen, .int torn, .int at_, .int start, .int number, .ref a_read, .ref a_comesUp, .ref a_comesDown, .ref a_held])), (a_w, .inl (X.E 1, 1142, .inl (upd w_6 (1102 + x1).toNatClampNeg 1))), (a_up, .inl (X.E 1, 8, .inl up)), (a_down, .inl (X.E 1, 8, .inl down))]) h 1 rfl g7 rfl dX8_tie_54 ?_
      refine g_aload_n h 0 dX8_tie_55 rfl rfl ?_
      refine g_get (ci := 8) (v := .ref a_w) h in_X8 0 0 rfl rfl (fle rfl) rfl q1166 rfl dX8_tie_56 ?_
      refine g_sipush (v := 1110) h dX8_tie_59 ksipush_1110 ?_
      refine g_iload_n h 1 dX8_tie_62 rfl rfl ?_
      refine g_iadd h dX8_tie_63 ?_
      refine g_iload h 6 dX8_tie_64 rfl ?_
      obtain ⟨g8, hf⟩ := gn hf
      refine g_iastore (ws' := [(a, .inr (8, [.ref a_w, .int isImage, .ref a_tape, .int taped, .ref a_lane, .ref a_size, .ref a_items, .ref a_up, .ref a_down, .int above, .int below, .ref a_fell, .int fallen, .int torn, .int at_, .int start, .int number, .ref a_read, .ref a_comesUp, .ref a_comesDown, .ref a_held])), (a_w, .inl (X.E 1, 1142, .inl (upd (upd w_6 (1102 + x1).toNatClampNeg 1) (1110 + x1).toNatClampNeg x6))), (a_up, .inl (X.E 1, 8, .inl up)), (a_down, .inl (X.E 1, 8, .inl down))]) h 1 rfl g8 rfl dX8_tie_66 ?_
      refine g_aload_n h 0 dX8_tie_67 rfl rfl ?_
      refine g_sipush (v := 1082) h dX8_tie_68 ksipush_1082 ?_
      obtain ⟨up_9, down_10, hv, hf⟩ := ob2 hf
      refine g_callV (ci := 8) (q0 := 0) (n := 1) (As := [.int 1082]) (st := []) (wr := []) (isC := [0, 1, 2, 3]) (isR := []) h hR (ct_X8_layPulls (a := a) (a_w := a_w) (a_tape := a_tape) (a_lane := a_lane) (a_size := a_size) (a_items := a_items) (a_up := a_up) (a_down := a_down) (a_fell := a_fell) (a_read := a_read) (a_comesUp := a_comesUp) (a_comesDown := a_comesDown) (a_held := a_held) (x1 := 1082) (isImage := isImage) (taped := taped) (above := above) (below := below) (fallen := fallen) (torn := torn) (at_ := at_) (start := start) (number := number) (w := upd (upd w_6 (1102 + x1).toNatClampNeg 1) (1110 + x1).toNatClampNeg x6) (up := up) (down := down) hv) rfl rfl (lw_V q1280 q1282 qs36 q80 q1283) (by decide +kernel) rfl ⟨rfl, rfl, rfl, rfl, by decide⟩ ⟨hce, hsl, fle rfl, fle rfl, fle rfl⟩ rfl dX8_tie_71 (pin (perm := [0, 1, 2, 3]) (ws' := [(a, .inr (8, [.ref a_w, .int isImage, .ref a_tape, .int taped, .ref a_lane, .ref a_size, .ref a_items, .ref a_up, .ref a_down, .int above, .int below, .ref a_fell, .int fallen, .int torn, .int at_, .int start, .int number, .ref a_read, .ref a_comesUp, .ref a_comesDown, .ref a_held])), (a_w, .inl (X.E 1, 1142, .inl (upd (upd w_6 (1102 + x1).toNatClampNeg 1) (1110 + x1).toNatClampNeg x6))), (a_up, .inl (X.E 1, 8, .inl up_9)), (a_down, .inl (X.E 1, 8, .inl down_10))]) (stk := []) rfl rfl rfl ?_)
      clear hv
      refine g_aload_n h 0 dX8_tie_74 rfl rfl ?_
      refine g_sipush (v := 1082) h dX8_tie_75 ksipush_1082 ?_
      obtain ⟨r_11, hv, hf⟩ := ob1 hf
      refine g_callV (ci := 8) (q0 := 0) (n := 1) (As := [.int 1082]) (st := []) (wr := []) (isC := [0, 1, 2, 3]) (isR := []) h hR (ct_X8_greatest (a := a) (a_w := a_w) (a_tape := a_tape) (a_lane := a_lane) (a_size := a_size) (a_items := a_items) (a_up := a_up) (a_down := a_down) (a_fell := a_fell) (a_read := a_read) (a_comesUp := a_comesUp) (a_comesDown := a_comesDown) (a_held := a_held) (x1 := 1082) (isImage := isImage) (taped := taped) (above := above) (below := below) (fallen := fallen) (torn := torn) (at_ := at_) (start := start) (number := number) (w := upd (upd w_6 (1102 + x1).toNatClampNeg 1) (1110 + x1).toNatClampNeg x6) (up := up_9) (down := down_10) hv) rfl rfl (lw_V q1403 q1405 qs54 q80 q1406) (by decide +kernel) rfl ⟨rfl, rfl, rfl, rfl, by decide⟩ ⟨hce, hsl, fle rfl, fle rfl, fle rfl⟩ rfl dX8_tie_78 (pin (perm := [0, 1, 2, 3]) (ws' := [(a, .inr (8, [.ref a_w, .int isImage, .ref a_tape, .int taped, .ref a_lane, .ref a_size, .ref a_items, .ref a_up, .ref a_down, .int above, .int below, .ref a_fell, .int fallen, .int torn, .int at_, .int start, .int number, .ref a_read, .ref a_comesUp, .ref a_comesDown, .ref a_held])), (a_w, .inl (X.E 1, 1142, .inl (upd (upd w_6 (1102 + x1).toNatClampNeg 1) (1110 + x1).toNatClampNeg x6))), (a_up, .inl (X.E 1, 8, .inl up_9)), (a_down, .inl (X.E 1, 8, .inl down_10))]) (stk := [.int r_11]) rfl rfl rfl ?_)
      clear hv
      refine g_istore (lv' := [(7, .int r_11), (0, .ref a), (1, .int x1), (2, .int x2), (3, .int x3), (4, .int x4), (5, .int x5), (6, .int x6)]) h dX8_tie_81 (hL 7 (fle rfl)) rfl ?_
      refine g_iload h 6 dX8_tie_83 rfl ?_
      obtain ⟨z_15, hw, hf⟩ := ob1 hf
      have K85 : G X [(a, .inr (8, [.ref a_w, .int isImage, .ref a_tape, .int taped, .ref a_lane, .ref a_size, .ref a_items, .ref a_up, .ref a_down, .int above, .int below, .ref a_fell, .int fallen, .int torn, .int at_, .int start, .int number, .ref a_read, .ref a_comesUp, .ref a_comesDown, .ref a_held])), (a_w, .inl (X.E 1, 1142, .inl (upd (upd w_6 (1102 + x1).toNatClampNeg 1) (1110 + x1).toNatClampNeg x6))), (a_up, .inl (X.E 1, 8, .inl up_9)), (a_down, .inl (X.E 1, 8, .inl down_10))] [(0, .ref a), (1, .int x1), (2, .int x2), (3, .int x3), (4, .int x4), (5, .int x5), (6, .int x6), (7, .int r_11)] ce sl 116 [.int z_15] := by
        clear hw
        refine g_istore (lv' := [(8, .int z_15), (0, .ref a), (1, .int x1), (2, .int x2), (3, .int x3), (4, .int x4), (5, .int x5), (6, .int x6), (7, .int r_11)]) h dX8_tie_116 (hL 8 (fle rfl)) rfl ?_
        refine g_iload h 0 dX8_tie_118 rfl ?_
        obtain ⟨z_19, hw, hf⟩ := ob1 hf
        have K120 : G X [(a, .inr (8, [.ref a_w, .int isImage, .ref a_tape, .int taped, .ref a_lane, .ref a_size, .ref a_items, .ref a_up, .ref a_down, .int above, .int below, .ref a_fell, .int fallen, .int torn, .int at_, .int start, .int number, .ref a_read, .ref a_comesUp, .ref a_comesDown, .ref a_held])), (a_w, .inl (X.E 1, 1142, .inl (upd (upd w_6 (1102 + x1).toNatClampNeg 1) (1110 + x1).toNatClampNeg x6))), (a_up, .inl (X.E 1, 8, .inl up_9)), (a_down, .inl (X.E 1, 8, .inl down_10))] [(0, .ref a), (1, .int x1), (2, .int x2), (4, .int x4), (5, .int x5), (6, .int x6), (7, .int r_11), (8, .int z_15)] ce sl 129 [.int z_19] := by
          clear hw
          refine g_istore_n (lv' := [(3, .int z_19), (0, .ref a), (1, .int x1), (2, .int x2), (4, .int x4), (5, .int x5), (6, .int x6), (7, .int r_11), (8, .int z_15)]) h dX8_tie_129 rfl (hL 3 (fle rfl)) rfl ?_
          refine g_iload h 8 dX8_tie_130 rfl ?_
          obtain ⟨z_22, hw, hf⟩ := ob1 hf
          have K132 : G X [(a, .inr (8, [.ref a_w, .int isImage, .ref a_tape, .int taped, .ref a_lane, .ref a_size, .ref a_items, .ref a_up, .ref a_down, .int above, .int below, .ref a_fell, .int fallen, .int torn, .int at_, .int start, .int number, .ref a_read, .ref a_comesUp, .ref a_comesDown, .ref a_held])), (a_w, .inl (X.E 1, 1142, .inl (upd (upd w_6 (1102 + x1).toNatClampNeg 1) (1110 + x1).toNatClampNeg x6))), (a_up, .inl (X.E 1, 8, .inl up_9)), (a_down, .inl (X.E 1, 8, .inl down_10))] [(0, .ref a), (1, .int x1), (2, .int x2), (3, .int z_19), (5, .int x5), (6, .int x6), (7, .int r_11), (8, .int z_15)] ce sl 147 [.int z_22] := by
            clear hw
            refine g_istore (lv' := [(4, .int z_22), (0, .ref a), (1, .int x1), (2, .int x2), (3, .int z_19), (5, .int x5), (6, .int x6), (7, .int r_11), (8, .int z_15)]) h dX8_tie_147 (hL 4 (fle rfl)) rfl ?_
            refine g_iload h 8 dX8_tie_149 rfl ?_
            refine g_if_eq (tgt := 164) h dX8_tie_151 rfl hf (fun c24 hf => ?_) (fun c24 hf => ?_)
            · refine g_iload h 5 dX8_tie_164 rfl ?_
              refine g_istore (lv' := [(5, .int x5), (4, .int z_22), (0, .ref a), (1, .int x1), (2, .int x2), (3, .int z_19), (6, .int x6), (7, .int r_11), (8, .int z_15)]) h dX8_tie_166 (hL 5 (fle rfl)) rfl ?_
              refine g_iinc (j := 6) (v := (x6 + 1)) (lv' := [(6, .int (x6 + 1)), (5, .int x5), (4, .int z_22), (0, .ref a), (1, .int x1), (2, .int x2), (3, .int z_19), (7, .int r_11), (8, .int z_15)]) h dX8_tie_168 rfl (kinc_1 _) (hL 6 (fle rfl)) rfl ?_
              refine g_goto (tgt := 33) h dX8_tie_171 rfl ?_
              exact G.lsub [3, 4, 5, 6, 2, 1, 0] rfl (ih _ _ _ _ _ _ _ hf k0)
            · refine g_aload_n h 1 dX8_tie_154 rfl rfl ?_
              refine g_get (ci := 8) (v := .ref a_down) h in_X8 0 8 rfl rfl (fle rfl) rfl q1174 rfl dX8_tie_155 ?_
              refine g_iload h 7 dX8_tie_158 rfl ?_
              obtain ⟨g25, hf⟩ := gn hf
              refine g_iaload h 3 rfl g25 dX8_tie_160 ?_
              refine g_goto (tgt := 166) h dX8_tie_161 rfl ?_
              refine g_istore (lv' := [(5, .int (down_10 r_11.toNatClampNeg)), (4, .int z_22), (0, .ref a), (1, .int x1), (2, .int x2), (3, .int z_19), (6, .int x6), (7, .int r_11), (8, .int z_15)]) h dX8_tie_166 (hL 5 (fle rfl)) rfl ?_
              refine g_iinc (j := 6) (v := (x6 + 1)) (lv' := [(6, .int (x6 + 1)), (5, .int (down_10 r_11.toNatClampNeg)), (4, .int z_22), (0, .ref a), (1, .int x1), (2, .int x2), (3, .int z_19), (7, .int r_11), (8, .int z_15)]) h dX8_tie_168 rfl (kinc_1 _) (hL 6 (fle rfl)) rfl ?_
              refine g_goto (tgt := 33) h dX8_tie_171 rfl ?_
              exact G.lsub [3, 4, 5, 6, 2, 1, 0] rfl (ih _ _ _ _ _ _ _ hf k0)
          clear hf
          have hf := hw
          clear hw
          refine g_if_eq (tgt := 145) h dX8_tie_132 rfl hf (fun c20 hf => ?_) (fun c20 hf => ?_)
          · refine g_iload h 4 dX8_tie_145 rfl ?_
            obtain rfl := sj1 hf
            exact G.lsub [1, 2, 3, 0, 5, 6, 7, 8] rfl K132
          · refine g_aload_n h 1 dX8_tie_135 rfl rfl ?_
            refine g_get (ci := 8) (v := .ref a_up) h in_X8 0 7 rfl rfl (fle rfl) rfl q1173 rfl dX8_tie_136 ?_
            refine g_iload h 7 dX8_tie_139 rfl ?_
            obtain ⟨g23, hf⟩ := gn hf
            refine g_iaload h 2 rfl g23 dX8_tie_141 ?_
            refine g_goto (tgt := 147) h dX8_tie_142 rfl ?_
            obtain rfl := sj1 hf
            exact G.lsub [1, 2, 3, 0, 5, 6, 7, 8] rfl K132
        clear hf
        have hf := hw
        clear hw
        refine g_if_eq (tgt := 128) h dX8_tie_120 rfl hf (fun c18 hf => ?_) (fun c18 hf => ?_)
        · refine g_iload_n h 4 dX8_tie_128 rfl rfl ?_
          obtain rfl := sj1 hf
          exact G.lsub [1, 2, 3, 5, 6, 7, 8, 0] rfl K120
        · refine g_iload h 7 dX8_tie_123 rfl ?_
          refine g_goto (tgt := 129) h dX8_tie_125 rfl ?_
          obtain rfl := sj1 hf
          exact G.lsub [1, 2, 3, 5, 6, 7, 8, 0] rfl K120
      clear hf
      have hf := hw
      clear hw
      refine g_if_eq (tgt := 111) h dX8_tie_85 rfl hf (fun c12 hf => ?_) (fun c12 hf => ?_)
      · refine g_iconst (v := 1) h dX8_tie_111 kiconst_1 ?_
        refine g_goto (tgt := 116) h dX8_tie_112 rfl ?_
        obtain rfl := sj1 hf
        exact G.lsub [1, 2, 3, 4, 5, 6, 7, 0] rfl K85
      · refine g_aload_n h 1 dX8_tie_88 rfl rfl ?_
        refine g_get (ci := 8) (v := .ref a_up) h in_X8 0 7 rfl rfl (fle rfl) rfl q1173 rfl dX8_tie_89 ?_
        refine g_iload h 0 dX8_tie_92 rfl ?_
        obtain ⟨g16, hf⟩ := gn hf
        refine g_iaload h 2 rfl g16 dX8_tie_94 ?_
        refine g_iload h 6 dX8_tie_95 rfl ?_
        refine g_imul h dX8_tie_97 ?_
        refine g_iload h 5 dX8_tie_98 rfl ?_
        refine g_aload_n h 1 dX8_tie_100 rfl rfl ?_
        refine g_get (ci := 8) (v := .ref a_down) h in_X8 0 8 rfl rfl (fle rfl) rfl q1174 rfl dX8_tie_101 ?_
        refine g_iload h 0 dX8_tie_104 rfl ?_
        refine g_iaload h 3 rfl g16 dX8_tie_106 ?_
        refine g_imul h dX8_tie_107 ?_
        refine g_icmp_ge (tgt := 115) h dX8_tie_108 rfl hf (fun c17 hf => ?_) (fun c17 hf => ?_)
        · refine g_iconst (v := 0) h dX8_tie_115 kiconst_0 ?_
          obtain rfl := sj1 hf
          exact G.lsub [1, 2, 3, 4, 5, 6, 7, 0] rfl K85
        · refine g_iconst (v := 1) h dX8_tie_111 kiconst_1 ?_
          refine g_goto (tgt := 116) h dX8_tie_112 rfl ?_
          obtain rfl := sj1 hf
          exact G.lsub [1, 2, 3, 4, 5, 6, 7, 0] rfl K85
set_option maxHeartbeats 4000000 in
set_option maxRecDepth 100000 in
theorem ct_X8_tie {l : Launch} {D : va_G} {E : Ety} {a a_w a_tape a_lane a_size a_items a_up a_down a_fell a_read a_comesUp a_comesDown a_held : Nat} {x1 : Int32} {x2 : Int32} {isImage : Int32} {taped : Int32} {above : Int32} {below : Int32} {fallen : Int32} {torn : Int32} {at_ : Int32} {start : Int32} {number : Int32} {w : Nat → Int32} {up : Nat → Int32} {down : Nat → Int32} {r_ : Int32} {o_w : Nat → Int32} {o_up : Nat → Int32} {o_down : Nat → Int32} (hf : f_X8_tie x1 x2 w up down = some (r_, o_w, o_up, o_down)) : Ct l yX8_tie cX8_tie 9 (some .int) 3 70 0 0 D E [.ref a, .int x1, .int x2] [(a, .inr (8, [.ref a_w, .int isImage, .ref a_tape, .int taped, .ref a_lane, .ref a_size, .ref a_items, .ref a_up, .ref a_down, .int above, .int below, .ref a_fell, .int fallen, .int torn, .int at_, .int start, .int number, .ref a_read, .ref a_comesUp, .ref a_comesDown, .ref a_held])), (a_w, .inl (E 1, 1142, .inl w)), (a_up, .inl (E 1, 8, .inl up)), (a_down, .inl (E 1, 8, .inl down))] (Pn (some (.int r_)) [(a, .inr (8, [.ref a_w, .int isImage, .ref a_tape, .int taped, .ref a_lane, .ref a_size, .ref a_items, .ref a_up, .ref a_down, .int above, .int below, .ref a_fell, .int fallen, .int torn, .int at_, .int start, .int number, .ref a_read, .ref a_comesUp, .ref a_comesDown, .ref a_held])), (a_w, .inl (E 1, 1142, .inl o_w)), (a_up, .inl (E 1, 8, .inl o_up)), (a_down, .inl (E 1, 8, .inl o_down))]) := by
  refine ct_of (own := RX8) (plainFor_of_name (by decide)) rfl (fle rfl) rfl ?_
  intro X hl hD hE hnL hXF h hR hF hnm
  subst hl; subst hD; subst hE
  have hL : ∀ i, i < 9 → i < X.nL := fun i hi => by rw [hnL]; exact hi
  unfold f_X8_tie at hf
  refine g_aload_n h 0 dX8_tie_0 rfl rfl ?_
  refine g_iload_n h 1 dX8_tie_1 rfl rfl ?_
  obtain ⟨r_1, hv, hf⟩ := ob1 hf
  refine g_callV (ci := 8) (q0 := 0) (n := 1) (As := [.int x1]) (st := []) (wr := [(a_up, .inl (X.E 1, 8, .inl up)), (a_down, .inl (X.E 1, 8, .inl down))]) (isC := [0, 1]) (isR := [2, 3]) h hR (ct_X8_isPerson (a := a) (a_w := a_w) (a_tape := a_tape) (a_lane := a_lane) (a_size := a_size) (a_items := a_items) (a_up := a_up) (a_down := a_down) (a_fell := a_fell) (a_read := a_read) (a_comesUp := a_comesUp) (a_comesDown := a_comesDown) (a_held := a_held) (x1 := x1) (isImage := isImage) (taped := taped) (above := above) (below := below) (fallen := fallen) (torn := torn) (at_ := at_) (start := start) (number := number) (w := w) hv) rfl rfl (lw_V q1340 q1342 qs45 q80 q1343) (by decide +kernel) rfl ⟨rfl, rfl, rfl, rfl, by decide⟩ ⟨fle rfl, fle rfl, fle rfl, fle rfl, fle rfl⟩ rfl dX8_tie_2 (pin (perm := [2, 3, 0, 1]) (ws' := [(a, .inr (8, [.ref a_w, .int isImage, .ref a_tape, .int taped, .ref a_lane, .ref a_size, .ref a_items, .ref a_up, .ref a_down, .int above, .int below, .ref a_fell, .int fallen, .int torn, .int at_, .int start, .int number, .ref a_read, .ref a_comesUp, .ref a_comesDown, .ref a_held])), (a_w, .inl (X.E 1, 1142, .inl w)), (a_up, .inl (X.E 1, 8, .inl up)), (a_down, .inl (X.E 1, 8, .inl down))]) (stk := [.int r_1]) rfl rfl rfl ?_)
  clear hv
  refine g_if_eq (tgt := 20) h dX8_tie_5 rfl hf (fun c2 hf => ?_) (fun c2 hf => ?_)
  · refine g_iconst (v := (-1)) h dX8_tie_20 kiconst_m1 ?_
    obtain ⟨rfl, rfl, rfl, rfl⟩ := sj4 hf
    exact g_iret h hF [0, 1, 2, 3] rfl rfl ⟨rfl, rfl⟩ (fle rfl) (fle rfl) dX8_tie_21
  · refine g_iload_n h 2 dX8_tie_8 rfl rfl ?_
    refine g_i2l h dX8_tie_9 ?_
    refine g_lconst (v := 0) h dX8_tie_10 rfl ?_
    refine g_ldc2 h q1382 dX8_tie_11 ?_
    obtain ⟨r_3, hv, hf⟩ := ob1 hf
    refine g_callS (n := 3) (As := [.long x2.toInt64, .long 0, .long 2]) (st := []) (wr := [(a, .inr (8, [.ref a_w, .int isImage, .ref a_tape, .int taped, .ref a_lane, .ref a_size, .ref a_items, .ref a_up, .ref a_down, .int above, .int below, .ref a_fell, .int fallen, .int torn, .int at_, .int start, .int number, .ref a_read, .ref a_comesUp, .ref a_comesDown, .ref a_held])), (a_w, .inl (X.E 1, 1142, .inl w)), (a_up, .inl (X.E 1, 8, .inl up)), (a_down, .inl (X.E 1, 8, .inl down))]) (isC := []) (isR := [0, 1, 2, 3]) h hR (ct_X8_in (x0 := x2.toInt64) (x2 := 0) (x4 := 2) hv) (lw_S q1236 q1237 q80 q1238) (by decide +kernel) rfl ⟨rfl, rfl, rfl, rfl, by decide⟩ ⟨fle rfl, fle rfl, fle rfl, fle rfl, fle rfl⟩ rfl dX8_tie_14 (pin (perm := [0, 1, 2, 3]) (ws' := [(a, .inr (8, [.ref a_w, .int isImage, .ref a_tape, .int taped, .ref a_lane, .ref a_size, .ref a_items, .ref a_up, .ref a_down, .int above, .int below, .ref a_fell, .int fallen, .int torn, .int at_, .int start, .int number, .ref a_read, .ref a_comesUp, .ref a_comesDown, .ref a_held])), (a_w, .inl (X.E 1, 1142, .inl w)), (a_up, .inl (X.E 1, 8, .inl up)), (a_down, .inl (X.E 1, 8, .inl down))]) (stk := [.int r_3]) rfl rfl rfl ?_)
    clear hv
    refine g_if_ne (tgt := 22) h dX8_tie_17 rfl hf (fun c4 hf => ?_) (fun c4 hf => ?_)
    · refine g_iconst (v := (-1)) h dX8_tie_20 kiconst_m1 ?_
      obtain ⟨rfl, rfl, rfl, rfl⟩ := sj4 hf
      exact g_iret h hF [0, 1, 2, 3] rfl rfl ⟨rfl, rfl⟩ (fle rfl) (fle rfl) dX8_tie_21
    · refine g_iconst (v := 0) h dX8_tie_22 kiconst_0 ?_
      refine g_istore_n (lv' := [(3, .int 0), (0, .ref a), (1, .int x1), (2, .int x2)]) h dX8_tie_23 rfl (hL 3 (fle rfl)) rfl ?_
      refine g_iconst (v := 1) h dX8_tie_24 kiconst_1 ?_
      refine g_istore (lv' := [(4, .int 1), (3, .int 0), (0, .ref a), (1, .int x1), (2, .int x2)]) h dX8_tie_25 (hL 4 (fle rfl)) rfl ?_
      refine g_iconst (v := 0) h dX8_tie_27 kiconst_0 ?_
      refine g_istore (lv' := [(5, .int 0), (4, .int 1), (3, .int 0), (0, .ref a), (1, .int x1), (2, .int x2)]) h dX8_tie_28 (hL 5 (fle rfl)) rfl ?_
      refine g_iconst (v := 0) h dX8_tie_30 kiconst_0 ?_
      refine g_istore (lv' := [(6, .int 0), (5, .int 0), (4, .int 1), (3, .int 0), (0, .ref a), (1, .int x1), (2, .int x2)]) h dX8_tie_31 (hL 6 (fle rfl)) rfl ?_
      refine G.lsub (lv' := [(0, .ref a), (1, .int x1), (2, .int x2), (3, .int 0), (4, .int 1), (5, .int 0), (6, .int 0)]) [4, 5, 6, 3, 2, 1, 0] rfl ?_
      obtain ⟨x3_26, x4_27, x5_28, w_29, up_30, down_31, hv, hf⟩ := ob6 hf
      refine w_X8_tie_L33 (x1 := x1) (x2 := x2) (isImage := isImage) (taped := taped) (above := above) (below := below) (fallen := fallen) (torn := torn) (at_ := at_) (start := start) (number := number) h hR hL (fle rfl) (fle rfl) FU _ _ _ _ _ _ _ hv ?_
      · clear hv
        refine g_iload_n h 0 dX8_tie_174 rfl rfl ?_
        refine g_if_ne (tgt := 182) h dX8_tie_175 rfl hf (fun c32 hf => ?_) (fun c32 hf => ?_)
        · refine g_iload_n h 1 dX8_tie_178 rfl rfl ?_
          refine g_goto (tgt := 192) h dX8_tie_179 rfl ?_
          obtain ⟨rfl, rfl, rfl, rfl⟩ := sj4 hf
          exact g_iret h hF [0, 1, 2, 3] rfl rfl ⟨rfl, rfl⟩ (fle rfl) (fle rfl) dX8_tie_192
        · refine g_iload h 2 dX8_tie_182 rfl ?_
          refine g_iload h 3 dX8_tie_184 rfl ?_
          refine g_iload_n h 0 dX8_tie_186 rfl rfl ?_
          refine g_iconst (v := 1) h dX8_tie_187 kiconst_1 ?_
          refine g_isub h dX8_tie_188 ?_
          obtain ⟨r_33, hv, hf⟩ := ob1 hf
          refine g_callS (n := 3) (As := [.int x4_27, .int x5_28, .int (x2 - 1)]) (st := []) (wr := [(a, .inr (8, [.ref a_w, .int isImage, .ref a_tape, .int taped, .ref a_lane, .ref a_size, .ref a_items, .ref a_up, .ref a_down, .int above, .int below, .ref a_fell, .int fallen, .int torn, .int at_, .int start, .int number, .ref a_read, .ref a_comesUp, .ref a_comesDown, .ref a_held])), (a_w, .inl (X.E 1, 1142, .inl w_29)), (a_up, .inl (X.E 1, 8, .inl up_30)), (a_down, .inl (X.E 1, 8, .inl down_31))]) (isC := []) (isR := [0, 1, 2, 3]) h hR (ct_X8_partOf (x0 := x4_27) (x1 := x5_28) (x2 := (x2 - 1)) hv) (lw_S q1360 q1361 q80 q1362) (by decide +kernel) rfl ⟨rfl, rfl, rfl, rfl, by decide⟩ ⟨fle rfl, fle rfl, fle rfl, fle rfl, fle rfl⟩ rfl dX8_tie_189 (pin (perm := [0, 1, 2, 3]) (ws' := [(a, .inr (8, [.ref a_w, .int isImage, .ref a_tape, .int taped, .ref a_lane, .ref a_size, .ref a_items, .ref a_up, .ref a_down, .int above, .int below, .ref a_fell, .int fallen, .int torn, .int at_, .int start, .int number, .ref a_read, .ref a_comesUp, .ref a_comesDown, .ref a_held])), (a_w, .inl (X.E 1, 1142, .inl w_29)), (a_up, .inl (X.E 1, 8, .inl up_30)), (a_down, .inl (X.E 1, 8, .inl down_31))]) (stk := [.int r_33]) rfl rfl rfl ?_)
          clear hv
          obtain ⟨rfl, rfl, rfl, rfl⟩ := sj4 hf
          exact g_iret h hF [0, 1, 2, 3] rfl rfl ⟨rfl, rfl⟩ (fle rfl) (fle rfl) dX8_tie_192
set_option maxHeartbeats 4000000 in
set_option maxRecDepth 100000 in
theorem w_X8_when_L6 {X : Cx} {a a_comesDown a_comesUp a_down a_fell a_held a_items a_lane a_read a_size a_tape a_up a_w : Nat} {isImage : Int32} {taped : Int32} {at_ : Int32} {start : Int32} {number : Int32} {ce sl : Nat} (h : Ok X cX8_when RX8) (hR : Rm X 7 160 0 0) (hL : ∀ i, i < 2 → i < X.nL) (hce : ce ≤ 0) (hsl : sl ≤ 0) : ∀ (n0 : Nat) (x1 : Int32) (above : Int32) (below : Int32) (fallen : Int32) (torn : Int32) (w : Nat → Int32) (up : Nat → Int32) (down : Nat → Int32) (fell : Nat → Int32) {otag : Nat} {o_x1 : Int32} {o_above : Int32} {o_below : Int32} {o_fallen : Int32} {o_torn : Int32} {o_w : Nat → Int32} {o_up : Nat → Int32} {o_down : Nat → Int32} {o_fell : Nat → Int32}, f_X8_when_L6 n0 x1 above below fallen torn w up down fell = some (otag, o_x1, o_above, o_below, o_fallen, o_torn, o_w, o_up, o_down, o_fell) → (otag = 0 → G X [(a, .inr (8, [.ref a_w, .int isImage, .ref a_tape, .int taped, .ref a_lane, .ref a_size, .ref a_items, .ref a_up, .ref a_down, .int o_above, .int o_below, .ref a_fell, .int o_fallen, .int o_torn, .int at_, .int start, .int number, .ref a_read, .ref a_comesUp, .ref a_comesDown, .ref a_held])), (a_w, .inl (X.E 1, 1142, .inl o_w)), (a_up, .inl (X.E 1, 8, .inl o_up)), (a_down, .inl (X.E 1, 8, .inl o_down)), (a_fell, .inl (X.E 1, 8, .inl o_fell))] [(1, .int o_x1)] ce sl 31 []) → (otag = 1 → G X [(a, .inr (8, [.ref a_w, .int isImage, .ref a_tape, .int taped, .ref a_lane, .ref a_size, .ref a_items, .ref a_up, .ref a_down, .int o_above, .int o_below, .ref a_fell, .int o_fallen, .int o_torn, .int at_, .int start, .int number, .ref a_read, .ref a_comesUp, .ref a_comesDown, .ref a_held])), (a_w, .inl (X.E 1, 1142, .inl o_w)), (a_up, .inl (X.E 1, 8, .inl o_up)), (a_down, .inl (X.E 1, 8, .inl o_down)), (a_fell, .inl (X.E 1, 8, .inl o_fell))] [] ce sl 39 []) → G X [(a, .inr (8, [.ref a_w, .int isImage, .ref a_tape, .int taped, .ref a_lane, .ref a_size, .ref a_items, .ref a_up, .ref a_down, .int above, .int below, .ref a_fell, .int fallen, .int torn, .int at_, .int start, .int number, .ref a_read, .ref a_comesUp, .ref a_comesDown, .ref a_held])), (a_w, .inl (X.E 1, 1142, .inl w)), (a_up, .inl (X.E 1, 8, .inl up)), (a_down, .inl (X.E 1, 8, .inl down)), (a_fell, .inl (X.E 1, 8, .inl fell))] [(0, .ref a), (1, .int x1)] ce sl 6 [] := by
  intro n0
  induction n0 with
  | zero => intro x1 above below fallen torn w up down fell otag o_x1 o_above o_below o_fallen o_torn o_w o_up o_down o_fell hf; exact nomatch (show (none : Option _) = some _ from hf)
  | succ n0 ih =>
    intro x1 above below fallen torn w up down fell otag o_x1 o_above o_below o_fallen o_torn o_w o_up o_down o_fell hf k0 k1
    replace hf : t_X8_when_L6 (f_X8_when_L6 n0) x1 above below fallen torn w up down fell = some (otag, o_x1, o_above, o_below, o_fallen, o_torn, o_w, o_up, o_down, o_fell) := hf
    unfold t_X8_when_L6 at hf
    refine g_iload_n h 1 dX8_when_6 rfl rfl ?_
    refine g_bipush (v := 24) h dX8_when_7 kbipush_24 ?_
    refine g_icmp_gt (tgt := 39) h dX8_when_9 rfl hf (fun c2 hf => ?_) (fun c2 hf => ?_)
    · obtain ⟨rfl, rfl, rfl, rfl, rfl, rfl, rfl, rfl, rfl, rfl⟩ := sj10 hf
      exact G.lsub [] rfl (k1 rfl)
    · refine g_aload_n h 0 dX8_when_12 rfl rfl ?_
      refine g_sipush (v := 1082) h dX8_when_13 ksipush_1082 ?_
      obtain ⟨above_3, below_4, fallen_5, torn_6, w_7, up_8, down_9, fell_10, hv, hf⟩ := ob8 hf
      refine g_callV (ci := 8) (q0 := 0) (n := 1) (As := [.int 1082]) (st := []) (wr := []) (isC := [0, 1, 2, 3, 4]) (isR := []) h hR (ct_X8_hourOf (a := a) (a_w := a_w) (a_tape := a_tape) (a_lane := a_lane) (a_size := a_size) (a_items := a_items) (a_up := a_up) (a_down := a_down) (a_fell := a_fell) (a_read := a_read) (a_comesUp := a_comesUp) (a_comesDown := a_comesDown) (a_held := a_held) (x1 := 1082) (isImage := isImage) (taped := taped) (above := above) (below := below) (fallen := fallen) (torn := torn) (at_ := at_) (start := start) (number := number) (w := w) (up := up) (down := down) (fell := fell) hv) rfl rfl (lw_V q1446 q1448 qs58 q80 q1449) (by decide +kernel) rfl ⟨rfl, rfl, rfl, rfl, by decide⟩ ⟨hce, hsl, fle rfl, fle rfl, fle rfl⟩ rfl dX8_when_16 (pin (perm := [0, 1, 2, 3, 4]) (ws' := [(a, .inr (8, [.ref a_w, .int isImage, .ref a_tape, .int taped, .ref a_lane, .ref a_size, .ref a_items, .ref a_up, .ref a_down, .int above_3, .int below_4, .ref a_fell, .int fallen_5, .int torn_6, .int at_, .int start, .int number, .ref a_read, .ref a_comesUp, .ref a_comesDown, .ref a_held])), (a_w, .inl (X.E 1, 1142, .inl w_7)), (a_up, .inl (X.E 1, 8, .inl up_8)), (a_down, .inl (X.E 1, 8, .inl down_9)), (a_fell, .inl (X.E 1, 8, .inl fell_10))]) (stk := []) rfl rfl rfl ?_)
      clear hv
      refine g_aload_n h 0 dX8_when_19 rfl rfl ?_
      refine g_get (ci := 8) (v := .int fallen_5) h in_X8 0 12 rfl rfl (fle rfl) rfl q1178 rfl dX8_when_20 ?_
      refine g_aload_n h 0 dX8_when_23 rfl rfl ?_
      refine g_get (ci := 8) (v := .int torn_6) h in_X8 0 13 rfl rfl (fle rfl) rfl q1179 rfl dX8_when_24 ?_
      refine g_iadd h dX8_when_27 ?_
      refine g_if_le (tgt := 33) h dX8_when_28 rfl hf (fun c11 hf => ?_) (fun c11 hf => ?_)
      · refine g_iinc (j := 1) (v := (x1 + 1)) (lv' := [(1, .int (x1 + 1)), (0, .ref a)]) h dX8_when_33 rfl (kinc_1 _) (hL 1 (fle rfl)) rfl ?_
        refine g_goto (tgt := 6) h dX8_when_36 rfl ?_
        exact G.lsub [1, 0] rfl (ih _ _ _ _ _ _ _ _ _ hf k0 k1)
      · obtain ⟨rfl, rfl, rfl, rfl, rfl, rfl, rfl, rfl, rfl, rfl⟩ := sj10 hf
        exact G.lsub [1] rfl (k0 rfl)
set_option maxHeartbeats 4000000 in
set_option maxRecDepth 100000 in
theorem ct_X8_when {l : Launch} {D : va_G} {E : Ety} {a a_w a_tape a_lane a_size a_items a_up a_down a_fell a_read a_comesUp a_comesDown a_held : Nat} {isImage : Int32} {taped : Int32} {above : Int32} {below : Int32} {fallen : Int32} {torn : Int32} {at_ : Int32} {start : Int32} {number : Int32} {w : Nat → Int32} {up : Nat → Int32} {down : Nat → Int32} {fell : Nat → Int32} {r_ : Int32} {o_above : Int32} {o_below : Int32} {o_fallen : Int32} {o_torn : Int32} {o_w : Nat → Int32} {o_up : Nat → Int32} {o_down : Nat → Int32} {o_fell : Nat → Int32} (hf : f_X8_when above below fallen torn w up down fell = some (r_, o_above, o_below, o_fallen, o_torn, o_w, o_up, o_down, o_fell)) : Ct l yX8_when cX8_when 2 (some .int) 7 160 0 0 D E [.ref a] [(a, .inr (8, [.ref a_w, .int isImage, .ref a_tape, .int taped, .ref a_lane, .ref a_size, .ref a_items, .ref a_up, .ref a_down, .int above, .int below, .ref a_fell, .int fallen, .int torn, .int at_, .int start, .int number, .ref a_read, .ref a_comesUp, .ref a_comesDown, .ref a_held])), (a_w, .inl (E 1, 1142, .inl w)), (a_up, .inl (E 1, 8, .inl up)), (a_down, .inl (E 1, 8, .inl down)), (a_fell, .inl (E 1, 8, .inl fell))] (Pn (some (.int r_)) [(a, .inr (8, [.ref a_w, .int isImage, .ref a_tape, .int taped, .ref a_lane, .ref a_size, .ref a_items, .ref a_up, .ref a_down, .int o_above, .int o_below, .ref a_fell, .int o_fallen, .int o_torn, .int at_, .int start, .int number, .ref a_read, .ref a_comesUp, .ref a_comesDown, .ref a_held])), (a_w, .inl (E 1, 1142, .inl o_w)), (a_up, .inl (E 1, 8, .inl o_up)), (a_down, .inl (E 1, 8, .inl o_down)), (a_fell, .inl (E 1, 8, .inl o_fell))]) := by
  refine ct_of (own := RX8) (plainFor_of_name (by decide)) rfl (fle rfl) rfl ?_
  intro X hl hD hE hnL hXF h hR hF hnm
  subst hl; subst hD; subst hE
  have hL : ∀ i, i < 2 → i < X.nL := fun i hi => by rw [hnL]; exact hi
  unfold f_X8_when at hf
  refine g_aload_n h 0 dX8_when_0 rfl rfl ?_
  obtain ⟨w_1, hv, hf⟩ := ob1 hf
  refine g_callV (ci := 8) (q0 := 0) (n := 0) (As := []) (st := []) (wr := [(a_up, .inl (X.E 1, 8, .inl up)), (a_down, .inl (X.E 1, 8, .inl down)), (a_fell, .inl (X.E 1, 8, .inl fell))]) (isC := [0, 1]) (isR := [2, 3, 4]) h hR (ct_X8_tries (a := a) (a_w := a_w) (a_tape := a_tape) (a_lane := a_lane) (a_size := a_size) (a_items := a_items) (a_up := a_up) (a_down := a_down) (a_fell := a_fell) (a_read := a_read) (a_comesUp := a_comesUp) (a_comesDown := a_comesDown) (a_held := a_held) (isImage := isImage) (taped := taped) (above := above) (below := below) (fallen := fallen) (torn := torn) (at_ := at_) (start := start) (number := number) (w := w) hv) rfl rfl (lw_V q1477 q1479 qs60 q80 q1480) (by decide +kernel) rfl ⟨rfl, rfl, rfl, rfl, by decide⟩ ⟨fle rfl, fle rfl, fle rfl, fle rfl, fle rfl⟩ rfl dX8_when_1 (pin (perm := [3, 4, 0, 1, 2]) (ws' := [(a, .inr (8, [.ref a_w, .int isImage, .ref a_tape, .int taped, .ref a_lane, .ref a_size, .ref a_items, .ref a_up, .ref a_down, .int above, .int below, .ref a_fell, .int fallen, .int torn, .int at_, .int start, .int number, .ref a_read, .ref a_comesUp, .ref a_comesDown, .ref a_held])), (a_w, .inl (X.E 1, 1142, .inl w_1)), (a_up, .inl (X.E 1, 8, .inl up)), (a_down, .inl (X.E 1, 8, .inl down)), (a_fell, .inl (X.E 1, 8, .inl fell))]) (stk := []) rfl rfl rfl ?_)
  clear hv
  refine g_iconst (v := 1) h dX8_when_4 kiconst_1 ?_
  refine g_istore_n (lv' := [(1, .int 1), (0, .ref a)]) h dX8_when_5 rfl (hL 1 (fle rfl)) rfl ?_
  refine G.lsub (lv' := [(0, .ref a), (1, .int 1)]) [1, 0] rfl ?_
  obtain ⟨tag_12, x1_13, above_14, below_15, fallen_16, torn_17, w_18, up_19, down_20, fell_21, hv, hf⟩ := ob10 hf
  refine w_X8_when_L6 (isImage := isImage) (taped := taped) (at_ := at_) (start := start) (number := number) h hR hL (fle rfl) (fle rfl) FU _ _ _ _ _ _ _ _ _ hv ?_ ?_
  · intro ht
    have hf := (if_pos ht).symm.trans hf
    clear hv
    refine g_iload_n h 0 dX8_when_31 rfl rfl ?_
    obtain ⟨rfl, rfl, rfl, rfl, rfl, rfl, rfl, rfl, rfl⟩ := sj9 hf
    exact g_iret h hF [0, 1, 2, 3, 4] rfl rfl ⟨rfl, rfl⟩ (fle rfl) (fle rfl) dX8_when_32
  · intro ht
    have hf := (if_neg (show ¬ tag_12 = 0 from by rw [ht]; decide)).symm.trans hf
    clear hv
    refine g_bipush (v := (-4)) h dX8_when_39 kbipush_m4 ?_
    obtain ⟨rfl, rfl, rfl, rfl, rfl, rfl, rfl, rfl, rfl⟩ := sj9 hf
    exact g_iret h hF [0, 1, 2, 3, 4] rfl rfl ⟨rfl, rfl⟩ (fle rfl) (fle rfl) dX8_when_41
set_option maxHeartbeats 4000000 in
set_option maxRecDepth 100000 in
theorem ct_X8_has {l : Launch} {D : va_G} {E : Ety}  {x0 : Int32} {x1 : Int32} {r_ : Int32} (hf : f_X8_has x0 x1 = some r_) : Ct l yX8_has cX8_has 2 (some .boolean) 0 0 0 0 D E [.int x0, .int x1] [] (Pn (some (.int r_)) []) := by
  refine ct_of (own := RX8) (plainFor_of_name (by decide)) rfl (fle rfl) rfl ?_
  intro X hl hD hE hnL hXF h hR hF hnm
  subst hl; subst hD; subst hE
  have hL : ∀ i, i < 2 → i < X.nL := fun i hi => by rw [hnL]; exact hi
  unfold f_X8_has at hf
  refine g_iload_n h 0 dX8_has_0 rfl rfl ?_
  refine g_iload_n h 1 dX8_has_1 rfl rfl ?_
  refine g_ishr h dX8_has_2 ?_
  refine g_iconst (v := 1) h dX8_has_3 kiconst_1 ?_
  refine g_iand h dX8_has_4 ?_
  refine g_iconst (v := 1) h dX8_has_5 kiconst_1 ?_
  refine g_icmp_ne (tgt := 13) h dX8_has_6 rfl hf (fun c1 hf => ?_) (fun c1 hf => ?_)
  · refine g_iconst (v := 1) h dX8_has_9 kiconst_1 ?_
    refine g_goto (tgt := 14) h dX8_has_10 rfl ?_
    obtain rfl := sj1 hf
    exact g_zret h hF rfl [] rfl rfl ⟨rfl, rfl⟩ (fle rfl) (fle rfl) dX8_has_14
  · refine g_iconst (v := 0) h dX8_has_13 kiconst_0 ?_
    obtain rfl := sj1 hf
    exact g_zret h hF rfl [] rfl rfl ⟨rfl, rfl⟩ (fle rfl) (fle rfl) dX8_has_14
set_option maxHeartbeats 4000000 in
set_option maxRecDepth 100000 in
theorem w_X8_odds_L39 {X : Cx} {a a_comesDown a_comesUp a_down a_fell a_held a_items a_lane a_read a_size a_tape a_up a_w : Nat} {x1 : Int32} {x2 : Int32} {x3 : Int32} {x4 : Int32} {isImage : Int32} {taped : Int32} {above : Int32} {below : Int32} {fallen : Int32} {torn : Int32} {at_ : Int32} {start : Int32} {number : Int32} {w : Nat → Int32} {up : Nat → Int32} {down : Nat → Int32} {fell : Nat → Int32} {ce sl : Nat} (h : Ok X cX8_odds RX8) (hR : Rm X 6 139 0 0) (hL : ∀ i, i < 9 → i < X.nL) (hce : ce ≤ 0) (hsl : sl ≤ 0) : ∀ (n0 : Nat) (x5 : Int32) (x6 : Int32) {o_x5 : Int32}, f_X8_odds_L39 x3 n0 x5 x6 = some o_x5 → (G X [(a, .inr (8, [.ref a_w, .int isImage, .ref a_tape, .int taped, .ref a_lane, .ref a_size, .ref a_items, .ref a_up, .ref a_down, .int above, .int below, .ref a_fell, .int fallen, .int torn, .int at_, .int start, .int number, .ref a_read, .ref a_comesUp, .ref a_comesDown, .ref a_held])), (a_w, .inl (X.E 1, 1142, .inl w)), (a_up, .inl (X.E 1, 8, .inl up)), (a_down, .inl (X.E 1, 8, .inl down)), (a_fell, .inl (X.E 1, 8, .inl fell))] [(0, .ref a), (1, .int x1), (2, .int x2), (3, .int x3), (4, .int x4), (5, .int o_x5)] ce sl 61 []) → G X [(a, .inr (8, [.ref a_w, .int isImage, .ref a_tape, .int taped, .ref a_lane, .ref a_size, .ref a_items, .ref a_up, .ref a_down, .int above, .int below, .ref a_fell, .int fallen, .int torn, .int at_, .int start, .int number, .ref a_read, .ref a_comesUp, .ref a_comesDown, .ref a_held])), (a_w, .inl (X.E 1, 1142, .inl w)), (a_up, .inl (X.E 1, 8, .inl up)), (a_down, .inl (X.E 1, 8, .inl down)), (a_fell, .inl (X.E 1, 8, .inl fell))] [(0, .ref a), (1, .int x1), (2, .int x2), (3, .int x3), (4, .int x4), (5, .int x5), (6, .int x6)] ce sl 39 [] := by
  intro n0
  induction n0 with
  | zero => intro x5 x6 o_x5 hf; exact nomatch (show (none : Option _) = some _ from hf)
  | succ n0 ih =>
    intro x5 x6 o_x5 hf k0
    replace hf : t_X8_odds_L39 x3 (f_X8_odds_L39 x3 n0) x5 x6 = some o_x5 := hf
    unfold t_X8_odds_L39 at hf
    refine g_iload h 6 dX8_odds_39 rfl ?_
    refine g_iload_n h 3 dX8_odds_41 rfl rfl ?_
    obtain ⟨r_6, hv, hf⟩ := ob1 hf
    refine g_callS (n := 1) (As := [.int x3]) (st := [.int x6]) (wr := [(a, .inr (8, [.ref a_w, .int isImage, .ref a_tape, .int taped, .ref a_lane, .ref a_size, .ref a_items, .ref a_up, .ref a_down, .int above, .int below, .ref a_fell, .int fallen, .int torn, .int at_, .int start, .int number, .ref a_read, .ref a_comesUp, .ref a_comesDown, .ref a_held])), (a_w, .inl (X.E 1, 1142, .inl w)), (a_up, .inl (X.E 1, 8, .inl up)), (a_down, .inl (X.E 1, 8, .inl down)), (a_fell, .inl (X.E 1, 8, .inl fell))]) (isC := []) (isR := [0, 1, 2, 3, 4]) h hR (ct_X8_ones (x0 := x3) hv) (lw_S q1462 q1463 q80 q1464) (by decide +kernel) rfl ⟨rfl, rfl, rfl, rfl, by decide⟩ ⟨hce, hsl, fle rfl, fle rfl, fle rfl⟩ rfl dX8_odds_42 (pin (perm := [0, 1, 2, 3, 4]) (ws' := [(a, .inr (8, [.ref a_w, .int isImage, .ref a_tape, .int taped, .ref a_lane, .ref a_size, .ref a_items, .ref a_up, .ref a_down, .int above, .int below, .ref a_fell, .int fallen, .int torn, .int at_, .int start, .int number, .ref a_read, .ref a_comesUp, .ref a_comesDown, .ref a_held])), (a_w, .inl (X.E 1, 1142, .inl w)), (a_up, .inl (X.E 1, 8, .inl up)), (a_down, .inl (X.E 1, 8, .inl down)), (a_fell, .inl (X.E 1, 8, .inl fell))]) (stk := [.int r_6, .int x6]) rfl rfl rfl ?_)
    clear hv
    refine g_icmp_ge (tgt := 61) h dX8_odds_45 rfl hf (fun c7 hf => ?_) (fun c7 hf => ?_)
    · obtain rfl := sj1 hf
      exact G.lsub [0, 1, 2, 3, 4, 5] rfl k0
    · refine g_iload h 5 dX8_odds_48 rfl ?_
      refine g_bipush (v := 10) h dX8_odds_50 kbipush_10 ?_
      refine g_imul h dX8_odds_52 ?_
      refine g_istore (lv' := [(5, .int (x5 * 10)), (0, .ref a), (1, .int x1), (2, .int x2), (3, .int x3), (4, .int x4), (6, .int x6)]) h dX8_odds_53 (hL 5 (fle rfl)) rfl ?_
      refine g_iinc (j := 6) (v := (x6 + 1)) (lv' := [(6, .int (x6 + 1)), (5, .int (x5 * 10)), (0, .ref a), (1, .int x1), (2, .int x2), (3, .int x3), (4, .int x4)]) h dX8_odds_55 rfl (kinc_1 _) (hL 6 (fle rfl)) rfl ?_
      refine g_goto (tgt := 39) h dX8_odds_58 rfl ?_
      exact G.lsub [2, 3, 4, 5, 6, 1, 0] rfl (ih _ _ hf k0)
set_option maxHeartbeats 4000000 in
set_option maxRecDepth 100000 in
theorem w_X8_odds_L89 {X : Cx} {a a_comesDown a_comesUp a_down a_fell a_held a_items a_lane a_read a_size a_tape a_up a_w : Nat} {x1 : Int32} {x2 : Int32} {x3 : Int32} {x4 : Int32} {x5 : Int32} {x6 : Int32} {isImage : Int32} {taped : Int32} {above : Int32} {below : Int32} {fallen : Int32} {torn : Int32} {at_ : Int32} {start : Int32} {number : Int32} {up : Nat → Int32} {down : Nat → Int32} {fell : Nat → Int32} {ce sl : Nat} (h : Ok X cX8_odds RX8) (hR : Rm X 6 139 0 0) (hL : ∀ i, i < 9 → i < X.nL) (hce : ce ≤ 0) (hsl : sl ≤ 0) : ∀ (n0 : Nat) (x7 : Int32) (x8 : Int32) (w : Nat → Int32) {o_x7 : Int32} {o_w : Nat → Int32}, f_X8_odds_L89 x1 x3 x6 n0 x7 x8 w = some (o_x7, o_w) → (G X [(a, .inr (8, [.ref a_w, .int isImage, .ref a_tape, .int taped, .ref a_lane, .ref a_size, .ref a_items, .ref a_up, .ref a_down, .int above, .int below, .ref a_fell, .int fallen, .int torn, .int at_, .int start, .int number, .ref a_read, .ref a_comesUp, .ref a_comesDown, .ref a_held])), (a_w, .inl (X.E 1, 1142, .inl o_w)), (a_up, .inl (X.E 1, 8, .inl up)), (a_down, .inl (X.E 1, 8, .inl down)), (a_fell, .inl (X.E 1, 8, .inl fell))] [(0, .ref a), (1, .int x1), (2, .int x2), (3, .int x3), (4, .int x4), (5, .int x5), (6, .int x6), (7, .int o_x7)] ce sl 178 []) → G X [(a, .inr (8, [.ref a_w, .int isImage, .ref a_tape, .int taped, .ref a_lane, .ref a_size, .ref a_items, .ref a_up, .ref a_down, .int above, .int below, .ref a_fell, .int fallen, .int torn, .int at_, .int start, .int number, .ref a_read, .ref a_comesUp, .ref a_comesDown, .ref a_held])), (a_w, .inl (X.E 1, 1142, .inl w)), (a_up, .inl (X.E 1, 8, .inl up)), (a_down, .inl (X.E 1, 8, .inl down)), (a_fell, .inl (X.E 1, 8, .inl fell))] [(0, .ref a), (1, .int x1), (2, .int x2), (3, .int x3), (4, .int x4), (5, .int x5), (6, .int x6), (7, .int x7), (8, .int x8)] ce sl 89 [] := by
  intro n0
  induction n0 with
  | zero => intro x7 x8 w o_x7 o_w hf; exact nomatch (show (none : Option _) = some _ from hf)
  | succ n0 ih =>
    intro x7 x8 w o_x7 o_w hf k0
    replace hf : t_X8_odds_L89 x1 x3 x6 (f_X8_odds_L89 x1 x3 x6 n0) x7 x8 w = some (o_x7, o_w) := hf
    unfold t_X8_odds_L89 at hf
    refine g_iload h 8 dX8_odds_89 rfl ?_
    refine g_aload_n h 0 dX8_odds_91 rfl rfl ?_
    refine g_get (ci := 8) (v := .ref a_w) h in_X8 0 0 rfl rfl (fle rfl) rfl q1166 rfl dX8_odds_92 ?_
    refine g_iconst (v := 0) h dX8_odds_95 kiconst_0 ?_
    refine g_iaload h 1 rfl (by decide) dX8_odds_96 ?_
    refine g_icmp_ge (tgt := 178) h dX8_odds_97 rfl hf (fun c12 hf => ?_) (fun c12 hf => ?_)
    · obtain ⟨rfl, rfl⟩ := sj2 hf
      exact G.lsub [0, 1, 2, 3, 4, 5, 6, 7] rfl k0
    · refine g_iload h 7 dX8_odds_100 rfl ?_
      refine g_iload_n h 3 dX8_odds_102 rfl rfl ?_
      refine g_iload h 8 dX8_odds_103 rfl ?_
      obtain ⟨r_13, hv, hf⟩ := ob1 hf
      refine g_callS (n := 2) (As := [.int x3, .int x8]) (st := [.int x7]) (wr := [(a, .inr (8, [.ref a_w, .int isImage, .ref a_tape, .int taped, .ref a_lane, .ref a_size, .ref a_items, .ref a_up, .ref a_down, .int above, .int below, .ref a_fell, .int fallen, .int torn, .int at_, .int start, .int number, .ref a_read, .ref a_comesUp, .ref a_comesDown, .ref a_held])), (a_w, .inl (X.E 1, 1142, .inl w)), (a_up, .inl (X.E 1, 8, .inl up)), (a_down, .inl (X.E 1, 8, .inl down)), (a_fell, .inl (X.E 1, 8, .inl fell))]) (isC := []) (isR := [0, 1, 2, 3, 4]) h hR (ct_X8_has (x0 := x3) (x1 := x8) hv) (lw_S q1498 q1499 q80 q1500) (by decide +kernel) rfl ⟨rfl, rfl, rfl, rfl, by decide⟩ ⟨hce, hsl, fle rfl, fle rfl, fle rfl⟩ rfl dX8_odds_105 (pin (perm := [0, 1, 2, 3, 4]) (ws' := [(a, .inr (8, [.ref a_w, .int isImage, .ref a_tape, .int taped, .ref a_lane, .ref a_size, .ref a_items, .ref a_up, .ref a_down, .int above, .int below, .ref a_fell, .int fallen, .int torn, .int at_, .int start, .int number, .ref a_read, .ref a_comesUp, .ref a_comesDown, .ref a_held])), (a_w, .inl (X.E 1, 1142, .inl w)), (a_up, .inl (X.E 1, 8, .inl up)), (a_down, .inl (X.E 1, 8, .inl down)), (a_fell, .inl (X.E 1, 8, .inl fell))]) (stk := [.int r_13, .int x7]) rfl rfl rfl ?_)
      clear hv
      obtain ⟨z_17, hw, hf⟩ := ob1 hf
      have K108 : G X [(a, .inr (8, [.ref a_w, .int isImage, .ref a_tape, .int taped, .ref a_lane, .ref a_size, .ref a_items, .ref a_up, .ref a_down, .int above, .int below, .ref a_fell, .int fallen, .int torn, .int at_, .int start, .int number, .ref a_read, .ref a_comesUp, .ref a_comesDown, .ref a_held])), (a_w, .inl (X.E 1, 1142, .inl w)), (a_up, .inl (X.E 1, 8, .inl up)), (a_down, .inl (X.E 1, 8, .inl down)), (a_fell, .inl (X.E 1, 8, .inl fell))] [(0, .ref a), (1, .int x1), (2, .int x2), (3, .int x3), (4, .int x4), (5, .int x5), (6, .int x6), (8, .int x8)] ce sl 133 [.int z_17, .int x7] := by
        clear hw
        refine g_imul h dX8_odds_133 ?_
        refine g_istore (lv' := [(7, .int (x7 * z_17)), (0, .ref a), (1, .int x1), (2, .int x2), (3, .int x3), (4, .int x4), (5, .int x5), (6, .int x6), (8, .int x8)]) h dX8_odds_134 (hL 7 (fle rfl)) rfl ?_
        refine g_aload_n h 1 dX8_odds_136 rfl rfl ?_
        refine g_get (ci := 8) (v := .ref a_w) h in_X8 0 0 rfl rfl (fle rfl) rfl q1166 rfl dX8_odds_137 ?_
        refine g_sipush (v := 1102) h dX8_odds_140 ksipush_1102 ?_
        refine g_iload h 8 dX8_odds_143 rfl ?_
        refine g_iadd h dX8_odds_145 ?_
        refine g_iload h 7 dX8_odds_146 rfl ?_
        refine g_iload h 8 dX8_odds_148 rfl ?_
        obtain ⟨r_20, hv, hf⟩ := ob1 hf
        refine g_callS (n := 2) (As := [.int x6, .int x8]) (st := [.int (1102 + x8), .ref a_w]) (wr := [(a, .inr (8, [.ref a_w, .int isImage, .ref a_tape, .int taped, .ref a_lane, .ref a_size, .ref a_items, .ref a_up, .ref a_down, .int above, .int below, .ref a_fell, .int fallen, .int torn, .int at_, .int start, .int number, .ref a_read, .ref a_comesUp, .ref a_comesDown, .ref a_held])), (a_w, .inl (X.E 1, 1142, .inl w)), (a_up, .inl (X.E 1, 8, .inl up)), (a_down, .inl (X.E 1, 8, .inl down)), (a_fell, .inl (X.E 1, 8, .inl fell))]) (isC := []) (isR := [0, 1, 2, 3, 4]) h hR (ct_X8_has (x0 := x6) (x1 := x8) hv) (lw_S q1498 q1499 q80 q1500) (by decide +kernel) rfl ⟨rfl, rfl, rfl, rfl, by decide⟩ ⟨hce, hsl, fle rfl, fle rfl, fle rfl⟩ rfl dX8_odds_150 (pin (perm := [0, 1, 2, 3, 4]) (ws' := [(a, .inr (8, [.ref a_w, .int isImage, .ref a_tape, .int taped, .ref a_lane, .ref a_size, .ref a_items, .ref a_up, .ref a_down, .int above, .int below, .ref a_fell, .int fallen, .int torn, .int at_, .int start, .int number, .ref a_read, .ref a_comesUp, .ref a_comesDown, .ref a_held])), (a_w, .inl (X.E 1, 1142, .inl w)), (a_up, .inl (X.E 1, 8, .inl up)), (a_down, .inl (X.E 1, 8, .inl down)), (a_fell, .inl (X.E 1, 8, .inl fell))]) (stk := [.int r_20, .int (1102 + x8), .ref a_w]) rfl rfl rfl ?_)
        clear hv
        refine g_if_eq (tgt := 160) h dX8_odds_153 rfl hf (fun c21 hf => ?_) (fun c21 hf => ?_)
        · refine g_aload_n h 1 dX8_odds_160 rfl rfl ?_
          refine g_get (ci := 8) (v := .ref a_w) h in_X8 0 0 rfl rfl (fle rfl) rfl q1166 rfl dX8_odds_161 ?_
          refine g_sipush (v := 1102) h dX8_odds_164 ksipush_1102 ?_
          refine g_iload h 8 dX8_odds_167 rfl ?_
          refine g_iadd h dX8_odds_169 ?_
          obtain ⟨g22, hf⟩ := gn hf
          refine g_iaload h 1 rfl g22 dX8_odds_170 ?_
          refine g_iastore (ws' := [(a, .inr (8, [.ref a_w, .int isImage, .ref a_tape, .int taped, .ref a_lane, .ref a_size, .ref a_items, .ref a_up, .ref a_down, .int above, .int below, .ref a_fell, .int fallen, .int torn, .int at_, .int start, .int number, .ref a_read, .ref a_comesUp, .ref a_comesDown, .ref a_held])), (a_w, .inl (X.E 1, 1142, .inl (upd w (1102 + x8).toNatClampNeg (w (1102 + x8).toNatClampNeg)))), (a_up, .inl (X.E 1, 8, .inl up)), (a_down, .inl (X.E 1, 8, .inl down)), (a_fell, .inl (X.E 1, 8, .inl fell))]) h 1 rfl g22 rfl dX8_odds_171 ?_
          refine g_iinc (j := 8) (v := (x8 + 1)) (lv' := [(8, .int (x8 + 1)), (7, .int (x7 * z_17)), (0, .ref a), (1, .int x1), (2, .int x2), (3, .int x3), (4, .int x4), (5, .int x5), (6, .int x6)]) h dX8_odds_172 rfl (kinc_1 _) (hL 8 (fle rfl)) rfl ?_
          refine g_goto (tgt := 89) h dX8_odds_175 rfl ?_
          exact G.lsub [2, 3, 4, 5, 6, 7, 8, 1, 0] rfl (ih _ _ _ hf k0)
        · refine g_iconst (v := 0) h dX8_odds_156 kiconst_0 ?_
          refine g_goto (tgt := 171) h dX8_odds_157 rfl ?_
          obtain ⟨g23, hf⟩ := gn hf
          refine g_iastore (ws' := [(a, .inr (8, [.ref a_w, .int isImage, .ref a_tape, .int taped, .ref a_lane, .ref a_size, .ref a_items, .ref a_up, .ref a_down, .int above, .int below, .ref a_fell, .int fallen, .int torn, .int at_, .int start, .int number, .ref a_read, .ref a_comesUp, .ref a_comesDown, .ref a_held])), (a_w, .inl (X.E 1, 1142, .inl (upd w (1102 + x8).toNatClampNeg 0))), (a_up, .inl (X.E 1, 8, .inl up)), (a_down, .inl (X.E 1, 8, .inl down)), (a_fell, .inl (X.E 1, 8, .inl fell))]) h 1 rfl g23 rfl dX8_odds_171 ?_
          refine g_iinc (j := 8) (v := (x8 + 1)) (lv' := [(8, .int (x8 + 1)), (7, .int (x7 * z_17)), (0, .ref a), (1, .int x1), (2, .int x2), (3, .int x3), (4, .int x4), (5, .int x5), (6, .int x6)]) h dX8_odds_172 rfl (kinc_1 _) (hL 8 (fle rfl)) rfl ?_
          refine g_goto (tgt := 89) h dX8_odds_175 rfl ?_
          exact G.lsub [2, 3, 4, 5, 6, 7, 8, 1, 0] rfl (ih _ _ _ hf k0)
      clear hf
      have hf := hw
      clear hw
      refine g_if_ne (tgt := 115) h dX8_odds_108 rfl hf (fun c14 hf => ?_) (fun c14 hf => ?_)
      · refine g_iconst (v := 1) h dX8_odds_111 kiconst_1 ?_
        refine g_goto (tgt := 133) h dX8_odds_112 rfl ?_
        obtain rfl := sj1 hf
        exact G.lsub [0, 1, 2, 3, 4, 5, 6, 8] rfl K108
      · refine g_iload h 6 dX8_odds_115 rfl ?_
        refine g_iload h 8 dX8_odds_117 rfl ?_
        obtain ⟨r_18, hv, hf⟩ := ob1 hf
        refine g_callS (n := 2) (As := [.int x6, .int x8]) (st := [.int x7]) (wr := [(a, .inr (8, [.ref a_w, .int isImage, .ref a_tape, .int taped, .ref a_lane, .ref a_size, .ref a_items, .ref a_up, .ref a_down, .int above, .int below, .ref a_fell, .int fallen, .int torn, .int at_, .int start, .int number, .ref a_read, .ref a_comesUp, .ref a_comesDown, .ref a_held])), (a_w, .inl (X.E 1, 1142, .inl w)), (a_up, .inl (X.E 1, 8, .inl up)), (a_down, .inl (X.E 1, 8, .inl down)), (a_fell, .inl (X.E 1, 8, .inl fell))]) (isC := []) (isR := [0, 1, 2, 3, 4]) h hR (ct_X8_has (x0 := x6) (x1 := x8) hv) (lw_S q1498 q1499 q80 q1500) (by decide +kernel) rfl ⟨rfl, rfl, rfl, rfl, by decide⟩ ⟨hce, hsl, fle rfl, fle rfl, fle rfl⟩ rfl dX8_odds_119 (pin (perm := [0, 1, 2, 3, 4]) (ws' := [(a, .inr (8, [.ref a_w, .int isImage, .ref a_tape, .int taped, .ref a_lane, .ref a_size, .ref a_items, .ref a_up, .ref a_down, .int above, .int below, .ref a_fell, .int fallen, .int torn, .int at_, .int start, .int number, .ref a_read, .ref a_comesUp, .ref a_comesDown, .ref a_held])), (a_w, .inl (X.E 1, 1142, .inl w)), (a_up, .inl (X.E 1, 8, .inl up)), (a_down, .inl (X.E 1, 8, .inl down)), (a_fell, .inl (X.E 1, 8, .inl fell))]) (stk := [.int r_18, .int x7]) rfl rfl rfl ?_)
        clear hv
        refine g_if_eq (tgt := 129) h dX8_odds_122 rfl hf (fun c19 hf => ?_) (fun c19 hf => ?_)
        · refine g_bipush (v := 10) h dX8_odds_129 kbipush_10 ?_
          refine g_iload_n h 1 dX8_odds_131 rfl rfl ?_
          refine g_isub h dX8_odds_132 ?_
          obtain rfl := sj1 hf
          exact G.lsub [0, 1, 2, 3, 4, 5, 6, 8] rfl K108
        · refine g_iload_n h 1 dX8_odds_125 rfl rfl ?_
          refine g_goto (tgt := 133) h dX8_odds_126 rfl ?_
          obtain rfl := sj1 hf
          exact G.lsub [0, 1, 2, 3, 4, 5, 6, 8] rfl K108
set_option maxHeartbeats 4000000 in
set_option maxRecDepth 100000 in
theorem w_X8_odds_L64 {X : Cx} {a a_comesDown a_comesUp a_down a_fell a_held a_items a_lane a_read a_size a_tape a_up a_w : Nat} {x1 : Int32} {x2 : Int32} {x3 : Int32} {x5 : Int32} {isImage : Int32} {taped : Int32} {at_ : Int32} {start : Int32} {number : Int32} {ce sl : Nat} (h : Ok X cX8_odds RX8) (hR : Rm X 6 139 0 0) (hL : ∀ i, i < 9 → i < X.nL) (hce : ce ≤ 0) (hsl : sl ≤ 0) : ∀ (n0 : Nat) (x4 : Int32) (x6 : Int32) (above : Int32) (below : Int32) (fallen : Int32) (torn : Int32) (w : Nat → Int32) (up : Nat → Int32) (down : Nat → Int32) (fell : Nat → Int32) {o_x4 : Int32} {o_above : Int32} {o_below : Int32} {o_fallen : Int32} {o_torn : Int32} {o_w : Nat → Int32} {o_up : Nat → Int32} {o_down : Nat → Int32} {o_fell : Nat → Int32}, f_X8_odds_L64 x1 x3 n0 x4 x6 above below fallen torn w up down fell = some (o_x4, o_above, o_below, o_fallen, o_torn, o_w, o_up, o_down, o_fell) → (G X [(a, .inr (8, [.ref a_w, .int isImage, .ref a_tape, .int taped, .ref a_lane, .ref a_size, .ref a_items, .ref a_up, .ref a_down, .int o_above, .int o_below, .ref a_fell, .int o_fallen, .int o_torn, .int at_, .int start, .int number, .ref a_read, .ref a_comesUp, .ref a_comesDown, .ref a_held])), (a_w, .inl (X.E 1, 1142, .inl o_w)), (a_up, .inl (X.E 1, 8, .inl o_up)), (a_down, .inl (X.E 1, 8, .inl o_down)), (a_fell, .inl (X.E 1, 8, .inl o_fell))] [(2, .int x2), (4, .int o_x4), (5, .int x5)] ce sl 214 []) → G X [(a, .inr (8, [.ref a_w, .int isImage, .ref a_tape, .int taped, .ref a_lane, .ref a_size, .ref a_items, .ref a_up, .ref a_down, .int above, .int below, .ref a_fell, .int fallen, .int torn, .int at_, .int start, .int number, .ref a_read, .ref a_comesUp, .ref a_comesDown, .ref a_held])), (a_w, .inl (X.E 1, 1142, .inl w)), (a_up, .inl (X.E 1, 8, .inl up)), (a_down, .inl (X.E 1, 8, .inl down)), (a_fell, .inl (X.E 1, 8, .inl fell))] [(0, .ref a), (1, .int x1), (2, .int x2), (3, .int x3), (4, .int x4), (5, .int x5), (6, .int x6)] ce sl 64 [] := by
  intro n0
  induction n0 with
  | zero => intro x4 x6 above below fallen torn w up down fell o_x4 o_above o_below o_fallen o_torn o_w o_up o_down o_fell hf; exact nomatch (show (none : Option _) = some _ from hf)
  | succ n0 ih =>
    intro x4 x6 above below fallen torn w up down fell o_x4 o_above o_below o_fallen o_torn o_w o_up o_down o_fell hf k0
    replace hf : t_X8_odds_L64 x1 x3 (f_X8_odds_L64 x1 x3 n0) x4 x6 above below fallen torn w up down fell = some (o_x4, o_above, o_below, o_fallen, o_torn, o_w, o_up, o_down, o_fell) := hf
    unfold t_X8_odds_L64 at hf
    refine g_iload h 6 dX8_odds_64 rfl ?_
    refine g_iload_n h 3 dX8_odds_66 rfl rfl ?_
    refine g_icmp_gt (tgt := 214) h dX8_odds_67 rfl hf (fun c9 hf => ?_) (fun c9 hf => ?_)
    · obtain ⟨rfl, rfl, rfl, rfl, rfl, rfl, rfl, rfl, rfl⟩ := sj9 hf
      exact G.lsub [2, 4, 5] rfl k0
    · refine g_iload h 6 dX8_odds_70 rfl ?_
      refine g_iload_n h 3 dX8_odds_72 rfl rfl ?_
      refine g_iconst (v := (-1)) h dX8_odds_73 kiconst_m1 ?_
      refine g_ixor h dX8_odds_74 ?_
      refine g_iand h dX8_odds_75 ?_
      refine g_if_ne (tgt := 208) h dX8_odds_76 rfl hf (fun c10 hf => ?_) (fun c10 hf => ?_)
      · refine g_iconst (v := 1) h dX8_odds_79 kiconst_1 ?_
        refine g_istore (lv' := [(7, .int 1), (0, .ref a), (1, .int x1), (2, .int x2), (3, .int x3), (4, .int x4), (5, .int x5), (6, .int x6)]) h dX8_odds_80 (hL 7 (fle rfl)) rfl ?_
        refine g_aload_n h 1 dX8_odds_82 rfl rfl ?_
        obtain ⟨w_11, hv, hf⟩ := ob1 hf
        refine g_callV (ci := 8) (q0 := 0) (n := 0) (As := []) (st := []) (wr := [(a_up, .inl (X.E 1, 8, .inl up)), (a_down, .inl (X.E 1, 8, .inl down)), (a_fell, .inl (X.E 1, 8, .inl fell))]) (isC := [0, 1]) (isR := [2, 3, 4]) h hR (ct_X8_tries (a := a) (a_w := a_w) (a_tape := a_tape) (a_lane := a_lane) (a_size := a_size) (a_items := a_items) (a_up := a_up) (a_down := a_down) (a_fell := a_fell) (a_read := a_read) (a_comesUp := a_comesUp) (a_comesDown := a_comesDown) (a_held := a_held) (isImage := isImage) (taped := taped) (above := above) (below := below) (fallen := fallen) (torn := torn) (at_ := at_) (start := start) (number := number) (w := w) hv) rfl rfl (lw_V q1477 q1479 qs60 q80 q1480) (by decide +kernel) rfl ⟨rfl, rfl, rfl, rfl, by decide⟩ ⟨hce, hsl, fle rfl, fle rfl, fle rfl⟩ rfl dX8_odds_83 (pin (perm := [3, 4, 0, 1, 2]) (ws' := [(a, .inr (8, [.ref a_w, .int isImage, .ref a_tape, .int taped, .ref a_lane, .ref a_size, .ref a_items, .ref a_up, .ref a_down, .int above, .int below, .ref a_fell, .int fallen, .int torn, .int at_, .int start, .int number, .ref a_read, .ref a_comesUp, .ref a_comesDown, .ref a_held])), (a_w, .inl (X.E 1, 1142, .inl w_11)), (a_up, .inl (X.E 1, 8, .inl up)), (a_down, .inl (X.E 1, 8, .inl down)), (a_fell, .inl (X.E 1, 8, .inl fell))]) (stk := []) rfl rfl rfl ?_)
        clear hv
        refine g_iconst (v := 0) h dX8_odds_86 kiconst_0 ?_
        refine g_istore (lv' := [(8, .int 0), (7, .int 1), (0, .ref a), (1, .int x1), (2, .int x2), (3, .int x3), (4, .int x4), (5, .int x5), (6, .int x6)]) h dX8_odds_87 (hL 8 (fle rfl)) rfl ?_
        refine G.lsub (lv' := [(0, .ref a), (1, .int x1), (2, .int x2), (3, .int x3), (4, .int x4), (5, .int x5), (6, .int x6), (7, .int 1), (8, .int 0)]) [2, 3, 4, 5, 6, 7, 8, 1, 0] rfl ?_
        obtain ⟨x7_24, w_25, hv, hf⟩ := ob2 hf
        refine w_X8_odds_L89 (x1 := x1) (x2 := x2) (x3 := x3) (x4 := x4) (x5 := x5) (x6 := x6) (isImage := isImage) (taped := taped) (above := above) (below := below) (fallen := fallen) (torn := torn) (at_ := at_) (start := start) (number := number) (up := up) (down := down) (fell := fell) h hR hL hce hsl FU _ _ _ hv ?_
        · clear hv
          refine g_aload_n h 0 dX8_odds_178 rfl rfl ?_
          refine g_sipush (v := 1082) h dX8_odds_179 ksipush_1082 ?_
          obtain ⟨above_26, below_27, fallen_28, torn_29, w_30, up_31, down_32, fell_33, hv, hf⟩ := ob8 hf
          refine g_callV (ci := 8) (q0 := 0) (n := 1) (As := [.int 1082]) (st := []) (wr := []) (isC := [0, 1, 2, 3, 4]) (isR := []) h hR (ct_X8_settles (a := a) (a_w := a_w) (a_tape := a_tape) (a_lane := a_lane) (a_size := a_size) (a_items := a_items) (a_up := a_up) (a_down := a_down) (a_fell := a_fell) (a_read := a_read) (a_comesUp := a_comesUp) (a_comesDown := a_comesDown) (a_held := a_held) (x1 := 1082) (isImage := isImage) (taped := taped) (above := above) (below := below) (fallen := fallen) (torn := torn) (at_ := at_) (start := start) (number := number) (w := w_25) (up := up) (down := down) (fell := fell) hv) rfl rfl (lw_V q1276 q1278 qs35 q80 q1279) (by decide +kernel) rfl ⟨rfl, rfl, rfl, rfl, by decide⟩ ⟨hce, hsl, fle rfl, fle rfl, fle rfl⟩ rfl dX8_odds_182 (pin (perm := [0, 1, 2, 3, 4]) (ws' := [(a, .inr (8, [.ref a_w, .int isImage, .ref a_tape, .int taped, .ref a_lane, .ref a_size, .ref a_items, .ref a_up, .ref a_down, .int above_26, .int below_27, .ref a_fell, .int fallen_28, .int torn_29, .int at_, .int start, .int number, .ref a_read, .ref a_comesUp, .ref a_comesDown, .ref a_held])), (a_w, .inl (X.E 1, 1142, .inl w_30)), (a_up, .inl (X.E 1, 8, .inl up_31)), (a_down, .inl (X.E 1, 8, .inl down_32)), (a_fell, .inl (X.E 1, 8, .inl fell_33))]) (stk := []) rfl rfl rfl ?_)
          clear hv
          refine g_iload h 4 dX8_odds_185 rfl ?_
          refine g_aload_n h 0 dX8_odds_187 rfl rfl ?_
          refine g_get (ci := 8) (v := .int fallen_28) h in_X8 0 12 rfl rfl (fle rfl) rfl q1178 rfl dX8_odds_188 ?_
          refine g_aload_n h 0 dX8_odds_191 rfl rfl ?_
          refine g_get (ci := 8) (v := .int torn_29) h in_X8 0 13 rfl rfl (fle rfl) rfl q1179 rfl dX8_odds_192 ?_
          refine g_iadd h dX8_odds_195 ?_
          refine g_if_ne (tgt := 204) h dX8_odds_196 rfl hf (fun c34 hf => ?_) (fun c34 hf => ?_)
          · refine g_iload h 7 dX8_odds_199 rfl ?_
            refine g_goto (tgt := 205) h dX8_odds_201 rfl ?_
            refine g_iadd h dX8_odds_205 ?_
            refine g_istore (lv' := [(4, .int (x4 + x7_24)), (0, .ref a), (1, .int x1), (2, .int x2), (3, .int x3), (5, .int x5), (6, .int x6), (7, .int x7_24)]) h dX8_odds_206 (hL 4 (fle rfl)) rfl ?_
            refine g_iinc (j := 6) (v := (x6 + 1)) (lv' := [(6, .int (x6 + 1)), (4, .int (x4 + x7_24)), (0, .ref a), (1, .int x1), (2, .int x2), (3, .int x3), (5, .int x5), (7, .int x7_24)]) h dX8_odds_208 rfl (kinc_1 _) (hL 6 (fle rfl)) rfl ?_
            refine g_goto (tgt := 64) h dX8_odds_211 rfl ?_
            exact G.lsub [2, 3, 4, 5, 1, 6, 0] rfl (ih _ _ _ _ _ _ _ _ _ _ hf k0)
          · refine g_iconst (v := 0) h dX8_odds_204 kiconst_0 ?_
            refine g_iadd h dX8_odds_205 ?_
            refine g_istore (lv' := [(4, .int (x4 + 0)), (0, .ref a), (1, .int x1), (2, .int x2), (3, .int x3), (5, .int x5), (6, .int x6), (7, .int x7_24)]) h dX8_odds_206 (hL 4 (fle rfl)) rfl ?_
            refine g_iinc (j := 6) (v := (x6 + 1)) (lv' := [(6, .int (x6 + 1)), (4, .int (x4 + 0)), (0, .ref a), (1, .int x1), (2, .int x2), (3, .int x3), (5, .int x5), (7, .int x7_24)]) h dX8_odds_208 rfl (kinc_1 _) (hL 6 (fle rfl)) rfl ?_
            refine g_goto (tgt := 64) h dX8_odds_211 rfl ?_
            exact G.lsub [2, 3, 4, 5, 1, 6, 0] rfl (ih _ _ _ _ _ _ _ _ _ _ hf k0)
      · refine g_iinc (j := 6) (v := (x6 + 1)) (lv' := [(6, .int (x6 + 1)), (0, .ref a), (1, .int x1), (2, .int x2), (3, .int x3), (4, .int x4), (5, .int x5)]) h dX8_odds_208 rfl (kinc_1 _) (hL 6 (fle rfl)) rfl ?_
        refine g_goto (tgt := 64) h dX8_odds_211 rfl ?_
        exact G.lsub [1, 2, 3, 4, 5, 6, 0] rfl (ih _ _ _ _ _ _ _ _ _ _ hf k0)
set_option maxHeartbeats 4000000 in
set_option maxRecDepth 100000 in
theorem ct_X8_odds {l : Launch} {D : va_G} {E : Ety} {a a_w a_tape a_lane a_size a_items a_up a_down a_fell a_read a_comesUp a_comesDown a_held : Nat} {x1 : Int32} {x2 : Int32} {isImage : Int32} {taped : Int32} {above : Int32} {below : Int32} {fallen : Int32} {torn : Int32} {at_ : Int32} {start : Int32} {number : Int32} {w : Nat → Int32} {up : Nat → Int32} {down : Nat → Int32} {fell : Nat → Int32} {r_ : Int32} {o_above : Int32} {o_below : Int32} {o_fallen : Int32} {o_torn : Int32} {o_w : Nat → Int32} {o_up : Nat → Int32} {o_down : Nat → Int32} {o_fell : Nat → Int32} (hf : f_X8_odds x1 x2 above below fallen torn w up down fell = some (r_, o_above, o_below, o_fallen, o_torn, o_w, o_up, o_down, o_fell)) : Ct l yX8_odds cX8_odds 9 (some .int) 6 139 0 0 D E [.ref a, .int x1, .int x2] [(a, .inr (8, [.ref a_w, .int isImage, .ref a_tape, .int taped, .ref a_lane, .ref a_size, .ref a_items, .ref a_up, .ref a_down, .int above, .int below, .ref a_fell, .int fallen, .int torn, .int at_, .int start, .int number, .ref a_read, .ref a_comesUp, .ref a_comesDown, .ref a_held])), (a_w, .inl (E 1, 1142, .inl w)), (a_up, .inl (E 1, 8, .inl up)), (a_down, .inl (E 1, 8, .inl down)), (a_fell, .inl (E 1, 8, .inl fell))] (Pn (some (.int r_)) [(a, .inr (8, [.ref a_w, .int isImage, .ref a_tape, .int taped, .ref a_lane, .ref a_size, .ref a_items, .ref a_up, .ref a_down, .int o_above, .int o_below, .ref a_fell, .int o_fallen, .int o_torn, .int at_, .int start, .int number, .ref a_read, .ref a_comesUp, .ref a_comesDown, .ref a_held])), (a_w, .inl (E 1, 1142, .inl o_w)), (a_up, .inl (E 1, 8, .inl o_up)), (a_down, .inl (E 1, 8, .inl o_down)), (a_fell, .inl (E 1, 8, .inl o_fell))]) := by
  refine ct_of (own := RX8) (plainFor_of_name (by decide)) rfl (fle rfl) rfl ?_
  intro X hl hD hE hnL hXF h hR hF hnm
  subst hl; subst hD; subst hE
  have hL : ∀ i, i < 9 → i < X.nL := fun i hi => by rw [hnL]; exact hi
  unfold f_X8_odds at hf
  refine g_iload_n h 1 dX8_odds_0 rfl rfl ?_
  refine g_i2l h dX8_odds_1 ?_
  refine g_lconst (v := 0) h dX8_odds_2 rfl ?_
  refine g_ldc2 h q1497 dX8_odds_3 ?_
  obtain ⟨r_1, hv, hf⟩ := ob1 hf
  refine g_callS (n := 3) (As := [.long x1.toInt64, .long 0, .long 10]) (st := []) (wr := [(a, .inr (8, [.ref a_w, .int isImage, .ref a_tape, .int taped, .ref a_lane, .ref a_size, .ref a_items, .ref a_up, .ref a_down, .int above, .int below, .ref a_fell, .int fallen, .int torn, .int at_, .int start, .int number, .ref a_read, .ref a_comesUp, .ref a_comesDown, .ref a_held])), (a_w, .inl (X.E 1, 1142, .inl w)), (a_up, .inl (X.E 1, 8, .inl up)), (a_down, .inl (X.E 1, 8, .inl down)), (a_fell, .inl (X.E 1, 8, .inl fell))]) (isC := []) (isR := [0, 1, 2, 3, 4]) h hR (ct_X8_in (x0 := x1.toInt64) (x2 := 0) (x4 := 10) hv) (lw_S q1236 q1237 q80 q1238) (by decide +kernel) rfl ⟨rfl, rfl, rfl, rfl, by decide⟩ ⟨fle rfl, fle rfl, fle rfl, fle rfl, fle rfl⟩ rfl dX8_odds_6 (pin (perm := [0, 1, 2, 3, 4]) (ws' := [(a, .inr (8, [.ref a_w, .int isImage, .ref a_tape, .int taped, .ref a_lane, .ref a_size, .ref a_items, .ref a_up, .ref a_down, .int above, .int below, .ref a_fell, .int fallen, .int torn, .int at_, .int start, .int number, .ref a_read, .ref a_comesUp, .ref a_comesDown, .ref a_held])), (a_w, .inl (X.E 1, 1142, .inl w)), (a_up, .inl (X.E 1, 8, .inl up)), (a_down, .inl (X.E 1, 8, .inl down)), (a_fell, .inl (X.E 1, 8, .inl fell))]) (stk := [.int r_1]) rfl rfl rfl ?_)
  clear hv
  refine g_if_eq (tgt := 22) h dX8_odds_9 rfl hf (fun c2 hf => ?_) (fun c2 hf => ?_)
  · refine g_iconst (v := (-1)) h dX8_odds_22 kiconst_m1 ?_
    obtain ⟨rfl, rfl, rfl, rfl, rfl, rfl, rfl, rfl, rfl⟩ := sj9 hf
    exact g_iret h hF [0, 1, 2, 3, 4] rfl rfl ⟨rfl, rfl⟩ (fle rfl) (fle rfl) dX8_odds_23
  · refine g_iload_n h 2 dX8_odds_12 rfl rfl ?_
    refine g_i2l h dX8_odds_13 ?_
    refine g_lconst (v := 0) h dX8_odds_14 rfl ?_
    refine g_lconst (v := 1) h dX8_odds_15 rfl ?_
    obtain ⟨r_3, hv, hf⟩ := ob1 hf
    refine g_callS (n := 3) (As := [.long x2.toInt64, .long 0, .long 1]) (st := []) (wr := [(a, .inr (8, [.ref a_w, .int isImage, .ref a_tape, .int taped, .ref a_lane, .ref a_size, .ref a_items, .ref a_up, .ref a_down, .int above, .int below, .ref a_fell, .int fallen, .int torn, .int at_, .int start, .int number, .ref a_read, .ref a_comesUp, .ref a_comesDown, .ref a_held])), (a_w, .inl (X.E 1, 1142, .inl w)), (a_up, .inl (X.E 1, 8, .inl up)), (a_down, .inl (X.E 1, 8, .inl down)), (a_fell, .inl (X.E 1, 8, .inl fell))]) (isC := []) (isR := [0, 1, 2, 3, 4]) h hR (ct_X8_in (x0 := x2.toInt64) (x2 := 0) (x4 := 1) hv) (lw_S q1236 q1237 q80 q1238) (by decide +kernel) rfl ⟨rfl, rfl, rfl, rfl, by decide⟩ ⟨fle rfl, fle rfl, fle rfl, fle rfl, fle rfl⟩ rfl dX8_odds_16 (pin (perm := [0, 1, 2, 3, 4]) (ws' := [(a, .inr (8, [.ref a_w, .int isImage, .ref a_tape, .int taped, .ref a_lane, .ref a_size, .ref a_items, .ref a_up, .ref a_down, .int above, .int below, .ref a_fell, .int fallen, .int torn, .int at_, .int start, .int number, .ref a_read, .ref a_comesUp, .ref a_comesDown, .ref a_held])), (a_w, .inl (X.E 1, 1142, .inl w)), (a_up, .inl (X.E 1, 8, .inl up)), (a_down, .inl (X.E 1, 8, .inl down)), (a_fell, .inl (X.E 1, 8, .inl fell))]) (stk := [.int r_3]) rfl rfl rfl ?_)
    clear hv
    refine g_if_ne (tgt := 24) h dX8_odds_19 rfl hf (fun c4 hf => ?_) (fun c4 hf => ?_)
    · refine g_iconst (v := (-1)) h dX8_odds_22 kiconst_m1 ?_
      obtain ⟨rfl, rfl, rfl, rfl, rfl, rfl, rfl, rfl, rfl⟩ := sj9 hf
      exact g_iret h hF [0, 1, 2, 3, 4] rfl rfl ⟨rfl, rfl⟩ (fle rfl) (fle rfl) dX8_odds_23
    · refine g_aload_n h 0 dX8_odds_24 rfl rfl ?_
      refine g_iconst (v := 0) h dX8_odds_25 kiconst_0 ?_
      obtain ⟨r_5, hv, hf⟩ := ob1 hf
      refine g_callV (ci := 8) (q0 := 0) (n := 1) (As := [.int 0]) (st := []) (wr := [(a_up, .inl (X.E 1, 8, .inl up)), (a_down, .inl (X.E 1, 8, .inl down)), (a_fell, .inl (X.E 1, 8, .inl fell))]) (isC := [0, 1]) (isR := [2, 3, 4]) h hR (ct_X8_holding (a := a) (a_w := a_w) (a_tape := a_tape) (a_lane := a_lane) (a_size := a_size) (a_items := a_items) (a_up := a_up) (a_down := a_down) (a_fell := a_fell) (a_read := a_read) (a_comesUp := a_comesUp) (a_comesDown := a_comesDown) (a_held := a_held) (x1 := 0) (isImage := isImage) (taped := taped) (above := above) (below := below) (fallen := fallen) (torn := torn) (at_ := at_) (start := start) (number := number) (w := w) hv) rfl rfl (lw_V q1387 q1389 qs50 q80 q1390) (by decide +kernel) rfl ⟨rfl, rfl, rfl, rfl, by decide⟩ ⟨fle rfl, fle rfl, fle rfl, fle rfl, fle rfl⟩ rfl dX8_odds_26 (pin (perm := [3, 4, 0, 1, 2]) (ws' := [(a, .inr (8, [.ref a_w, .int isImage, .ref a_tape, .int taped, .ref a_lane, .ref a_size, .ref a_items, .ref a_up, .ref a_down, .int above, .int below, .ref a_fell, .int fallen, .int torn, .int at_, .int start, .int number, .ref a_read, .ref a_comesUp, .ref a_comesDown, .ref a_held])), (a_w, .inl (X.E 1, 1142, .inl w)), (a_up, .inl (X.E 1, 8, .inl up)), (a_down, .inl (X.E 1, 8, .inl down)), (a_fell, .inl (X.E 1, 8, .inl fell))]) (stk := [.int r_5]) rfl rfl rfl ?_)
      clear hv
      refine g_istore_n (lv' := [(3, .int r_5), (0, .ref a), (1, .int x1), (2, .int x2)]) h dX8_odds_29 rfl (hL 3 (fle rfl)) rfl ?_
      refine g_iconst (v := 0) h dX8_odds_30 kiconst_0 ?_
      refine g_istore (lv' := [(4, .int 0), (3, .int r_5), (0, .ref a), (1, .int x1), (2, .int x2)]) h dX8_odds_31 (hL 4 (fle rfl)) rfl ?_
      refine g_iconst (v := 1) h dX8_odds_33 kiconst_1 ?_
      refine g_istore (lv' := [(5, .int 1), (4, .int 0), (3, .int r_5), (0, .ref a), (1, .int x1), (2, .int x2)]) h dX8_odds_34 (hL 5 (fle rfl)) rfl ?_
      refine g_iconst (v := 0) h dX8_odds_36 kiconst_0 ?_
      refine g_istore (lv' := [(6, .int 0), (5, .int 1), (4, .int 0), (3, .int r_5), (0, .ref a), (1, .int x1), (2, .int x2)]) h dX8_odds_37 (hL 6 (fle rfl)) rfl ?_
      refine G.lsub (lv' := [(0, .ref a), (1, .int x1), (2, .int x2), (3, .int r_5), (4, .int 0), (5, .int 1), (6, .int 0)]) [4, 5, 6, 3, 2, 1, 0] rfl ?_
      obtain ⟨x5_8, hv, hf⟩ := ob1 hf
      refine w_X8_odds_L39 (x1 := x1) (x2 := x2) (x3 := r_5) (x4 := 0) (isImage := isImage) (taped := taped) (above := above) (below := below) (fallen := fallen) (torn := torn) (at_ := at_) (start := start) (number := number) (w := w) (up := up) (down := down) (fell := fell) h hR hL (fle rfl) (fle rfl) FU _ _ hv ?_
      · clear hv
        refine g_iconst (v := 0) h dX8_odds_61 kiconst_0 ?_
        refine g_istore (lv' := [(6, .int 0), (0, .ref a), (1, .int x1), (2, .int x2), (3, .int r_5), (4, .int 0), (5, .int x5_8)]) h dX8_odds_62 (hL 6 (fle rfl)) rfl ?_
        refine G.lsub (lv' := [(0, .ref a), (1, .int x1), (2, .int x2), (3, .int r_5), (4, .int 0), (5, .int x5_8), (6, .int 0)]) [1, 2, 3, 4, 5, 6, 0] rfl ?_
        obtain ⟨x4_35, above_36, below_37, fallen_38, torn_39, w_40, up_41, down_42, fell_43, hv, hf⟩ := ob9 hf
        refine w_X8_odds_L64 (x1 := x1) (x2 := x2) (x3 := r_5) (x5 := x5_8) (isImage := isImage) (taped := taped) (at_ := at_) (start := start) (number := number) h hR hL (fle rfl) (fle rfl) FU _ _ _ _ _ _ _ _ _ _ hv ?_
        · clear hv
          refine g_iload h 1 dX8_odds_214 rfl ?_
          refine g_iload h 2 dX8_odds_216 rfl ?_
          refine g_iload_n h 0 dX8_odds_218 rfl rfl ?_
          obtain ⟨r_44, hv, hf⟩ := ob1 hf
          refine g_callS (n := 3) (As := [.int x4_35, .int x5_8, .int x2]) (st := []) (wr := [(a, .inr (8, [.ref a_w, .int isImage, .ref a_tape, .int taped, .ref a_lane, .ref a_size, .ref a_items, .ref a_up, .ref a_down, .int above_36, .int below_37, .ref a_fell, .int fallen_38, .int torn_39, .int at_, .int start, .int number, .ref a_read, .ref a_comesUp, .ref a_comesDown, .ref a_held])), (a_w, .inl (X.E 1, 1142, .inl w_40)), (a_up, .inl (X.E 1, 8, .inl up_41)), (a_down, .inl (X.E 1, 8, .inl down_42)), (a_fell, .inl (X.E 1, 8, .inl fell_43))]) (isC := []) (isR := [0, 1, 2, 3, 4]) h hR (ct_X8_partOf (x0 := x4_35) (x1 := x5_8) (x2 := x2) hv) (lw_S q1360 q1361 q80 q1362) (by decide +kernel) rfl ⟨rfl, rfl, rfl, rfl, by decide⟩ ⟨fle rfl, fle rfl, fle rfl, fle rfl, fle rfl⟩ rfl dX8_odds_219 (pin (perm := [0, 1, 2, 3, 4]) (ws' := [(a, .inr (8, [.ref a_w, .int isImage, .ref a_tape, .int taped, .ref a_lane, .ref a_size, .ref a_items, .ref a_up, .ref a_down, .int above_36, .int below_37, .ref a_fell, .int fallen_38, .int torn_39, .int at_, .int start, .int number, .ref a_read, .ref a_comesUp, .ref a_comesDown, .ref a_held])), (a_w, .inl (X.E 1, 1142, .inl w_40)), (a_up, .inl (X.E 1, 8, .inl up_41)), (a_down, .inl (X.E 1, 8, .inl down_42)), (a_fell, .inl (X.E 1, 8, .inl fell_43))]) (stk := [.int r_44]) rfl rfl rfl ?_)
          clear hv
          obtain ⟨rfl, rfl, rfl, rfl, rfl, rfl, rfl, rfl, rfl⟩ := sj9 hf
          exact g_iret h hF [0, 1, 2, 3, 4] rfl rfl ⟨rfl, rfl⟩ (fle rfl) (fle rfl) dX8_odds_222
set_option maxHeartbeats 4000000 in
set_option maxRecDepth 100000 in
theorem w_X8_firstHolding_L2 {X : Cx} {a a_comesDown a_comesUp a_down a_fell a_held a_items a_lane a_read a_size a_tape a_up a_w : Nat} {isImage : Int32} {taped : Int32} {above : Int32} {below : Int32} {fallen : Int32} {torn : Int32} {at_ : Int32} {start : Int32} {number : Int32} {w : Nat → Int32} {ce sl : Nat} (h : Ok X cX8_firstHolding RX8) (hR : Rm X 1 22 0 0) (hL : ∀ i, i < 2 → i < X.nL) (hce : ce ≤ 0) (hsl : sl ≤ 0) : ∀ (n0 : Nat) (x1 : Int32) {o_x1 : Int32}, f_X8_firstHolding_L2 w n0 x1 = some o_x1 → (G X [(a, .inr (8, [.ref a_w, .int isImage, .ref a_tape, .int taped, .ref a_lane, .ref a_size, .ref a_items, .ref a_up, .ref a_down, .int above, .int below, .ref a_fell, .int fallen, .int torn, .int at_, .int start, .int number, .ref a_read, .ref a_comesUp, .ref a_comesDown, .ref a_held])), (a_w, .inl (X.E 1, 1142, .inl w))] [(1, .int o_x1)] ce sl 17 []) → G X [(a, .inr (8, [.ref a_w, .int isImage, .ref a_tape, .int taped, .ref a_lane, .ref a_size, .ref a_items, .ref a_up, .ref a_down, .int above, .int below, .ref a_fell, .int fallen, .int torn, .int at_, .int start, .int number, .ref a_read, .ref a_comesUp, .ref a_comesDown, .ref a_held])), (a_w, .inl (X.E 1, 1142, .inl w))] [(0, .ref a), (1, .int x1)] ce sl 2 [] := by
  intro n0
  induction n0 with
  | zero => intro x1 o_x1 hf; exact nomatch (show (none : Option _) = some _ from hf)
  | succ n0 ih =>
    intro x1 o_x1 hf k0
    replace hf : t_X8_firstHolding_L2 w (f_X8_firstHolding_L2 w n0) x1 = some o_x1 := hf
    unfold t_X8_firstHolding_L2 at hf
    refine g_aload_n h 0 dX8_firstHolding_2 rfl rfl ?_
    refine g_iconst (v := 0) h dX8_firstHolding_3 kiconst_0 ?_
    refine g_iload_n h 1 dX8_firstHolding_4 rfl rfl ?_
    obtain ⟨r_1, hv, hf⟩ := ob1 hf
    refine g_callV (ci := 8) (q0 := 0) (n := 2) (As := [.int 0, .int x1]) (st := []) (wr := []) (isC := [0, 1]) (isR := []) h hR (ct_X8_holds (a := a) (a_w := a_w) (a_tape := a_tape) (a_lane := a_lane) (a_size := a_size) (a_items := a_items) (a_up := a_up) (a_down := a_down) (a_fell := a_fell) (a_read := a_read) (a_comesUp := a_comesUp) (a_comesDown := a_comesDown) (a_held := a_held) (x1 := 0) (x2 := x1) (isImage := isImage) (taped := taped) (above := above) (below := below) (fallen := fallen) (torn := torn) (at_ := at_) (start := start) (number := number) (w := w) hv) rfl rfl (lw_V q1284 q1286 qs37 q80 q1287) (by decide +kernel) rfl ⟨rfl, rfl, rfl, rfl, by decide⟩ ⟨hce, hsl, fle rfl, fle rfl, fle rfl⟩ rfl dX8_firstHolding_5 (pin (perm := [0, 1]) (ws' := [(a, .inr (8, [.ref a_w, .int isImage, .ref a_tape, .int taped, .ref a_lane, .ref a_size, .ref a_items, .ref a_up, .ref a_down, .int above, .int below, .ref a_fell, .int fallen, .int torn, .int at_, .int start, .int number, .ref a_read, .ref a_comesUp, .ref a_comesDown, .ref a_held])), (a_w, .inl (X.E 1, 1142, .inl w))]) (stk := [.int r_1]) rfl rfl rfl ?_)
    clear hv
    refine g_if_ne (tgt := 17) h dX8_firstHolding_8 rfl hf (fun c2 hf => ?_) (fun c2 hf => ?_)
    · refine g_iinc (j := 1) (v := (x1 + 1)) (lv' := [(1, .int (x1 + 1)), (0, .ref a)]) h dX8_firstHolding_11 rfl (kinc_1 _) (hL 1 (fle rfl)) rfl ?_
      refine g_goto (tgt := 2) h dX8_firstHolding_14 rfl ?_
      exact G.lsub [1, 0] rfl (ih _ hf k0)
    · obtain rfl := sj1 hf
      exact G.lsub [1] rfl k0
set_option maxHeartbeats 4000000 in
set_option maxRecDepth 100000 in
theorem ct_X8_firstHolding {l : Launch} {D : va_G} {E : Ety} {a a_w a_tape a_lane a_size a_items a_up a_down a_fell a_read a_comesUp a_comesDown a_held : Nat} {isImage : Int32} {taped : Int32} {above : Int32} {below : Int32} {fallen : Int32} {torn : Int32} {at_ : Int32} {start : Int32} {number : Int32} {w : Nat → Int32} {r_ : Int32} (hf : f_X8_firstHolding w = some r_) : Ct l yX8_firstHolding cX8_firstHolding 2 (some .int) 1 22 0 0 D E [.ref a] [(a, .inr (8, [.ref a_w, .int isImage, .ref a_tape, .int taped, .ref a_lane, .ref a_size, .ref a_items, .ref a_up, .ref a_down, .int above, .int below, .ref a_fell, .int fallen, .int torn, .int at_, .int start, .int number, .ref a_read, .ref a_comesUp, .ref a_comesDown, .ref a_held])), (a_w, .inl (E 1, 1142, .inl w))] (Pn (some (.int r_)) [(a, .inr (8, [.ref a_w, .int isImage, .ref a_tape, .int taped, .ref a_lane, .ref a_size, .ref a_items, .ref a_up, .ref a_down, .int above, .int below, .ref a_fell, .int fallen, .int torn, .int at_, .int start, .int number, .ref a_read, .ref a_comesUp, .ref a_comesDown, .ref a_held])), (a_w, .inl (E 1, 1142, .inl w))]) := by
  refine ct_of (own := RX8) (plainFor_of_name (by decide)) rfl (fle rfl) rfl ?_
  intro X hl hD hE hnL hXF h hR hF hnm
  subst hl; subst hD; subst hE
  have hL : ∀ i, i < 2 → i < X.nL := fun i hi => by rw [hnL]; exact hi
  unfold f_X8_firstHolding at hf
  refine g_iconst (v := 0) h dX8_firstHolding_0 kiconst_0 ?_
  refine g_istore_n (lv' := [(1, .int 0), (0, .ref a)]) h dX8_firstHolding_1 rfl (hL 1 (fle rfl)) rfl ?_
  refine G.lsub (lv' := [(0, .ref a), (1, .int 0)]) [1, 0] rfl ?_
  obtain ⟨x1_3, hv, hf⟩ := ob1 hf
  refine w_X8_firstHolding_L2 (isImage := isImage) (taped := taped) (above := above) (below := below) (fallen := fallen) (torn := torn) (at_ := at_) (start := start) (number := number) (w := w) h hR hL (fle rfl) (fle rfl) FU _ hv ?_
  · clear hv
    refine g_iload_n h 0 dX8_firstHolding_17 rfl rfl ?_
    obtain rfl := sj1 hf
    exact g_iret h hF [0, 1] rfl rfl ⟨rfl, rfl⟩ (fle rfl) (fle rfl) dX8_firstHolding_18
set_option maxHeartbeats 4000000 in
set_option maxRecDepth 100000 in
theorem w_X8_lastHolding_L9 {X : Cx} {a a_comesDown a_comesUp a_down a_fell a_held a_items a_lane a_read a_size a_tape a_up a_w : Nat} {isImage : Int32} {taped : Int32} {above : Int32} {below : Int32} {fallen : Int32} {torn : Int32} {at_ : Int32} {start : Int32} {number : Int32} {w : Nat → Int32} {ce sl : Nat} (h : Ok X cX8_lastHolding RX8) (hR : Rm X 1 22 0 0) (hL : ∀ i, i < 2 → i < X.nL) (hce : ce ≤ 0) (hsl : sl ≤ 0) : ∀ (n0 : Nat) (x1 : Int32) {o_x1 : Int32}, f_X8_lastHolding_L9 w n0 x1 = some o_x1 → (G X [(a, .inr (8, [.ref a_w, .int isImage, .ref a_tape, .int taped, .ref a_lane, .ref a_size, .ref a_items, .ref a_up, .ref a_down, .int above, .int below, .ref a_fell, .int fallen, .int torn, .int at_, .int start, .int number, .ref a_read, .ref a_comesUp, .ref a_comesDown, .ref a_held])), (a_w, .inl (X.E 1, 1142, .inl w))] [(1, .int o_x1)] ce sl 24 []) → G X [(a, .inr (8, [.ref a_w, .int isImage, .ref a_tape, .int taped, .ref a_lane, .ref a_size, .ref a_items, .ref a_up, .ref a_down, .int above, .int below, .ref a_fell, .int fallen, .int torn, .int at_, .int start, .int number, .ref a_read, .ref a_comesUp, .ref a_comesDown, .ref a_held])), (a_w, .inl (X.E 1, 1142, .inl w))] [(0, .ref a), (1, .int x1)] ce sl 9 [] := by
  intro n0
  induction n0 with
  | zero => intro x1 o_x1 hf; exact nomatch (show (none : Option _) = some _ from hf)
  | succ n0 ih =>
    intro x1 o_x1 hf k0
    replace hf : t_X8_lastHolding_L9 w (f_X8_lastHolding_L9 w n0) x1 = some o_x1 := hf
    unfold t_X8_lastHolding_L9 at hf
    refine g_aload_n h 0 dX8_lastHolding_9 rfl rfl ?_
    refine g_iconst (v := 0) h dX8_lastHolding_10 kiconst_0 ?_
    refine g_iload_n h 1 dX8_lastHolding_11 rfl rfl ?_
    obtain ⟨r_2, hv, hf⟩ := ob1 hf
    refine g_callV (ci := 8) (q0 := 0) (n := 2) (As := [.int 0, .int x1]) (st := []) (wr := []) (isC := [0, 1]) (isR := []) h hR (ct_X8_holds (a := a) (a_w := a_w) (a_tape := a_tape) (a_lane := a_lane) (a_size := a_size) (a_items := a_items) (a_up := a_up) (a_down := a_down) (a_fell := a_fell) (a_read := a_read) (a_comesUp := a_comesUp) (a_comesDown := a_comesDown) (a_held := a_held) (x1 := 0) (x2 := x1) (isImage := isImage) (taped := taped) (above := above) (below := below) (fallen := fallen) (torn := torn) (at_ := at_) (start := start) (number := number) (w := w) hv) rfl rfl (lw_V q1284 q1286 qs37 q80 q1287) (by decide +kernel) rfl ⟨rfl, rfl, rfl, rfl, by decide⟩ ⟨hce, hsl, fle rfl, fle rfl, fle rfl⟩ rfl dX8_lastHolding_12 (pin (perm := [0, 1]) (ws' := [(a, .inr (8, [.ref a_w, .int isImage, .ref a_tape, .int taped, .ref a_lane, .ref a_size, .ref a_items, .ref a_up, .ref a_down, .int above, .int below, .ref a_fell, .int fallen, .int torn, .int at_, .int start, .int number, .ref a_read, .ref a_comesUp, .ref a_comesDown, .ref a_held])), (a_w, .inl (X.E 1, 1142, .inl w))]) (stk := [.int r_2]) rfl rfl rfl ?_)
    clear hv
    refine g_if_ne (tgt := 24) h dX8_lastHolding_15 rfl hf (fun c3 hf => ?_) (fun c3 hf => ?_)
    · refine g_iinc (j := 1) (v := (x1 + (-1))) (lv' := [(1, .int (x1 + (-1))), (0, .ref a)]) h dX8_lastHolding_18 rfl (kinc_m1 _) (hL 1 (fle rfl)) rfl ?_
      refine g_goto (tgt := 9) h dX8_lastHolding_21 rfl ?_
      exact G.lsub [1, 0] rfl (ih _ hf k0)
    · obtain rfl := sj1 hf
      exact G.lsub [1] rfl k0
set_option maxHeartbeats 4000000 in
set_option maxRecDepth 100000 in
theorem ct_X8_lastHolding {l : Launch} {D : va_G} {E : Ety} {a a_w a_tape a_lane a_size a_items a_up a_down a_fell a_read a_comesUp a_comesDown a_held : Nat} {isImage : Int32} {taped : Int32} {above : Int32} {below : Int32} {fallen : Int32} {torn : Int32} {at_ : Int32} {start : Int32} {number : Int32} {w : Nat → Int32} {r_ : Int32} (hf : f_X8_lastHolding w = some r_) : Ct l yX8_lastHolding cX8_lastHolding 2 (some .int) 1 22 0 0 D E [.ref a] [(a, .inr (8, [.ref a_w, .int isImage, .ref a_tape, .int taped, .ref a_lane, .ref a_size, .ref a_items, .ref a_up, .ref a_down, .int above, .int below, .ref a_fell, .int fallen, .int torn, .int at_, .int start, .int number, .ref a_read, .ref a_comesUp, .ref a_comesDown, .ref a_held])), (a_w, .inl (E 1, 1142, .inl w))] (Pn (some (.int r_)) [(a, .inr (8, [.ref a_w, .int isImage, .ref a_tape, .int taped, .ref a_lane, .ref a_size, .ref a_items, .ref a_up, .ref a_down, .int above, .int below, .ref a_fell, .int fallen, .int torn, .int at_, .int start, .int number, .ref a_read, .ref a_comesUp, .ref a_comesDown, .ref a_held])), (a_w, .inl (E 1, 1142, .inl w))]) := by
  refine ct_of (own := RX8) (plainFor_of_name (by decide)) rfl (fle rfl) rfl ?_
  intro X hl hD hE hnL hXF h hR hF hnm
  subst hl; subst hD; subst hE
  have hL : ∀ i, i < 2 → i < X.nL := fun i hi => by rw [hnL]; exact hi
  unfold f_X8_lastHolding at hf
  refine g_aload_n h 0 dX8_lastHolding_0 rfl rfl ?_
  refine g_get (ci := 8) (v := .ref a_w) h in_X8 0 0 rfl rfl (fle rfl) rfl q1166 rfl dX8_lastHolding_1 ?_
  refine g_iconst (v := 0) h dX8_lastHolding_4 kiconst_0 ?_
  refine g_iaload h 1 rfl (by decide) dX8_lastHolding_5 ?_
  refine g_iconst (v := 1) h dX8_lastHolding_6 kiconst_1 ?_
  refine g_isub h dX8_lastHolding_7 ?_
  refine nm_i (fun y_1 ey_1 => ?_)
  have hf := nm_at hf y_1 ey_1
  refine g_istore_n (lv' := [(1, .int y_1), (0, .ref a)]) h dX8_lastHolding_8 rfl (hL 1 (fle rfl)) rfl ?_
  refine G.lsub (lv' := [(0, .ref a), (1, .int y_1)]) [1, 0] rfl ?_
  obtain ⟨x1_4, hv, hf⟩ := ob1 hf
  refine w_X8_lastHolding_L9 (isImage := isImage) (taped := taped) (above := above) (below := below) (fallen := fallen) (torn := torn) (at_ := at_) (start := start) (number := number) (w := w) h hR hL (fle rfl) (fle rfl) FU _ hv ?_
  · clear hv
    refine g_iload_n h 0 dX8_lastHolding_24 rfl rfl ?_
    obtain rfl := sj1 hf
    exact g_iret h hF [0, 1] rfl rfl ⟨rfl, rfl⟩ (fle rfl) (fle rfl) dX8_lastHolding_25
set_option maxHeartbeats 4000000 in
set_option maxRecDepth 100000 in
theorem w_X8_plays_L12 {X : Cx} {a a_comesDown a_comesUp a_down a_fell a_held a_items a_lane a_read a_size a_tape a_up a_w : Nat} {x1 : Int32} {x2 : Int32} {x3 : Int32} {isImage : Int32} {taped : Int32} {above : Int32} {below : Int32} {fallen : Int32} {torn : Int32} {at_ : Int32} {start : Int32} {number : Int32} {w : Nat → Int32} {up : Nat → Int32} {down : Nat → Int32} {comesUp : Nat → Int32} {comesDown : Nat → Int32} {ce sl : Nat} (h : Ok X cX8_plays RX8) (hR : Rm X 3 70 0 0) (hL : ∀ i, i < 9 → i < X.nL) (hce : ce ≤ 0) (hsl : sl ≤ 0) : ∀ (n0 : Nat) (x4 : Int32) (x5 : Int32) {o_x4 : Int32}, f_X8_plays_L12 x2 n0 x4 x5 = some o_x4 → (G X [(a, .inr (8, [.ref a_w, .int isImage, .ref a_tape, .int taped, .ref a_lane, .ref a_size, .ref a_items, .ref a_up, .ref a_down, .int above, .int below, .ref a_fell, .int fallen, .int torn, .int at_, .int start, .int number, .ref a_read, .ref a_comesUp, .ref a_comesDown, .ref a_held])), (a_w, .inl (X.E 1, 1142, .inl w)), (a_up, .inl (X.E 1, 8, .inl up)), (a_down, .inl (X.E 1, 8, .inl down)), (a_comesUp, .inl (X.E 1, 243, .inl comesUp)), (a_comesDown, .inl (X.E 1, 243, .inl comesDown))] [(0, .ref a), (1, .int x1), (2, .int x2), (3, .int x3), (4, .int o_x4)] ce sl 30 []) → G X [(a, .inr (8, [.ref a_w, .int isImage, .ref a_tape, .int taped, .ref a_lane, .ref a_size, .ref a_items, .ref a_up, .ref a_down, .int above, .int below, .ref a_fell, .int fallen, .int torn, .int at_, .int start, .int number, .ref a_read, .ref a_comesUp, .ref a_comesDown, .ref a_held])), (a_w, .inl (X.E 1, 1142, .inl w)), (a_up, .inl (X.E 1, 8, .inl up)), (a_down, .inl (X.E 1, 8, .inl down)), (a_comesUp, .inl (X.E 1, 243, .inl comesUp)), (a_comesDown, .inl (X.E 1, 243, .inl comesDown))] [(0, .ref a), (1, .int x1), (2, .int x2), (3, .int x3), (4, .int x4), (5, .int x5)] ce sl 12 [] := by
  intro n0
  induction n0 with
  | zero => intro x4 x5 o_x4 hf; exact nomatch (show (none : Option _) = some _ from hf)
  | succ n0 ih =>
    intro x4 x5 o_x4 hf k0
    replace hf : t_X8_plays_L12 x2 (f_X8_plays_L12 x2 n0) x4 x5 = some o_x4 := hf
    unfold t_X8_plays_L12 at hf
    refine g_iload h 5 dX8_plays_12 rfl ?_
    refine g_iload_n h 2 dX8_plays_14 rfl rfl ?_
    refine g_icmp_ge (tgt := 30) h dX8_plays_15 rfl hf (fun c2 hf => ?_) (fun c2 hf => ?_)
    · obtain rfl := sj1 hf
      exact G.lsub [0, 1, 2, 3, 4] rfl k0
    · refine g_iload h 4 dX8_plays_18 rfl ?_
      refine g_iconst (v := 3) h dX8_plays_20 kiconst_3 ?_
      refine g_imul h dX8_plays_21 ?_
      refine g_istore (lv' := [(4, .int (x4 * 3)), (0, .ref a), (1, .int x1), (2, .int x2), (3, .int x3), (5, .int x5)]) h dX8_plays_22 (hL 4 (fle rfl)) rfl ?_
      refine g_iinc (j := 5) (v := (x5 + 1)) (lv' := [(5, .int (x5 + 1)), (4, .int (x4 * 3)), (0, .ref a), (1, .int x1), (2, .int x2), (3, .int x3)]) h dX8_plays_24 rfl (kinc_1 _) (hL 5 (fle rfl)) rfl ?_
      refine g_goto (tgt := 12) h dX8_plays_27 rfl ?_
      exact G.lsub [2, 3, 4, 5, 1, 0] rfl (ih _ _ hf k0)
set_option maxHeartbeats 4000000 in
set_option maxRecDepth 100000 in
theorem w_X8_plays_L36 {X : Cx} {a a_comesDown a_comesUp a_down a_fell a_held a_items a_lane a_read a_size a_tape a_up a_w : Nat} {x1 : Int32} {x2 : Int32} {isImage : Int32} {taped : Int32} {above : Int32} {below : Int32} {fallen : Int32} {torn : Int32} {at_ : Int32} {start : Int32} {number : Int32} {up : Nat → Int32} {down : Nat → Int32} {comesUp : Nat → Int32} {comesDown : Nat → Int32} {ce sl : Nat} (h : Ok X cX8_plays RX8) (hR : Rm X 3 70 0 0) (hL : ∀ i, i < 9 → i < X.nL) (hce : ce ≤ 0) (hsl : sl ≤ 0) : ∀ (n0 : Nat) (x3 : Int32) (x4 : Int32) (x5 : Int32) (x6 : Int32) (w : Nat → Int32) {o_x5 : Int32} {o_w : Nat → Int32}, f_X8_plays_L36 x2 n0 x3 x4 x5 x6 w = some (o_x5, o_w) → (G X [(a, .inr (8, [.ref a_w, .int isImage, .ref a_tape, .int taped, .ref a_lane, .ref a_size, .ref a_items, .ref a_up, .ref a_down, .int above, .int below, .ref a_fell, .int fallen, .int torn, .int at_, .int start, .int number, .ref a_read, .ref a_comesUp, .ref a_comesDown, .ref a_held])), (a_w, .inl (X.E 1, 1142, .inl o_w)), (a_up, .inl (X.E 1, 8, .inl up)), (a_down, .inl (X.E 1, 8, .inl down)), (a_comesUp, .inl (X.E 1, 243, .inl comesUp)), (a_comesDown, .inl (X.E 1, 243, .inl comesDown))] [(0, .ref a), (1, .int x1), (5, .int o_x5)] ce sl 139 []) → G X [(a, .inr (8, [.ref a_w, .int isImage, .ref a_tape, .int taped, .ref a_lane, .ref a_size, .ref a_items, .ref a_up, .ref a_down, .int above, .int below, .ref a_fell, .int fallen, .int torn, .int at_, .int start, .int number, .ref a_read, .ref a_comesUp, .ref a_comesDown, .ref a_held])), (a_w, .inl (X.E 1, 1142, .inl w)), (a_up, .inl (X.E 1, 8, .inl up)), (a_down, .inl (X.E 1, 8, .inl down)), (a_comesUp, .inl (X.E 1, 243, .inl comesUp)), (a_comesDown, .inl (X.E 1, 243, .inl comesDown))] [(0, .ref a), (1, .int x1), (2, .int x2), (3, .int x3), (4, .int x4), (5, .int x5), (6, .int x6)] ce sl 36 [] := by
  intro n0
  induction n0 with
  | zero => intro x3 x4 x5 x6 w o_x5 o_w hf; exact nomatch (show (none : Option _) = some _ from hf)
  | succ n0 ih =>
    intro x3 x4 x5 x6 w o_x5 o_w hf k0
    replace hf : t_X8_plays_L36 x2 (f_X8_plays_L36 x2 n0) x3 x4 x5 x6 w = some (o_x5, o_w) := hf
    unfold t_X8_plays_L36 at hf
    refine g_iload h 6 dX8_plays_36 rfl ?_
    refine g_iload_n h 2 dX8_plays_38 rfl rfl ?_
    refine g_icmp_ge (tgt := 139) h dX8_plays_39 rfl hf (fun c4 hf => ?_) (fun c4 hf => ?_)
    · obtain ⟨rfl, rfl⟩ := sj2 hf
      exact G.lsub [0, 1, 5] rfl k0
    · refine g_iload h 6 dX8_plays_42 rfl ?_
      refine g_iconst (v := 2) h dX8_plays_44 kiconst_2 ?_
      refine g_irem h dX8_plays_45 (by decide) ?_
      obtain ⟨z_8, hw, hf⟩ := ob1 hf
      have K46 : G X [(a, .inr (8, [.ref a_w, .int isImage, .ref a_tape, .int taped, .ref a_lane, .ref a_size, .ref a_items, .ref a_up, .ref a_down, .int above, .int below, .ref a_fell, .int fallen, .int torn, .int at_, .int start, .int number, .ref a_read, .ref a_comesUp, .ref a_comesDown, .ref a_held])), (a_w, .inl (X.E 1, 1142, .inl w)), (a_up, .inl (X.E 1, 8, .inl up)), (a_down, .inl (X.E 1, 8, .inl down)), (a_comesUp, .inl (X.E 1, 243, .inl comesUp)), (a_comesDown, .inl (X.E 1, 243, .inl comesDown))] [(0, .ref a), (1, .int x1), (2, .int x2), (3, .int x3), (4, .int x4), (5, .int x5), (6, .int x6)] ce sl 60 [.int z_8] := by
        clear hw
        refine g_istore (lv' := [(7, .int z_8), (0, .ref a), (1, .int x1), (2, .int x2), (3, .int x3), (4, .int x4), (5, .int x5), (6, .int x6)]) h dX8_plays_60 (hL 7 (fle rfl)) rfl ?_
        refine g_iload_n h 4 dX8_plays_62 rfl rfl ?_
        refine g_iload h 5 dX8_plays_63 rfl ?_
        obtain ⟨g11, hf⟩ := gn hf
        refine g_idiv h dX8_plays_65 g11 ?_
        refine g_iconst (v := 1) h dX8_plays_66 kiconst_1 ?_
        refine g_isub h dX8_plays_67 ?_
        refine g_istore (lv' := [(8, .int ((x3 / x4) - 1)), (7, .int z_8), (0, .ref a), (1, .int x1), (2, .int x2), (3, .int x3), (4, .int x4), (5, .int x5), (6, .int x6)]) h dX8_plays_68 (hL 8 (fle rfl)) rfl ?_
        refine g_iload_n h 5 dX8_plays_70 rfl rfl ?_
        refine g_iload h 6 dX8_plays_71 rfl ?_
        refine g_irem h dX8_plays_73 g11 ?_
        refine g_istore_n (lv' := [(3, .int (x3 - x3 / x4 * x4)), (8, .int ((x3 / x4) - 1)), (7, .int z_8), (0, .ref a), (1, .int x1), (2, .int x2), (4, .int x4), (5, .int x5), (6, .int x6)]) h dX8_plays_74 rfl (hL 3 (fle rfl)) rfl ?_
        refine g_iload h 6 dX8_plays_75 rfl ?_
        refine g_iconst (v := 1) h dX8_plays_77 kiconst_1 ?_
        obtain ⟨z_13, hw, hf⟩ := ob1 hf
        have K78 : G X [(a, .inr (8, [.ref a_w, .int isImage, .ref a_tape, .int taped, .ref a_lane, .ref a_size, .ref a_items, .ref a_up, .ref a_down, .int above, .int below, .ref a_fell, .int fallen, .int torn, .int at_, .int start, .int number, .ref a_read, .ref a_comesUp, .ref a_comesDown, .ref a_held])), (a_w, .inl (X.E 1, 1142, .inl w)), (a_up, .inl (X.E 1, 8, .inl up)), (a_down, .inl (X.E 1, 8, .inl down)), (a_comesUp, .inl (X.E 1, 243, .inl comesUp)), (a_comesDown, .inl (X.E 1, 243, .inl comesDown))] [(0, .ref a), (1, .int x1), (2, .int x2), (3, .int (x3 - x3 / x4 * x4)), (5, .int x5), (6, .int x6), (7, .int z_8), (8, .int ((x3 / x4) - 1))] ce sl 89 [.int z_13] := by
          clear hw
          refine g_istore (lv' := [(4, .int z_13), (0, .ref a), (1, .int x1), (2, .int x2), (3, .int (x3 - x3 / x4 * x4)), (5, .int x5), (6, .int x6), (7, .int z_8), (8, .int ((x3 / x4) - 1))]) h dX8_plays_89 (hL 4 (fle rfl)) rfl ?_
          refine g_iload h 5 dX8_plays_91 rfl ?_
          obtain ⟨z_17, hw, hf⟩ := ob1 hf
          have K93 : G X [(a, .inr (8, [.ref a_w, .int isImage, .ref a_tape, .int taped, .ref a_lane, .ref a_size, .ref a_items, .ref a_up, .ref a_down, .int above, .int below, .ref a_fell, .int fallen, .int torn, .int at_, .int start, .int number, .ref a_read, .ref a_comesUp, .ref a_comesDown, .ref a_held])), (a_w, .inl (X.E 1, 1142, .inl w)), (a_up, .inl (X.E 1, 8, .inl up)), (a_down, .inl (X.E 1, 8, .inl down)), (a_comesUp, .inl (X.E 1, 243, .inl comesUp)), (a_comesDown, .inl (X.E 1, 243, .inl comesDown))] [(0, .ref a), (1, .int x1), (2, .int x2), (3, .int (x3 - x3 / x4 * x4)), (4, .int z_13), (6, .int x6), (7, .int z_8), (8, .int ((x3 / x4) - 1))] ce sl 115 [.int z_17] := by
            clear hw
            refine g_istore (lv' := [(5, .int z_17), (0, .ref a), (1, .int x1), (2, .int x2), (3, .int (x3 - x3 / x4 * x4)), (4, .int z_13), (6, .int x6), (7, .int z_8), (8, .int ((x3 / x4) - 1))]) h dX8_plays_115 (hL 5 (fle rfl)) rfl ?_
            refine g_aload_n h 1 dX8_plays_117 rfl rfl ?_
            refine g_get (ci := 8) (v := .ref a_w) h in_X8 0 0 rfl rfl (fle rfl) rfl q1166 rfl dX8_plays_118 ?_
            refine g_sipush (v := 1110) h dX8_plays_121 ksipush_1110 ?_
            refine g_iload h 7 dX8_plays_124 rfl ?_
            refine g_iadd h dX8_plays_126 ?_
            refine g_dup2 h dX8_plays_127 rfl rfl ?_
            obtain ⟨g20, hf⟩ := gn hf
            refine g_iaload h 1 rfl g20 dX8_plays_128 ?_
            refine g_iload h 8 dX8_plays_129 rfl ?_
            refine g_iadd h dX8_plays_131 ?_
            refine g_iastore (ws' := [(a, .inr (8, [.ref a_w, .int isImage, .ref a_tape, .int taped, .ref a_lane, .ref a_size, .ref a_items, .ref a_up, .ref a_down, .int above, .int below, .ref a_fell, .int fallen, .int torn, .int at_, .int start, .int number, .ref a_read, .ref a_comesUp, .ref a_comesDown, .ref a_held])), (a_w, .inl (X.E 1, 1142, .inl (upd w (1110 + z_8).toNatClampNeg ((w (1110 + z_8).toNatClampNeg) + ((x3 / x4) - 1))))), (a_up, .inl (X.E 1, 8, .inl up)), (a_down, .inl (X.E 1, 8, .inl down)), (a_comesUp, .inl (X.E 1, 243, .inl comesUp)), (a_comesDown, .inl (X.E 1, 243, .inl comesDown))]) h 1 rfl g20 rfl dX8_plays_132 ?_
            refine g_iinc (j := 6) (v := (x6 + 1)) (lv' := [(6, .int (x6 + 1)), (5, .int z_17), (0, .ref a), (1, .int x1), (2, .int x2), (3, .int (x3 - x3 / x4 * x4)), (4, .int z_13), (7, .int z_8), (8, .int ((x3 / x4) - 1))]) h dX8_plays_133 rfl (kinc_1 _) (hL 6 (fle rfl)) rfl ?_
            refine g_goto (tgt := 36) h dX8_plays_136 rfl ?_
            exact G.lsub [2, 3, 4, 5, 6, 1, 0] rfl (ih _ _ _ _ _ hf k0)
          clear hf
          have hf := hw
          clear hw
          refine g_if_eq (tgt := 114) h dX8_plays_93 rfl hf (fun c14 hf => ?_) (fun c14 hf => ?_)
          · refine g_iconst (v := 0) h dX8_plays_114 kiconst_0 ?_
            obtain rfl := sj1 hf
            exact G.lsub [1, 2, 3, 4, 0, 6, 7, 8] rfl K93
          · refine g_aload_n h 1 dX8_plays_96 rfl rfl ?_
            refine g_sipush (v := 1082) h dX8_plays_97 ksipush_1082 ?_
            refine g_iload h 7 dX8_plays_100 rfl ?_
            refine g_iload h 8 dX8_plays_102 rfl ?_
            obtain ⟨r_18, hv, hf⟩ := ob1 hf
            refine g_callV (ci := 8) (q0 := 0) (n := 3) (As := [.int 1082, .int z_8, .int ((x3 / x4) - 1)]) (st := []) (wr := [(a_up, .inl (X.E 1, 8, .inl up)), (a_down, .inl (X.E 1, 8, .inl down)), (a_comesUp, .inl (X.E 1, 243, .inl comesUp)), (a_comesDown, .inl (X.E 1, 243, .inl comesDown))]) (isC := [0, 1]) (isR := [2, 3, 4, 5]) h hR (ct_X8_mayGo (a := a) (a_w := a_w) (a_tape := a_tape) (a_lane := a_lane) (a_size := a_size) (a_items := a_items) (a_up := a_up) (a_down := a_down) (a_fell := a_fell) (a_read := a_read) (a_comesUp := a_comesUp) (a_comesDown := a_comesDown) (a_held := a_held) (x1 := 1082) (x2 := z_8) (x3 := ((x3 / x4) - 1)) (isImage := isImage) (taped := taped) (above := above) (below := below) (fallen := fallen) (torn := torn) (at_ := at_) (start := start) (number := number) (w := w) hv) rfl rfl (lw_V q1412 q1414 qs55 q80 q1415) (by decide +kernel) rfl ⟨rfl, rfl, rfl, rfl, by decide⟩ ⟨hce, hsl, fle rfl, fle rfl, fle rfl⟩ rfl dX8_plays_104 (pin (perm := [4, 5, 0, 1, 2, 3]) (ws' := [(a, .inr (8, [.ref a_w, .int isImage, .ref a_tape, .int taped, .ref a_lane, .ref a_size, .ref a_items, .ref a_up, .ref a_down, .int above, .int below, .ref a_fell, .int fallen, .int torn, .int at_, .int start, .int number, .ref a_read, .ref a_comesUp, .ref a_comesDown, .ref a_held])), (a_w, .inl (X.E 1, 1142, .inl w)), (a_up, .inl (X.E 1, 8, .inl up)), (a_down, .inl (X.E 1, 8, .inl down)), (a_comesUp, .inl (X.E 1, 243, .inl comesUp)), (a_comesDown, .inl (X.E 1, 243, .inl comesDown))]) (stk := [.int r_18]) rfl rfl rfl ?_)
            clear hv
            refine g_if_eq (tgt := 114) h dX8_plays_107 rfl hf (fun c19 hf => ?_) (fun c19 hf => ?_)
            · refine g_iconst (v := 0) h dX8_plays_114 kiconst_0 ?_
              obtain rfl := sj1 hf
              exact G.lsub [1, 2, 3, 4, 0, 6, 7, 8] rfl K93
            · refine g_iconst (v := 1) h dX8_plays_110 kiconst_1 ?_
              refine g_goto (tgt := 115) h dX8_plays_111 rfl ?_
              obtain rfl := sj1 hf
              exact G.lsub [1, 2, 3, 4, 0, 6, 7, 8] rfl K93
        clear hf
        have hf := hw
        clear hw
        refine g_icmp_ne (tgt := 85) h dX8_plays_78 rfl hf (fun c12 hf => ?_) (fun c12 hf => ?_)
        · refine g_iconst (v := 1) h dX8_plays_81 kiconst_1 ?_
          refine g_goto (tgt := 89) h dX8_plays_82 rfl ?_
          obtain rfl := sj1 hf
          exact G.lsub [3, 4, 5, 0, 7, 8, 2, 1] rfl K78
        · refine g_iload h 6 dX8_plays_85 rfl ?_
          refine g_iconst (v := 3) h dX8_plays_87 kiconst_3 ?_
          refine g_idiv h dX8_plays_88 (by decide) ?_
          obtain rfl := sj1 hf
          exact G.lsub [3, 4, 5, 0, 7, 8, 2, 1] rfl K78
      clear hf
      have hf := hw
      clear hw
      refine g_if_ne (tgt := 56) h dX8_plays_46 rfl hf (fun c5 hf => ?_) (fun c5 hf => ?_)
      · refine g_aload_n h 0 dX8_plays_49 rfl rfl ?_
        obtain ⟨r_9, hv, hf⟩ := ob1 hf
        refine g_callV (ci := 8) (q0 := 0) (n := 0) (As := []) (st := []) (wr := [(a_up, .inl (X.E 1, 8, .inl up)), (a_down, .inl (X.E 1, 8, .inl down)), (a_comesUp, .inl (X.E 1, 243, .inl comesUp)), (a_comesDown, .inl (X.E 1, 243, .inl comesDown))]) (isC := [0, 1]) (isR := [2, 3, 4, 5]) h hR (ct_X8_firstHolding (a := a) (a_w := a_w) (a_tape := a_tape) (a_lane := a_lane) (a_size := a_size) (a_items := a_items) (a_up := a_up) (a_down := a_down) (a_fell := a_fell) (a_read := a_read) (a_comesUp := a_comesUp) (a_comesDown := a_comesDown) (a_held := a_held) (isImage := isImage) (taped := taped) (above := above) (below := below) (fallen := fallen) (torn := torn) (at_ := at_) (start := start) (number := number) (w := w) hv) rfl rfl (lw_V q1510 q1512 qs62 q80 q1513) (by decide +kernel) rfl ⟨rfl, rfl, rfl, rfl, by decide⟩ ⟨hce, hsl, fle rfl, fle rfl, fle rfl⟩ rfl dX8_plays_50 (pin (perm := [4, 5, 0, 1, 2, 3]) (ws' := [(a, .inr (8, [.ref a_w, .int isImage, .ref a_tape, .int taped, .ref a_lane, .ref a_size, .ref a_items, .ref a_up, .ref a_down, .int above, .int below, .ref a_fell, .int fallen, .int torn, .int at_, .int start, .int number, .ref a_read, .ref a_comesUp, .ref a_comesDown, .ref a_held])), (a_w, .inl (X.E 1, 1142, .inl w)), (a_up, .inl (X.E 1, 8, .inl up)), (a_down, .inl (X.E 1, 8, .inl down)), (a_comesUp, .inl (X.E 1, 243, .inl comesUp)), (a_comesDown, .inl (X.E 1, 243, .inl comesDown))]) (stk := [.int r_9]) rfl rfl rfl ?_)
        clear hv
        refine g_goto (tgt := 60) h dX8_plays_53 rfl ?_
        obtain rfl := sj1 hf
        exact G.lsub [0, 1, 2, 3, 4, 5, 6] rfl K46
      · refine g_aload_n h 0 dX8_plays_56 rfl rfl ?_
        obtain ⟨r_10, hv, hf⟩ := ob1 hf
        refine g_callV (ci := 8) (q0 := 0) (n := 0) (As := []) (st := []) (wr := [(a_up, .inl (X.E 1, 8, .inl up)), (a_down, .inl (X.E 1, 8, .inl down)), (a_comesUp, .inl (X.E 1, 243, .inl comesUp)), (a_comesDown, .inl (X.E 1, 243, .inl comesDown))]) (isC := [0, 1]) (isR := [2, 3, 4, 5]) h hR (ct_X8_lastHolding (a := a) (a_w := a_w) (a_tape := a_tape) (a_lane := a_lane) (a_size := a_size) (a_items := a_items) (a_up := a_up) (a_down := a_down) (a_fell := a_fell) (a_read := a_read) (a_comesUp := a_comesUp) (a_comesDown := a_comesDown) (a_held := a_held) (isImage := isImage) (taped := taped) (above := above) (below := below) (fallen := fallen) (torn := torn) (at_ := at_) (start := start) (number := number) (w := w) hv) rfl rfl (lw_V q1514 q1516 qs63 q80 q1517) (by decide +kernel) rfl ⟨rfl, rfl, rfl, rfl, by decide⟩ ⟨hce, hsl, fle rfl, fle rfl, fle rfl⟩ rfl dX8_plays_57 (pin (perm := [4, 5, 0, 1, 2, 3]) (ws' := [(a, .inr (8, [.ref a_w, .int isImage, .ref a_tape, .int taped, .ref a_lane, .ref a_size, .ref a_items, .ref a_up, .ref a_down, .int above, .int below, .ref a_fell, .int fallen, .int torn, .int at_, .int start, .int number, .ref a_read, .ref a_comesUp, .ref a_comesDown, .ref a_held])), (a_w, .inl (X.E 1, 1142, .inl w)), (a_up, .inl (X.E 1, 8, .inl up)), (a_down, .inl (X.E 1, 8, .inl down)), (a_comesUp, .inl (X.E 1, 243, .inl comesUp)), (a_comesDown, .inl (X.E 1, 243, .inl comesDown))]) (stk := [.int r_10]) rfl rfl rfl ?_)
        clear hv
        obtain rfl := sj1 hf
        exact G.lsub [0, 1, 2, 3, 4, 5, 6] rfl K46
set_option maxHeartbeats 4000000 in
set_option maxRecDepth 100000 in
theorem ct_X8_plays {l : Launch} {D : va_G} {E : Ety} {a a_w a_tape a_lane a_size a_items a_up a_down a_fell a_read a_comesUp a_comesDown a_held : Nat} {x1 : Int32} {x2 : Int32} {isImage : Int32} {taped : Int32} {above : Int32} {below : Int32} {fallen : Int32} {torn : Int32} {at_ : Int32} {start : Int32} {number : Int32} {w : Nat → Int32} {up : Nat → Int32} {down : Nat → Int32} {comesUp : Nat → Int32} {comesDown : Nat → Int32} {r_ : Int32} {o_w : Nat → Int32} {o_up : Nat → Int32} {o_down : Nat → Int32} {o_comesUp : Nat → Int32} {o_comesDown : Nat → Int32} (hf : f_X8_plays x1 x2 w up down comesUp comesDown = some (r_, o_w, o_up, o_down, o_comesUp, o_comesDown)) : Ct l yX8_plays cX8_plays 9 (some .boolean) 3 70 0 0 D E [.ref a, .int x1, .int x2] [(a, .inr (8, [.ref a_w, .int isImage, .ref a_tape, .int taped, .ref a_lane, .ref a_size, .ref a_items, .ref a_up, .ref a_down, .int above, .int below, .ref a_fell, .int fallen, .int torn, .int at_, .int start, .int number, .ref a_read, .ref a_comesUp, .ref a_comesDown, .ref a_held])), (a_w, .inl (E 1, 1142, .inl w)), (a_up, .inl (E 1, 8, .inl up)), (a_down, .inl (E 1, 8, .inl down)), (a_comesUp, .inl (E 1, 243, .inl comesUp)), (a_comesDown, .inl (E 1, 243, .inl comesDown))] (Pn (some (.int r_)) [(a, .inr (8, [.ref a_w, .int isImage, .ref a_tape, .int taped, .ref a_lane, .ref a_size, .ref a_items, .ref a_up, .ref a_down, .int above, .int below, .ref a_fell, .int fallen, .int torn, .int at_, .int start, .int number, .ref a_read, .ref a_comesUp, .ref a_comesDown, .ref a_held])), (a_w, .inl (E 1, 1142, .inl o_w)), (a_up, .inl (E 1, 8, .inl o_up)), (a_down, .inl (E 1, 8, .inl o_down)), (a_comesUp, .inl (E 1, 243, .inl o_comesUp)), (a_comesDown, .inl (E 1, 243, .inl o_comesDown))]) := by
  refine ct_of (own := RX8) (plainFor_of_name (by decide)) rfl (fle rfl) rfl ?_
  intro X hl hD hE hnL hXF h hR hF hnm
  subst hl; subst hD; subst hE
  have hL : ∀ i, i < 9 → i < X.nL := fun i hi => by rw [hnL]; exact hi
  unfold f_X8_plays at hf
  refine g_aload_n h 0 dX8_plays_0 rfl rfl ?_
  obtain ⟨w_1, hv, hf⟩ := ob1 hf
  refine g_callV (ci := 8) (q0 := 0) (n := 0) (As := []) (st := []) (wr := [(a_up, .inl (X.E 1, 8, .inl up)), (a_down, .inl (X.E 1, 8, .inl down)), (a_comesUp, .inl (X.E 1, 243, .inl comesUp)), (a_comesDown, .inl (X.E 1, 243, .inl comesDown))]) (isC := [0, 1]) (isR := [2, 3, 4, 5]) h hR (ct_X8_tries (a := a) (a_w := a_w) (a_tape := a_tape) (a_lane := a_lane) (a_size := a_size) (a_items := a_items) (a_up := a_up) (a_down := a_down) (a_fell := a_fell) (a_read := a_read) (a_comesUp := a_comesUp) (a_comesDown := a_comesDown) (a_held := a_held) (isImage := isImage) (taped := taped) (above := above) (below := below) (fallen := fallen) (torn := torn) (at_ := at_) (start := start) (number := number) (w := w) hv) rfl rfl (lw_V q1477 q1479 qs60 q80 q1480) (by decide +kernel) rfl ⟨rfl, rfl, rfl, rfl, by decide⟩ ⟨fle rfl, fle rfl, fle rfl, fle rfl, fle rfl⟩ rfl dX8_plays_1 (pin (perm := [4, 5, 0, 1, 2, 3]) (ws' := [(a, .inr (8, [.ref a_w, .int isImage, .ref a_tape, .int taped, .ref a_lane, .ref a_size, .ref a_items, .ref a_up, .ref a_down, .int above, .int below, .ref a_fell, .int fallen, .int torn, .int at_, .int start, .int number, .ref a_read, .ref a_comesUp, .ref a_comesDown, .ref a_held])), (a_w, .inl (X.E 1, 1142, .inl w_1)), (a_up, .inl (X.E 1, 8, .inl up)), (a_down, .inl (X.E 1, 8, .inl down)), (a_comesUp, .inl (X.E 1, 243, .inl comesUp)), (a_comesDown, .inl (X.E 1, 243, .inl comesDown))]) (stk := []) rfl rfl rfl ?_)
  clear hv
  refine g_iload_n h 1 dX8_plays_4 rfl rfl ?_
  refine g_istore_n (lv' := [(3, .int x1), (0, .ref a), (1, .int x1), (2, .int x2)]) h dX8_plays_5 rfl (hL 3 (fle rfl)) rfl ?_
  refine g_iconst (v := 1) h dX8_plays_6 kiconst_1 ?_
  refine g_istore (lv' := [(4, .int 1), (3, .int x1), (0, .ref a), (1, .int x1), (2, .int x2)]) h dX8_plays_7 (hL 4 (fle rfl)) rfl ?_
  refine g_iconst (v := 1) h dX8_plays_9 kiconst_1 ?_
  refine g_istore (lv' := [(5, .int 1), (4, .int 1), (3, .int x1), (0, .ref a), (1, .int x1), (2, .int x2)]) h dX8_plays_10 (hL 5 (fle rfl)) rfl ?_
  refine G.lsub (lv' := [(0, .ref a), (1, .int x1), (2, .int x2), (3, .int x1), (4, .int 1), (5, .int 1)]) [3, 4, 5, 2, 1, 0] rfl ?_
  obtain ⟨x4_3, hv, hf⟩ := ob1 hf
  refine w_X8_plays_L12 (x1 := x1) (x2 := x2) (x3 := x1) (isImage := isImage) (taped := taped) (above := above) (below := below) (fallen := fallen) (torn := torn) (at_ := at_) (start := start) (number := number) (w := w_1) (up := up) (down := down) (comesUp := comesUp) (comesDown := comesDown) h hR hL (fle rfl) (fle rfl) FU _ _ hv ?_
  · clear hv
    refine g_iconst (v := 1) h dX8_plays_30 kiconst_1 ?_
    refine g_istore (lv' := [(5, .int 1), (0, .ref a), (1, .int x1), (2, .int x2), (3, .int x1), (4, .int x4_3)]) h dX8_plays_31 (hL 5 (fle rfl)) rfl ?_
    refine g_iconst (v := 0) h dX8_plays_33 kiconst_0 ?_
    refine g_istore (lv' := [(6, .int 0), (5, .int 1), (0, .ref a), (1, .int x1), (2, .int x2), (3, .int x1), (4, .int x4_3)]) h dX8_plays_34 (hL 6 (fle rfl)) rfl ?_
    refine G.lsub (lv' := [(0, .ref a), (1, .int x1), (2, .int x2), (3, .int x1), (4, .int x4_3), (5, .int 1), (6, .int 0)]) [2, 3, 4, 5, 6, 1, 0] rfl ?_
    obtain ⟨x5_21, w_22, hv, hf⟩ := ob2 hf
    refine w_X8_plays_L36 (x1 := x1) (x2 := x2) (isImage := isImage) (taped := taped) (above := above) (below := below) (fallen := fallen) (torn := torn) (at_ := at_) (start := start) (number := number) (up := up) (down := down) (comesUp := comesUp) (comesDown := comesDown) h hR hL (fle rfl) (fle rfl) FU _ _ _ _ _ hv ?_
    · clear hv
      refine g_aload_n h 0 dX8_plays_139 rfl rfl ?_
      refine g_sipush (v := 1082) h dX8_plays_140 ksipush_1082 ?_
      obtain ⟨up_23, down_24, hv, hf⟩ := ob2 hf
      refine g_callV (ci := 8) (q0 := 0) (n := 1) (As := [.int 1082]) (st := []) (wr := [(a_comesUp, .inl (X.E 1, 243, .inl comesUp)), (a_comesDown, .inl (X.E 1, 243, .inl comesDown))]) (isC := [0, 1, 2, 3]) (isR := [4, 5]) h hR (ct_X8_layPulls (a := a) (a_w := a_w) (a_tape := a_tape) (a_lane := a_lane) (a_size := a_size) (a_items := a_items) (a_up := a_up) (a_down := a_down) (a_fell := a_fell) (a_read := a_read) (a_comesUp := a_comesUp) (a_comesDown := a_comesDown) (a_held := a_held) (x1 := 1082) (isImage := isImage) (taped := taped) (above := above) (below := below) (fallen := fallen) (torn := torn) (at_ := at_) (start := start) (number := number) (w := w_22) (up := up) (down := down) hv) rfl rfl (lw_V q1280 q1282 qs36 q80 q1283) (by decide +kernel) rfl ⟨rfl, rfl, rfl, rfl, by decide⟩ ⟨fle rfl, fle rfl, fle rfl, fle rfl, fle rfl⟩ rfl dX8_plays_143 (pin (perm := [2, 3, 4, 5, 0, 1]) (ws' := [(a, .inr (8, [.ref a_w, .int isImage, .ref a_tape, .int taped, .ref a_lane, .ref a_size, .ref a_items, .ref a_up, .ref a_down, .int above, .int below, .ref a_fell, .int fallen, .int torn, .int at_, .int start, .int number, .ref a_read, .ref a_comesUp, .ref a_comesDown, .ref a_held])), (a_w, .inl (X.E 1, 1142, .inl w_22)), (a_up, .inl (X.E 1, 8, .inl up_23)), (a_down, .inl (X.E 1, 8, .inl down_24)), (a_comesUp, .inl (X.E 1, 243, .inl comesUp)), (a_comesDown, .inl (X.E 1, 243, .inl comesDown))]) (stk := []) rfl rfl rfl ?_)
      clear hv
      refine g_aload_n h 0 dX8_plays_146 rfl rfl ?_
      refine g_sipush (v := 1082) h dX8_plays_147 ksipush_1082 ?_
      obtain ⟨r_25, hv, hf⟩ := ob1 hf
      refine g_callV (ci := 8) (q0 := 0) (n := 1) (As := [.int 1082]) (st := []) (wr := [(a_comesUp, .inl (X.E 1, 243, .inl comesUp)), (a_comesDown, .inl (X.E 1, 243, .inl comesDown))]) (isC := [0, 1, 2, 3]) (isR := [4, 5]) h hR (ct_X8_greatest (a := a) (a_w := a_w) (a_tape := a_tape) (a_lane := a_lane) (a_size := a_size) (a_items := a_items) (a_up := a_up) (a_down := a_down) (a_fell := a_fell) (a_read := a_read) (a_comesUp := a_comesUp) (a_comesDown := a_comesDown) (a_held := a_held) (x1 := 1082) (isImage := isImage) (taped := taped) (above := above) (below := below) (fallen := fallen) (torn := torn) (at_ := at_) (start := start) (number := number) (w := w_22) (up := up_23) (down := down_24) hv) rfl rfl (lw_V q1403 q1405 qs54 q80 q1406) (by decide +kernel) rfl ⟨rfl, rfl, rfl, rfl, by decide⟩ ⟨fle rfl, fle rfl, fle rfl, fle rfl, fle rfl⟩ rfl dX8_plays_150 (pin (perm := [2, 3, 4, 5, 0, 1]) (ws' := [(a, .inr (8, [.ref a_w, .int isImage, .ref a_tape, .int taped, .ref a_lane, .ref a_size, .ref a_items, .ref a_up, .ref a_down, .int above, .int below, .ref a_fell, .int fallen, .int torn, .int at_, .int start, .int number, .ref a_read, .ref a_comesUp, .ref a_comesDown, .ref a_held])), (a_w, .inl (X.E 1, 1142, .inl w_22)), (a_up, .inl (X.E 1, 8, .inl up_23)), (a_down, .inl (X.E 1, 8, .inl down_24)), (a_comesUp, .inl (X.E 1, 243, .inl comesUp)), (a_comesDown, .inl (X.E 1, 243, .inl comesDown))]) (stk := [.int r_25]) rfl rfl rfl ?_)
      clear hv
      refine g_istore (lv' := [(6, .int r_25), (0, .ref a), (1, .int x1), (5, .int x5_21)]) h dX8_plays_153 (hL 6 (fle rfl)) rfl ?_
      refine g_aload_n h 1 dX8_plays_155 rfl rfl ?_
      refine g_get (ci := 8) (v := .ref a_comesUp) h in_X8 0 18 rfl rfl (fle rfl) rfl q1184 rfl dX8_plays_156 ?_
      refine g_iload_n h 2 dX8_plays_159 rfl rfl ?_
      refine g_aload_n h 1 dX8_plays_160 rfl rfl ?_
      refine g_get (ci := 8) (v := .ref a_up) h in_X8 0 7 rfl rfl (fle rfl) rfl q1173 rfl dX8_plays_161 ?_
      refine g_iload h 0 dX8_plays_164 rfl ?_
      obtain ⟨g26, hf⟩ := gn hf
      refine g_iaload h 2 rfl g26 dX8_plays_166 ?_
      obtain ⟨g27, hf⟩ := gn hf
      refine g_iastore (ws' := [(a, .inr (8, [.ref a_w, .int isImage, .ref a_tape, .int taped, .ref a_lane, .ref a_size, .ref a_items, .ref a_up, .ref a_down, .int above, .int below, .ref a_fell, .int fallen, .int torn, .int at_, .int start, .int number, .ref a_read, .ref a_comesUp, .ref a_comesDown, .ref a_held])), (a_w, .inl (X.E 1, 1142, .inl w_22)), (a_up, .inl (X.E 1, 8, .inl up_23)), (a_down, .inl (X.E 1, 8, .inl down_24)), (a_comesUp, .inl (X.E 1, 243, .inl (upd comesUp x1.toNatClampNeg (up_23 r_25.toNatClampNeg)))), (a_comesDown, .inl (X.E 1, 243, .inl comesDown))]) h 4 rfl g27 rfl dX8_plays_167 ?_
      refine g_aload_n h 1 dX8_plays_168 rfl rfl ?_
      refine g_get (ci := 8) (v := .ref a_comesDown) h in_X8 0 19 rfl rfl (fle rfl) rfl q1185 rfl dX8_plays_169 ?_
      refine g_iload_n h 2 dX8_plays_172 rfl rfl ?_
      refine g_iload h 3 dX8_plays_173 rfl ?_
      refine g_if_eq (tgt := 188) h dX8_plays_175 rfl hf (fun c28 hf => ?_) (fun c28 hf => ?_)
      · refine g_iconst (v := 0) h dX8_plays_188 kiconst_0 ?_
        refine g_iastore (ws' := [(a, .inr (8, [.ref a_w, .int isImage, .ref a_tape, .int taped, .ref a_lane, .ref a_size, .ref a_items, .ref a_up, .ref a_down, .int above, .int below, .ref a_fell, .int fallen, .int torn, .int at_, .int start, .int number, .ref a_read, .ref a_comesUp, .ref a_comesDown, .ref a_held])), (a_w, .inl (X.E 1, 1142, .inl w_22)), (a_up, .inl (X.E 1, 8, .inl up_23)), (a_down, .inl (X.E 1, 8, .inl down_24)), (a_comesUp, .inl (X.E 1, 243, .inl (upd comesUp x1.toNatClampNeg (up_23 r_25.toNatClampNeg)))), (a_comesDown, .inl (X.E 1, 243, .inl (upd comesDown x1.toNatClampNeg 0)))]) h 5 rfl g27 rfl dX8_plays_189 ?_
        refine g_iload h 3 dX8_plays_190 rfl ?_
        obtain ⟨gz, hf⟩ := gy hf
        obtain ⟨rfl, rfl, rfl, rfl, rfl, rfl⟩ := sj6 hf
        exact g_zret h hF (nz gz) [0, 1, 2, 3, 4, 5] rfl rfl ⟨rfl, rfl⟩ (fle rfl) (fle rfl) dX8_plays_192
      · refine g_aload_n h 1 dX8_plays_178 rfl rfl ?_
        refine g_get (ci := 8) (v := .ref a_down) h in_X8 0 8 rfl rfl (fle rfl) rfl q1174 rfl dX8_plays_179 ?_
        refine g_iload h 0 dX8_plays_182 rfl ?_
        refine g_iaload h 3 rfl g26 dX8_plays_184 ?_
        refine g_goto (tgt := 189) h dX8_plays_185 rfl ?_
        refine g_iastore (ws' := [(a, .inr (8, [.ref a_w, .int isImage, .ref a_tape, .int taped, .ref a_lane, .ref a_size, .ref a_items, .ref a_up, .ref a_down, .int above, .int below, .ref a_fell, .int fallen, .int torn, .int at_, .int start, .int number, .ref a_read, .ref a_comesUp, .ref a_comesDown, .ref a_held])), (a_w, .inl (X.E 1, 1142, .inl w_22)), (a_up, .inl (X.E 1, 8, .inl up_23)), (a_down, .inl (X.E 1, 8, .inl down_24)), (a_comesUp, .inl (X.E 1, 243, .inl (upd comesUp x1.toNatClampNeg (up_23 r_25.toNatClampNeg)))), (a_comesDown, .inl (X.E 1, 243, .inl (upd comesDown x1.toNatClampNeg (down_24 r_25.toNatClampNeg))))]) h 5 rfl g27 rfl dX8_plays_189 ?_
        refine g_iload h 3 dX8_plays_190 rfl ?_
        obtain ⟨gz, hf⟩ := gy hf
        obtain ⟨rfl, rfl, rfl, rfl, rfl, rfl⟩ := sj6 hf
        exact g_zret h hF (nz gz) [0, 1, 2, 3, 4, 5] rfl rfl ⟨rfl, rfl⟩ (fle rfl) (fle rfl) dX8_plays_192
set_option maxHeartbeats 4000000 in
set_option maxRecDepth 100000 in
theorem w_X8_takesBest_L7 {X : Cx} {a a_comesDown a_comesUp a_down a_fell a_held a_items a_lane a_read a_size a_tape a_up a_w : Nat} {x1 : Int32} {x2 : Int32} {isImage : Int32} {taped : Int32} {above : Int32} {below : Int32} {fallen : Int32} {torn : Int32} {at_ : Int32} {start : Int32} {number : Int32} {comesUp : Nat → Int32} {comesDown : Nat → Int32} {ce sl : Nat} (h : Ok X cX8_takesBest RX8) (hR : Rm X 0 0 0 0) (hL : ∀ i, i < 7 → i < X.nL) (hce : ce ≤ 0) (hsl : sl ≤ 0) : ∀ (n0 : Nat) (x3 : Int32) (x4 : Int32) {o_x3 : Int32}, f_X8_takesBest_L7 x1 x2 comesUp comesDown n0 x3 x4 = some o_x3 → (G X [(a, .inr (8, [.ref a_w, .int isImage, .ref a_tape, .int taped, .ref a_lane, .ref a_size, .ref a_items, .ref a_up, .ref a_down, .int above, .int below, .ref a_fell, .int fallen, .int torn, .int at_, .int start, .int number, .ref a_read, .ref a_comesUp, .ref a_comesDown, .ref a_held])), (a_comesUp, .inl (X.E 1, 243, .inl comesUp)), (a_comesDown, .inl (X.E 1, 243, .inl comesDown))] [(0, .ref a), (1, .int x1), (3, .int o_x3)] ce sl 122 []) → G X [(a, .inr (8, [.ref a_w, .int isImage, .ref a_tape, .int taped, .ref a_lane, .ref a_size, .ref a_items, .ref a_up, .ref a_down, .int above, .int below, .ref a_fell, .int fallen, .int torn, .int at_, .int start, .int number, .ref a_read, .ref a_comesUp, .ref a_comesDown, .ref a_held])), (a_comesUp, .inl (X.E 1, 243, .inl comesUp)), (a_comesDown, .inl (X.E 1, 243, .inl comesDown))] [(0, .ref a), (1, .int x1), (2, .int x2), (3, .int x3), (4, .int x4)] ce sl 7 [] := by
  intro n0
  induction n0 with
  | zero => intro x3 x4 o_x3 hf; exact nomatch (show (none : Option _) = some _ from hf)
  | succ n0 ih =>
    intro x3 x4 o_x3 hf k0
    replace hf : t_X8_takesBest_L7 x1 x2 comesUp comesDown (f_X8_takesBest_L7 x1 x2 comesUp comesDown n0) x3 x4 = some o_x3 := hf
    unfold t_X8_takesBest_L7 at hf
    refine g_iload h 4 dX8_takesBest_7 rfl ?_
    refine g_iconst (v := 3) h dX8_takesBest_9 kiconst_3 ?_
    refine g_iload_n h 1 dX8_takesBest_10 rfl rfl ?_
    refine g_imul h dX8_takesBest_11 ?_
    refine g_iconst (v := 3) h dX8_takesBest_12 kiconst_3 ?_
    refine g_iadd h dX8_takesBest_13 ?_
    refine g_icmp_ge (tgt := 122) h dX8_takesBest_14 rfl hf (fun c1 hf => ?_) (fun c1 hf => ?_)
    · obtain rfl := sj1 hf
      exact G.lsub [0, 1, 3] rfl k0
    · refine g_iload_n h 3 dX8_takesBest_17 rfl rfl ?_
      obtain ⟨z_6, hw, hf⟩ := ob1 hf
      have K18 : G X [(a, .inr (8, [.ref a_w, .int isImage, .ref a_tape, .int taped, .ref a_lane, .ref a_size, .ref a_items, .ref a_up, .ref a_down, .int above, .int below, .ref a_fell, .int fallen, .int torn, .int at_, .int start, .int number, .ref a_read, .ref a_comesUp, .ref a_comesDown, .ref a_held])), (a_comesUp, .inl (X.E 1, 243, .inl comesUp)), (a_comesDown, .inl (X.E 1, 243, .inl comesDown))] [(0, .ref a), (1, .int x1), (2, .int x2), (3, .int x3), (4, .int x4)] ce sl 64 [.int z_6] := by
        clear hw
        refine g_istore (lv' := [(5, .int z_6), (0, .ref a), (1, .int x1), (2, .int x2), (3, .int x3), (4, .int x4)]) h dX8_takesBest_64 (hL 5 (fle rfl)) rfl ?_
        refine g_aload_n h 1 dX8_takesBest_66 rfl rfl ?_
        refine g_get (ci := 8) (v := .ref a_comesDown) h in_X8 0 19 rfl rfl (fle rfl) rfl q1185 rfl dX8_takesBest_67 ?_
        refine g_iload h 5 dX8_takesBest_70 rfl ?_
        obtain ⟨g10, hf⟩ := gn hf
        refine g_iaload h 2 rfl g10 dX8_takesBest_72 ?_
        obtain ⟨z_16, hw, hf⟩ := ob1 hf
        have K73 : G X [(a, .inr (8, [.ref a_w, .int isImage, .ref a_tape, .int taped, .ref a_lane, .ref a_size, .ref a_items, .ref a_up, .ref a_down, .int above, .int below, .ref a_fell, .int fallen, .int torn, .int at_, .int start, .int number, .ref a_read, .ref a_comesUp, .ref a_comesDown, .ref a_held])), (a_comesUp, .inl (X.E 1, 243, .inl comesUp)), (a_comesDown, .inl (X.E 1, 243, .inl comesDown))] [(0, .ref a), (1, .int x1), (2, .int x2), (3, .int x3), (4, .int x4)] ce sl 102 [.int z_16] := by
          clear hw
          refine g_istore (lv' := [(6, .int z_16), (0, .ref a), (1, .int x1), (2, .int x2), (3, .int x3), (4, .int x4)]) h dX8_takesBest_102 (hL 6 (fle rfl)) rfl ?_
          refine g_iload h 0 dX8_takesBest_104 rfl ?_
          refine g_if_eq (tgt := 114) h dX8_takesBest_106 rfl hf (fun c21 hf => ?_) (fun c21 hf => ?_)
          · refine g_iload_n h 4 dX8_takesBest_114 rfl rfl ?_
            refine g_istore_n (lv' := [(3, .int x3), (6, .int z_16), (0, .ref a), (1, .int x1), (2, .int x2), (4, .int x4)]) h dX8_takesBest_115 rfl (hL 3 (fle rfl)) rfl ?_
            refine g_iinc (j := 5) (v := (x4 + 1)) (lv' := [(4, .int (x4 + 1)), (3, .int x3), (6, .int z_16), (0, .ref a), (1, .int x1), (2, .int x2)]) h dX8_takesBest_116 rfl (kinc_1 _) (hL 4 (fle rfl)) rfl ?_
            refine g_goto (tgt := 7) h dX8_takesBest_119 rfl ?_
            exact G.lsub [3, 4, 5, 1, 0] rfl (ih _ _ hf k0)
          · refine g_iload h 5 dX8_takesBest_109 rfl ?_
            refine g_goto (tgt := 115) h dX8_takesBest_111 rfl ?_
            refine g_istore_n (lv' := [(3, .int x4), (6, .int z_16), (0, .ref a), (1, .int x1), (2, .int x2), (4, .int x4)]) h dX8_takesBest_115 rfl (hL 3 (fle rfl)) rfl ?_
            refine g_iinc (j := 5) (v := (x4 + 1)) (lv' := [(4, .int (x4 + 1)), (3, .int x4), (6, .int z_16), (0, .ref a), (1, .int x1), (2, .int x2)]) h dX8_takesBest_116 rfl (kinc_1 _) (hL 4 (fle rfl)) rfl ?_
            refine g_goto (tgt := 7) h dX8_takesBest_119 rfl ?_
            exact G.lsub [3, 4, 5, 1, 0] rfl (ih _ _ hf k0)
        clear hf
        have hf := hw
        clear hw
        refine g_if_le (tgt := 101) h dX8_takesBest_73 rfl hf (fun c11 hf => ?_) (fun c11 hf => ?_)
        · refine g_iconst (v := 0) h dX8_takesBest_101 kiconst_0 ?_
          obtain rfl := sj1 hf
          exact G.lsub [1, 2, 3, 4, 5] rfl K73
        · refine g_iload_n h 4 dX8_takesBest_76 rfl rfl ?_
          refine g_if_lt (tgt := 97) h dX8_takesBest_77 rfl hf (fun c17 hf => ?_) (fun c17 hf => ?_)
          · refine g_iconst (v := 1) h dX8_takesBest_97 kiconst_1 ?_
            refine g_goto (tgt := 102) h dX8_takesBest_98 rfl ?_
            obtain rfl := sj1 hf
            exact G.lsub [1, 2, 3, 4, 5] rfl K73
          · refine g_iload_n h 3 dX8_takesBest_80 rfl rfl ?_
            refine g_if_eq (tgt := 92) h dX8_takesBest_81 rfl hf (fun c18 hf => ?_) (fun c18 hf => ?_)
            · refine g_iload h 0 dX8_takesBest_92 rfl ?_
              refine g_if_le (tgt := 101) h dX8_takesBest_94 rfl hf (fun c19 hf => ?_) (fun c19 hf => ?_)
              · refine g_iconst (v := 0) h dX8_takesBest_101 kiconst_0 ?_
                obtain rfl := sj1 hf
                exact G.lsub [1, 2, 3, 4, 5] rfl K73
              · refine g_iconst (v := 1) h dX8_takesBest_97 kiconst_1 ?_
                refine g_goto (tgt := 102) h dX8_takesBest_98 rfl ?_
                obtain rfl := sj1 hf
                exact G.lsub [1, 2, 3, 4, 5] rfl K73
            · refine g_iload h 0 dX8_takesBest_84 rfl ?_
              refine g_if_ge (tgt := 101) h dX8_takesBest_86 rfl hf (fun c20 hf => ?_) (fun c20 hf => ?_)
              · refine g_iconst (v := 0) h dX8_takesBest_101 kiconst_0 ?_
                obtain rfl := sj1 hf
                exact G.lsub [1, 2, 3, 4, 5] rfl K73
              · refine g_goto (tgt := 97) h dX8_takesBest_89 rfl ?_
                refine g_iconst (v := 1) h dX8_takesBest_97 kiconst_1 ?_
                refine g_goto (tgt := 102) h dX8_takesBest_98 rfl ?_
                obtain rfl := sj1 hf
                exact G.lsub [1, 2, 3, 4, 5] rfl K73
      clear hf
      have hf := hw
      clear hw
      refine g_if_lt (tgt := 31) h dX8_takesBest_18 rfl hf (fun c2 hf => ?_) (fun c2 hf => ?_)
      · refine g_iconst (v := 0) h dX8_takesBest_31 kiconst_0 ?_
        refine g_goto (tgt := 64) h dX8_takesBest_32 rfl ?_
        obtain rfl := sj1 hf
        exact G.lsub [0, 1, 2, 3, 4] rfl K18
      · refine g_aload_n h 0 dX8_takesBest_21 rfl rfl ?_
        refine g_get (ci := 8) (v := .ref a_comesDown) h in_X8 0 19 rfl rfl (fle rfl) rfl q1185 rfl dX8_takesBest_22 ?_
        refine g_iload h 4 dX8_takesBest_25 rfl ?_
        obtain ⟨g7, hf⟩ := gn hf
        refine g_iaload h 2 rfl g7 dX8_takesBest_27 ?_
        refine g_if_ne (tgt := 35) h dX8_takesBest_28 rfl hf (fun c8 hf => ?_) (fun c8 hf => ?_)
        · refine g_iconst (v := 0) h dX8_takesBest_31 kiconst_0 ?_
          refine g_goto (tgt := 64) h dX8_takesBest_32 rfl ?_
          obtain rfl := sj1 hf
          exact G.lsub [0, 1, 2, 3, 4] rfl K18
        · refine g_aload_n h 0 dX8_takesBest_35 rfl rfl ?_
          refine g_get (ci := 8) (v := .ref a_comesUp) h in_X8 0 18 rfl rfl (fle rfl) rfl q1184 rfl dX8_takesBest_36 ?_
          refine g_iload h 4 dX8_takesBest_39 rfl ?_
          refine g_iaload h 1 rfl g7 dX8_takesBest_41 ?_
          refine g_aload_n h 0 dX8_takesBest_42 rfl rfl ?_
          refine g_get (ci := 8) (v := .ref a_comesDown) h in_X8 0 19 rfl rfl (fle rfl) rfl q1185 rfl dX8_takesBest_43 ?_
          refine g_iload_n h 3 dX8_takesBest_46 rfl rfl ?_
          obtain ⟨g9, hf⟩ := gn hf
          refine g_iaload h 2 rfl g9 dX8_takesBest_47 ?_
          refine g_imul h dX8_takesBest_48 ?_
          refine g_aload_n h 0 dX8_takesBest_49 rfl rfl ?_
          refine g_get (ci := 8) (v := .ref a_comesUp) h in_X8 0 18 rfl rfl (fle rfl) rfl q1184 rfl dX8_takesBest_50 ?_
          refine g_iload_n h 3 dX8_takesBest_53 rfl rfl ?_
          refine g_iaload h 1 rfl g9 dX8_takesBest_54 ?_
          refine g_aload_n h 0 dX8_takesBest_55 rfl rfl ?_
          refine g_get (ci := 8) (v := .ref a_comesDown) h in_X8 0 19 rfl rfl (fle rfl) rfl q1185 rfl dX8_takesBest_56 ?_
          refine g_iload h 4 dX8_takesBest_59 rfl ?_
          refine g_iaload h 2 rfl g7 dX8_takesBest_61 ?_
          refine g_imul h dX8_takesBest_62 ?_
          refine g_isub h dX8_takesBest_63 ?_
          obtain rfl := sj1 hf
          exact G.lsub [0, 1, 2, 3, 4] rfl K18
set_option maxHeartbeats 4000000 in
set_option maxRecDepth 100000 in
theorem ct_X8_takesBest {l : Launch} {D : va_G} {E : Ety} {a a_w a_tape a_lane a_size a_items a_up a_down a_fell a_read a_comesUp a_comesDown a_held : Nat} {x1 : Int32} {x2 : Int32} {isImage : Int32} {taped : Int32} {above : Int32} {below : Int32} {fallen : Int32} {torn : Int32} {at_ : Int32} {start : Int32} {number : Int32} {comesUp : Nat → Int32} {comesDown : Nat → Int32} {o_comesUp : Nat → Int32} {o_comesDown : Nat → Int32} (hf : f_X8_takesBest x1 x2 comesUp comesDown = some (o_comesUp, o_comesDown)) : Ct l yX8_takesBest cX8_takesBest 7 none 0 0 0 0 D E [.ref a, .int x1, .int x2] [(a, .inr (8, [.ref a_w, .int isImage, .ref a_tape, .int taped, .ref a_lane, .ref a_size, .ref a_items, .ref a_up, .ref a_down, .int above, .int below, .ref a_fell, .int fallen, .int torn, .int at_, .int start, .int number, .ref a_read, .ref a_comesUp, .ref a_comesDown, .ref a_held])), (a_comesUp, .inl (E 1, 243, .inl comesUp)), (a_comesDown, .inl (E 1, 243, .inl comesDown))] (Pn none [(a, .inr (8, [.ref a_w, .int isImage, .ref a_tape, .int taped, .ref a_lane, .ref a_size, .ref a_items, .ref a_up, .ref a_down, .int above, .int below, .ref a_fell, .int fallen, .int torn, .int at_, .int start, .int number, .ref a_read, .ref a_comesUp, .ref a_comesDown, .ref a_held])), (a_comesUp, .inl (E 1, 243, .inl o_comesUp)), (a_comesDown, .inl (E 1, 243, .inl o_comesDown))]) := by
  refine ct_of (own := RX8) (plainFor_of_name (by decide)) rfl (fle rfl) rfl ?_
  intro X hl hD hE hnL hXF h hR hF hnm
  subst hl; subst hD; subst hE
  have hL : ∀ i, i < 7 → i < X.nL := fun i hi => by rw [hnL]; exact hi
  unfold f_X8_takesBest at hf
  refine g_iconst (v := (-1)) h dX8_takesBest_0 kiconst_m1 ?_
  refine g_istore_n (lv' := [(3, .int (-1)), (0, .ref a), (1, .int x1), (2, .int x2)]) h dX8_takesBest_1 rfl (hL 3 (fle rfl)) rfl ?_
  refine g_iconst (v := 3) h dX8_takesBest_2 kiconst_3 ?_
  refine g_iload_n h 2 dX8_takesBest_3 rfl rfl ?_
  refine g_imul h dX8_takesBest_4 ?_
  refine g_istore (lv' := [(4, .int (3 * x1)), (3, .int (-1)), (0, .ref a), (1, .int x1), (2, .int x2)]) h dX8_takesBest_5 (hL 4 (fle rfl)) rfl ?_
  refine G.lsub (lv' := [(0, .ref a), (1, .int x1), (2, .int x2), (3, .int (-1)), (4, .int (3 * x1))]) [2, 3, 4, 1, 0] rfl ?_
  obtain ⟨x3_22, hv, hf⟩ := ob1 hf
  refine w_X8_takesBest_L7 (x1 := x1) (x2 := x2) (isImage := isImage) (taped := taped) (above := above) (below := below) (fallen := fallen) (torn := torn) (at_ := at_) (start := start) (number := number) (comesUp := comesUp) (comesDown := comesDown) h hR hL (fle rfl) (fle rfl) FU _ _ hv ?_
  · clear hv
    refine g_aload_n h 0 dX8_takesBest_122 rfl rfl ?_
    refine g_get (ci := 8) (v := .ref a_comesUp) h in_X8 0 18 rfl rfl (fle rfl) rfl q1184 rfl dX8_takesBest_123 ?_
    refine g_iload_n h 1 dX8_takesBest_126 rfl rfl ?_
    refine g_iload_n h 2 dX8_takesBest_127 rfl rfl ?_
    obtain ⟨z_25, hw, hf⟩ := ob1 hf
    have K128 : G X [(a, .inr (8, [.ref a_w, .int isImage, .ref a_tape, .int taped, .ref a_lane, .ref a_size, .ref a_items, .ref a_up, .ref a_down, .int above, .int below, .ref a_fell, .int fallen, .int torn, .int at_, .int start, .int number, .ref a_read, .ref a_comesUp, .ref a_comesDown, .ref a_held])), (a_comesUp, .inl (X.E 1, 243, .inl comesUp)), (a_comesDown, .inl (X.E 1, 243, .inl comesDown))] [(0, .ref a), (1, .int x1), (3, .int x3_22)] 0 0 141 [.int z_25, .int x1, .ref a_comesUp] := by
      clear hw
      obtain ⟨g27, hf⟩ := gn hf
      refine g_iastore (ws' := [(a, .inr (8, [.ref a_w, .int isImage, .ref a_tape, .int taped, .ref a_lane, .ref a_size, .ref a_items, .ref a_up, .ref a_down, .int above, .int below, .ref a_fell, .int fallen, .int torn, .int at_, .int start, .int number, .ref a_read, .ref a_comesUp, .ref a_comesDown, .ref a_held])), (a_comesUp, .inl (X.E 1, 243, .inl (upd comesUp x1.toNatClampNeg z_25))), (a_comesDown, .inl (X.E 1, 243, .inl comesDown))]) h 1 rfl g27 rfl dX8_takesBest_141 ?_
      refine g_aload_n h 0 dX8_takesBest_142 rfl rfl ?_
      refine g_get (ci := 8) (v := .ref a_comesDown) h in_X8 0 19 rfl rfl (fle rfl) rfl q1185 rfl dX8_takesBest_143 ?_
      refine g_iload_n h 1 dX8_takesBest_146 rfl rfl ?_
      refine g_iload_n h 2 dX8_takesBest_147 rfl rfl ?_
      refine g_if_ge (tgt := 155) h dX8_takesBest_148 rfl hf (fun c28 hf => ?_) (fun c28 hf => ?_)
      · refine g_aload_n h 0 dX8_takesBest_155 rfl rfl ?_
        refine g_get (ci := 8) (v := .ref a_comesDown) h in_X8 0 19 rfl rfl (fle rfl) rfl q1185 rfl dX8_takesBest_156 ?_
        refine g_iload_n h 2 dX8_takesBest_159 rfl rfl ?_
        obtain ⟨g29, hf⟩ := gn hf
        refine g_iaload h 2 rfl g29 dX8_takesBest_160 ?_
        refine g_iastore (ws' := [(a, .inr (8, [.ref a_w, .int isImage, .ref a_tape, .int taped, .ref a_lane, .ref a_size, .ref a_items, .ref a_up, .ref a_down, .int above, .int below, .ref a_fell, .int fallen, .int torn, .int at_, .int start, .int number, .ref a_read, .ref a_comesUp, .ref a_comesDown, .ref a_held])), (a_comesUp, .inl (X.E 1, 243, .inl (upd comesUp x1.toNatClampNeg z_25))), (a_comesDown, .inl (X.E 1, 243, .inl (upd comesDown x1.toNatClampNeg (comesDown x3_22.toNatClampNeg))))]) h 2 rfl g27 rfl dX8_takesBest_161 ?_
        obtain ⟨rfl, rfl⟩ := sj2 hf
        exact g_vret h hF [0, 1, 2] rfl rfl ⟨rfl, rfl⟩ (fle rfl) (fle rfl) dX8_takesBest_162
      · refine g_iconst (v := 0) h dX8_takesBest_151 kiconst_0 ?_
        refine g_goto (tgt := 161) h dX8_takesBest_152 rfl ?_
        refine g_iastore (ws' := [(a, .inr (8, [.ref a_w, .int isImage, .ref a_tape, .int taped, .ref a_lane, .ref a_size, .ref a_items, .ref a_up, .ref a_down, .int above, .int below, .ref a_fell, .int fallen, .int torn, .int at_, .int start, .int number, .ref a_read, .ref a_comesUp, .ref a_comesDown, .ref a_held])), (a_comesUp, .inl (X.E 1, 243, .inl (upd comesUp x1.toNatClampNeg z_25))), (a_comesDown, .inl (X.E 1, 243, .inl (upd comesDown x1.toNatClampNeg 0)))]) h 2 rfl g27 rfl dX8_takesBest_161 ?_
        obtain ⟨rfl, rfl⟩ := sj2 hf
        exact g_vret h hF [0, 1, 2] rfl rfl ⟨rfl, rfl⟩ (fle rfl) (fle rfl) dX8_takesBest_162
    clear hf
    have hf := hw
    clear hw
    refine g_if_ge (tgt := 135) h dX8_takesBest_128 rfl hf (fun c23 hf => ?_) (fun c23 hf => ?_)
    · refine g_aload_n h 0 dX8_takesBest_135 rfl rfl ?_
      refine g_get (ci := 8) (v := .ref a_comesUp) h in_X8 0 18 rfl rfl (fle rfl) rfl q1184 rfl dX8_takesBest_136 ?_
      refine g_iload_n h 2 dX8_takesBest_139 rfl rfl ?_
      obtain ⟨g26, hf⟩ := gn hf
      refine g_iaload h 1 rfl g26 dX8_takesBest_140 ?_
      obtain rfl := sj1 hf
      exact G.lsub [0, 1, 2] rfl K128
    · refine g_iconst (v := 0) h dX8_takesBest_131 kiconst_0 ?_
      refine g_goto (tgt := 141) h dX8_takesBest_132 rfl ?_
      obtain rfl := sj1 hf
      exact G.lsub [0, 1, 2] rfl K128
set_option maxHeartbeats 4000000 in
set_option maxRecDepth 100000 in
theorem w_X8_war_L39 {X : Cx} {a a_comesDown a_comesUp a_down a_fell a_held a_items a_lane a_read a_size a_tape a_up a_w : Nat} {x1 : Int32} {x2 : Int32} {isImage : Int32} {taped : Int32} {above : Int32} {below : Int32} {fallen : Int32} {torn : Int32} {at_ : Int32} {start : Int32} {number : Int32} {w : Nat → Int32} {up : Nat → Int32} {down : Nat → Int32} {comesUp : Nat → Int32} {comesDown : Nat → Int32} {ce sl : Nat} (h : Ok X cX8_war RX8) (hR : Rm X 4 98 0 0) (hL : ∀ i, i < 7 → i < X.nL) (hce : ce ≤ 0) (hsl : sl ≤ 0) : ∀ (n0 : Nat) (x3 : Int32) (x4 : Int32) {o_x3 : Int32}, f_X8_war_L39 x1 n0 x3 x4 = some o_x3 → (G X [(a, .inr (8, [.ref a_w, .int isImage, .ref a_tape, .int taped, .ref a_lane, .ref a_size, .ref a_items, .ref a_up, .ref a_down, .int above, .int below, .ref a_fell, .int fallen, .int torn, .int at_, .int start, .int number, .ref a_read, .ref a_comesUp, .ref a_comesDown, .ref a_held])), (a_w, .inl (X.E 1, 1142, .inl w)), (a_up, .inl (X.E 1, 8, .inl up)), (a_down, .inl (X.E 1, 8, .inl down)), (a_comesUp, .inl (X.E 1, 243, .inl comesUp)), (a_comesDown, .inl (X.E 1, 243, .inl comesDown))] [(0, .ref a), (1, .int x1), (2, .int x2), (3, .int o_x3)] ce sl 55 []) → G X [(a, .inr (8, [.ref a_w, .int isImage, .ref a_tape, .int taped, .ref a_lane, .ref a_size, .ref a_items, .ref a_up, .ref a_down, .int above, .int below, .ref a_fell, .int fallen, .int torn, .int at_, .int start, .int number, .ref a_read, .ref a_comesUp, .ref a_comesDown, .ref a_held])), (a_w, .inl (X.E 1, 1142, .inl w)), (a_up, .inl (X.E 1, 8, .inl up)), (a_down, .inl (X.E 1, 8, .inl down)), (a_comesUp, .inl (X.E 1, 243, .inl comesUp)), (a_comesDown, .inl (X.E 1, 243, .inl comesDown))] [(0, .ref a), (1, .int x1), (2, .int x2), (3, .int x3), (4, .int x4)] ce sl 39 [] := by
  intro n0
  induction n0 with
  | zero => intro x3 x4 o_x3 hf; exact nomatch (show (none : Option _) = some _ from hf)
  | succ n0 ih =>
    intro x3 x4 o_x3 hf k0
    replace hf : t_X8_war_L39 x1 (f_X8_war_L39 x1 n0) x3 x4 = some o_x3 := hf
    unfold t_X8_war_L39 at hf
    refine g_iload h 4 dX8_war_39 rfl ?_
    refine g_iload_n h 1 dX8_war_41 rfl rfl ?_
    refine g_icmp_ge (tgt := 55) h dX8_war_42 rfl hf (fun c7 hf => ?_) (fun c7 hf => ?_)
    · obtain rfl := sj1 hf
      exact G.lsub [0, 1, 2, 3] rfl k0
    · refine g_iload_n h 3 dX8_war_45 rfl rfl ?_
      refine g_iconst (v := 3) h dX8_war_46 kiconst_3 ?_
      refine g_imul h dX8_war_47 ?_
      refine g_istore_n (lv' := [(3, .int (x3 * 3)), (0, .ref a), (1, .int x1), (2, .int x2), (4, .int x4)]) h dX8_war_48 rfl (hL 3 (fle rfl)) rfl ?_
      refine g_iinc (j := 4) (v := (x4 + 1)) (lv' := [(4, .int (x4 + 1)), (3, .int (x3 * 3)), (0, .ref a), (1, .int x1), (2, .int x2)]) h dX8_war_49 rfl (kinc_1 _) (hL 4 (fle rfl)) rfl ?_
      refine g_goto (tgt := 39) h dX8_war_52 rfl ?_
      exact G.lsub [2, 3, 4, 1, 0] rfl (ih _ _ hf k0)
set_option maxHeartbeats 4000000 in
set_option maxRecDepth 100000 in
theorem w_X8_war_L61 {X : Cx} {a a_comesDown a_comesUp a_down a_fell a_held a_items a_lane a_read a_size a_tape a_up a_w : Nat} {x1 : Int32} {x2 : Int32} {x3 : Int32} {isImage : Int32} {taped : Int32} {above : Int32} {below : Int32} {fallen : Int32} {torn : Int32} {at_ : Int32} {start : Int32} {number : Int32} {ce sl : Nat} (h : Ok X cX8_war RX8) (hR : Rm X 4 98 0 0) (hL : ∀ i, i < 7 → i < X.nL) (hce : ce ≤ 0) (hsl : sl ≤ 0) : ∀ (n0 : Nat) (x4 : Int32) (x5 : Int32) (w : Nat → Int32) (up : Nat → Int32) (down : Nat → Int32) (comesUp : Nat → Int32) (comesDown : Nat → Int32) {o_x4 : Int32} {o_w : Nat → Int32} {o_up : Nat → Int32} {o_down : Nat → Int32} {o_comesUp : Nat → Int32} {o_comesDown : Nat → Int32}, f_X8_war_L61 x1 x3 n0 x4 x5 w up down comesUp comesDown = some (o_x4, o_w, o_up, o_down, o_comesUp, o_comesDown) → (G X [(a, .inr (8, [.ref a_w, .int isImage, .ref a_tape, .int taped, .ref a_lane, .ref a_size, .ref a_items, .ref a_up, .ref a_down, .int above, .int below, .ref a_fell, .int fallen, .int torn, .int at_, .int start, .int number, .ref a_read, .ref a_comesUp, .ref a_comesDown, .ref a_held])), (a_w, .inl (X.E 1, 1142, .inl o_w)), (a_up, .inl (X.E 1, 8, .inl o_up)), (a_down, .inl (X.E 1, 8, .inl o_down)), (a_comesUp, .inl (X.E 1, 243, .inl o_comesUp)), (a_comesDown, .inl (X.E 1, 243, .inl o_comesDown))] [(0, .ref a), (1, .int x1), (2, .int x2), (3, .int x3), (4, .int o_x4)] ce sl 93 []) → G X [(a, .inr (8, [.ref a_w, .int isImage, .ref a_tape, .int taped, .ref a_lane, .ref a_size, .ref a_items, .ref a_up, .ref a_down, .int above, .int below, .ref a_fell, .int fallen, .int torn, .int at_, .int start, .int number, .ref a_read, .ref a_comesUp, .ref a_comesDown, .ref a_held])), (a_w, .inl (X.E 1, 1142, .inl w)), (a_up, .inl (X.E 1, 8, .inl up)), (a_down, .inl (X.E 1, 8, .inl down)), (a_comesUp, .inl (X.E 1, 243, .inl comesUp)), (a_comesDown, .inl (X.E 1, 243, .inl comesDown))] [(0, .ref a), (1, .int x1), (2, .int x2), (3, .int x3), (4, .int x4), (5, .int x5)] ce sl 61 [] := by
  intro n0
  induction n0 with
  | zero => intro x4 x5 w up down comesUp comesDown o_x4 o_w o_up o_down o_comesUp o_comesDown hf; exact nomatch (show (none : Option _) = some _ from hf)
  | succ n0 ih =>
    intro x4 x5 w up down comesUp comesDown o_x4 o_w o_up o_down o_comesUp o_comesDown hf k0
    replace hf : t_X8_war_L61 x1 x3 (f_X8_war_L61 x1 x3 n0) x4 x5 w up down comesUp comesDown = some (o_x4, o_w, o_up, o_down, o_comesUp, o_comesDown) := hf
    unfold t_X8_war_L61 at hf
    refine g_iload h 5 dX8_war_61 rfl ?_
    refine g_iload_n h 3 dX8_war_63 rfl rfl ?_
    refine g_icmp_ge (tgt := 93) h dX8_war_64 rfl hf (fun c9 hf => ?_) (fun c9 hf => ?_)
    · obtain ⟨rfl, rfl, rfl, rfl, rfl, rfl⟩ := sj6 hf
      exact G.lsub [0, 1, 2, 3, 4] rfl k0
    · refine g_iload h 4 dX8_war_67 rfl ?_
      refine g_aload_n h 0 dX8_war_69 rfl rfl ?_
      refine g_iload h 5 dX8_war_70 rfl ?_
      refine g_iload_n h 1 dX8_war_72 rfl rfl ?_
      obtain ⟨r_10, w_11, up_12, down_13, comesUp_14, comesDown_15, hv, hf⟩ := ob6 hf
      refine g_callV (ci := 8) (q0 := 0) (n := 2) (As := [.int x5, .int x1]) (st := [.int x4]) (wr := []) (isC := [0, 1, 2, 3, 4, 5]) (isR := []) h hR (ct_X8_plays (a := a) (a_w := a_w) (a_tape := a_tape) (a_lane := a_lane) (a_size := a_size) (a_items := a_items) (a_up := a_up) (a_down := a_down) (a_fell := a_fell) (a_read := a_read) (a_comesUp := a_comesUp) (a_comesDown := a_comesDown) (a_held := a_held) (x1 := x5) (x2 := x1) (isImage := isImage) (taped := taped) (above := above) (below := below) (fallen := fallen) (torn := torn) (at_ := at_) (start := start) (number := number) (w := w) (up := up) (down := down) (comesUp := comesUp) (comesDown := comesDown) hv) rfl rfl (lw_V q1506 q1508 qs61 q80 q1509) (by decide +kernel) rfl ⟨rfl, rfl, rfl, rfl, by decide⟩ ⟨hce, hsl, fle rfl, fle rfl, fle rfl⟩ rfl dX8_war_73 (pin (perm := [0, 1, 2, 3, 4, 5]) (ws' := [(a, .inr (8, [.ref a_w, .int isImage, .ref a_tape, .int taped, .ref a_lane, .ref a_size, .ref a_items, .ref a_up, .ref a_down, .int above, .int below, .ref a_fell, .int fallen, .int torn, .int at_, .int start, .int number, .ref a_read, .ref a_comesUp, .ref a_comesDown, .ref a_held])), (a_w, .inl (X.E 1, 1142, .inl w_11)), (a_up, .inl (X.E 1, 8, .inl up_12)), (a_down, .inl (X.E 1, 8, .inl down_13)), (a_comesUp, .inl (X.E 1, 243, .inl comesUp_14)), (a_comesDown, .inl (X.E 1, 243, .inl comesDown_15))]) (stk := [.int r_10, .int x4]) rfl rfl rfl ?_)
      clear hv
      refine g_if_eq (tgt := 83) h dX8_war_76 rfl hf (fun c16 hf => ?_) (fun c16 hf => ?_)
      · refine g_iconst (v := 0) h dX8_war_83 kiconst_0 ?_
        refine g_iadd h dX8_war_84 ?_
        refine g_istore (lv' := [(4, .int (x4 + 0)), (0, .ref a), (1, .int x1), (2, .int x2), (3, .int x3), (5, .int x5)]) h dX8_war_85 (hL 4 (fle rfl)) rfl ?_
        refine g_iinc (j := 5) (v := (x5 + 1)) (lv' := [(5, .int (x5 + 1)), (4, .int (x4 + 0)), (0, .ref a), (1, .int x1), (2, .int x2), (3, .int x3)]) h dX8_war_87 rfl (kinc_1 _) (hL 5 (fle rfl)) rfl ?_
        refine g_goto (tgt := 61) h dX8_war_90 rfl ?_
        exact G.lsub [2, 3, 4, 5, 1, 0] rfl (ih _ _ _ _ _ _ _ hf k0)
      · refine g_iconst (v := 1) h dX8_war_79 kiconst_1 ?_
        refine g_goto (tgt := 84) h dX8_war_80 rfl ?_
        refine g_iadd h dX8_war_84 ?_
        refine g_istore (lv' := [(4, .int (x4 + 1)), (0, .ref a), (1, .int x1), (2, .int x2), (3, .int x3), (5, .int x5)]) h dX8_war_85 (hL 4 (fle rfl)) rfl ?_
        refine g_iinc (j := 5) (v := (x5 + 1)) (lv' := [(5, .int (x5 + 1)), (4, .int (x4 + 1)), (0, .ref a), (1, .int x1), (2, .int x2), (3, .int x3)]) h dX8_war_87 rfl (kinc_1 _) (hL 5 (fle rfl)) rfl ?_
        refine g_goto (tgt := 61) h dX8_war_90 rfl ?_
        exact G.lsub [2, 3, 4, 5, 1, 0] rfl (ih _ _ _ _ _ _ _ hf k0)
set_option maxHeartbeats 4000000 in
set_option maxRecDepth 100000 in
theorem w_X8_war_L115 {X : Cx} {a a_comesDown a_comesUp a_down a_fell a_held a_items a_lane a_read a_size a_tape a_up a_w : Nat} {x2 : Int32} {x3 : Int32} {x4 : Int32} {x5 : Int32} {isImage : Int32} {taped : Int32} {above : Int32} {below : Int32} {fallen : Int32} {torn : Int32} {at_ : Int32} {start : Int32} {number : Int32} {w : Nat → Int32} {up : Nat → Int32} {down : Nat → Int32} {ce sl : Nat} (h : Ok X cX8_war RX8) (hR : Rm X 4 98 0 0) (hL : ∀ i, i < 7 → i < X.nL) (hce : ce ≤ 0) (hsl : sl ≤ 0) : ∀ (n0 : Nat) (x6 : Int32) (comesUp : Nat → Int32) (comesDown : Nat → Int32) {o_comesUp : Nat → Int32} {o_comesDown : Nat → Int32}, f_X8_war_L115 x3 x5 n0 x6 comesUp comesDown = some (o_comesUp, o_comesDown) → (G X [(a, .inr (8, [.ref a_w, .int isImage, .ref a_tape, .int taped, .ref a_lane, .ref a_size, .ref a_items, .ref a_up, .ref a_down, .int above, .int below, .ref a_fell, .int fallen, .int torn, .int at_, .int start, .int number, .ref a_read, .ref a_comesUp, .ref a_comesDown, .ref a_held])), (a_w, .inl (X.E 1, 1142, .inl w)), (a_up, .inl (X.E 1, 8, .inl up)), (a_down, .inl (X.E 1, 8, .inl down)), (a_comesUp, .inl (X.E 1, 243, .inl o_comesUp)), (a_comesDown, .inl (X.E 1, 243, .inl o_comesDown))] [(0, .ref a), (2, .int x2), (3, .int x3), (4, .int x4), (5, .int x5)] ce sl 145 []) → G X [(a, .inr (8, [.ref a_w, .int isImage, .ref a_tape, .int taped, .ref a_lane, .ref a_size, .ref a_items, .ref a_up, .ref a_down, .int above, .int below, .ref a_fell, .int fallen, .int torn, .int at_, .int start, .int number, .ref a_read, .ref a_comesUp, .ref a_comesDown, .ref a_held])), (a_w, .inl (X.E 1, 1142, .inl w)), (a_up, .inl (X.E 1, 8, .inl up)), (a_down, .inl (X.E 1, 8, .inl down)), (a_comesUp, .inl (X.E 1, 243, .inl comesUp)), (a_comesDown, .inl (X.E 1, 243, .inl comesDown))] [(0, .ref a), (2, .int x2), (3, .int x3), (4, .int x4), (5, .int x5), (6, .int x6)] ce sl 115 [] := by
  intro n0
  induction n0 with
  | zero => intro x6 comesUp comesDown o_comesUp o_comesDown hf; exact nomatch (show (none : Option _) = some _ from hf)
  | succ n0 ih =>
    intro x6 comesUp comesDown o_comesUp o_comesDown hf k0
    replace hf : t_X8_war_L115 x3 x5 (f_X8_war_L115 x3 x5 n0) x6 comesUp comesDown = some (o_comesUp, o_comesDown) := hf
    unfold t_X8_war_L115 at hf
    refine g_iload h 5 dX8_war_115 rfl ?_
    refine g_iload_n h 2 dX8_war_117 rfl rfl ?_
    refine g_icmp_ge (tgt := 145) h dX8_war_118 rfl hf (fun c25 hf => ?_) (fun c25 hf => ?_)
    · obtain ⟨rfl, rfl⟩ := sj2 hf
      exact G.lsub [0, 1, 2, 3, 4] rfl k0
    · refine g_aload_n h 0 dX8_war_121 rfl rfl ?_
      refine g_iload h 5 dX8_war_122 rfl ?_
      refine g_iload h 4 dX8_war_124 rfl ?_
      refine g_iconst (v := 2) h dX8_war_126 kiconst_2 ?_
      refine g_irem h dX8_war_127 (by decide) ?_
      refine g_if_ne (tgt := 135) h dX8_war_128 rfl hf (fun c26 hf => ?_) (fun c26 hf => ?_)
      · refine g_iconst (v := 1) h dX8_war_131 kiconst_1 ?_
        refine g_goto (tgt := 136) h dX8_war_132 rfl ?_
        obtain ⟨comesUp_27, comesDown_28, hv, hf⟩ := ob2 hf
        refine g_callV (ci := 8) (q0 := 0) (n := 2) (As := [.int x6, .int 1]) (st := []) (wr := [(a_w, .inl (X.E 1, 1142, .inl w)), (a_up, .inl (X.E 1, 8, .inl up)), (a_down, .inl (X.E 1, 8, .inl down))]) (isC := [0, 4, 5]) (isR := [1, 2, 3]) h hR (ct_X8_takesBest (a := a) (a_w := a_w) (a_tape := a_tape) (a_lane := a_lane) (a_size := a_size) (a_items := a_items) (a_up := a_up) (a_down := a_down) (a_fell := a_fell) (a_read := a_read) (a_comesUp := a_comesUp) (a_comesDown := a_comesDown) (a_held := a_held) (x1 := x6) (x2 := 1) (isImage := isImage) (taped := taped) (above := above) (below := below) (fallen := fallen) (torn := torn) (at_ := at_) (start := start) (number := number) (comesUp := comesUp) (comesDown := comesDown) hv) rfl rfl (lw_V q1518 q1520 qs64 q80 q1521) (by decide +kernel) rfl ⟨rfl, rfl, rfl, rfl, by decide⟩ ⟨hce, hsl, fle rfl, fle rfl, fle rfl⟩ rfl dX8_war_136 (pin (perm := [3, 0, 1, 2, 4, 5]) (ws' := [(a, .inr (8, [.ref a_w, .int isImage, .ref a_tape, .int taped, .ref a_lane, .ref a_size, .ref a_items, .ref a_up, .ref a_down, .int above, .int below, .ref a_fell, .int fallen, .int torn, .int at_, .int start, .int number, .ref a_read, .ref a_comesUp, .ref a_comesDown, .ref a_held])), (a_w, .inl (X.E 1, 1142, .inl w)), (a_up, .inl (X.E 1, 8, .inl up)), (a_down, .inl (X.E 1, 8, .inl down)), (a_comesUp, .inl (X.E 1, 243, .inl comesUp_27)), (a_comesDown, .inl (X.E 1, 243, .inl comesDown_28))]) (stk := []) rfl rfl rfl ?_)
        clear hv
        refine g_iinc (j := 5) (v := (x6 + 1)) (lv' := [(6, .int (x6 + 1)), (0, .ref a), (2, .int x2), (3, .int x3), (4, .int x4), (5, .int x5)]) h dX8_war_139 rfl (kinc_1 _) (hL 6 (fle rfl)) rfl ?_
        refine g_goto (tgt := 115) h dX8_war_142 rfl ?_
        exact G.lsub [1, 2, 3, 4, 5, 0] rfl (ih _ _ _ hf k0)
      · refine g_iconst (v := 0) h dX8_war_135 kiconst_0 ?_
        obtain ⟨comesUp_29, comesDown_30, hv, hf⟩ := ob2 hf
        refine g_callV (ci := 8) (q0 := 0) (n := 2) (As := [.int x6, .int 0]) (st := []) (wr := [(a_w, .inl (X.E 1, 1142, .inl w)), (a_up, .inl (X.E 1, 8, .inl up)), (a_down, .inl (X.E 1, 8, .inl down))]) (isC := [0, 4, 5]) (isR := [1, 2, 3]) h hR (ct_X8_takesBest (a := a) (a_w := a_w) (a_tape := a_tape) (a_lane := a_lane) (a_size := a_size) (a_items := a_items) (a_up := a_up) (a_down := a_down) (a_fell := a_fell) (a_read := a_read) (a_comesUp := a_comesUp) (a_comesDown := a_comesDown) (a_held := a_held) (x1 := x6) (x2 := 0) (isImage := isImage) (taped := taped) (above := above) (below := below) (fallen := fallen) (torn := torn) (at_ := at_) (start := start) (number := number) (comesUp := comesUp) (comesDown := comesDown) hv) rfl rfl (lw_V q1518 q1520 qs64 q80 q1521) (by decide +kernel) rfl ⟨rfl, rfl, rfl, rfl, by decide⟩ ⟨hce, hsl, fle rfl, fle rfl, fle rfl⟩ rfl dX8_war_136 (pin (perm := [3, 0, 1, 2, 4, 5]) (ws' := [(a, .inr (8, [.ref a_w, .int isImage, .ref a_tape, .int taped, .ref a_lane, .ref a_size, .ref a_items, .ref a_up, .ref a_down, .int above, .int below, .ref a_fell, .int fallen, .int torn, .int at_, .int start, .int number, .ref a_read, .ref a_comesUp, .ref a_comesDown, .ref a_held])), (a_w, .inl (X.E 1, 1142, .inl w)), (a_up, .inl (X.E 1, 8, .inl up)), (a_down, .inl (X.E 1, 8, .inl down)), (a_comesUp, .inl (X.E 1, 243, .inl comesUp_29)), (a_comesDown, .inl (X.E 1, 243, .inl comesDown_30))]) (stk := []) rfl rfl rfl ?_)
        clear hv
        refine g_iinc (j := 5) (v := (x6 + 1)) (lv' := [(6, .int (x6 + 1)), (0, .ref a), (2, .int x2), (3, .int x3), (4, .int x4), (5, .int x5)]) h dX8_war_139 rfl (kinc_1 _) (hL 6 (fle rfl)) rfl ?_
        refine g_goto (tgt := 115) h dX8_war_142 rfl ?_
        exact G.lsub [1, 2, 3, 4, 5, 0] rfl (ih _ _ _ hf k0)
set_option maxHeartbeats 4000000 in
set_option maxRecDepth 100000 in
theorem w_X8_war_L98 {X : Cx} {a a_comesDown a_comesUp a_down a_fell a_held a_items a_lane a_read a_size a_tape a_up a_w : Nat} {x2 : Int32} {x4 : Int32} {isImage : Int32} {taped : Int32} {above : Int32} {below : Int32} {fallen : Int32} {torn : Int32} {at_ : Int32} {start : Int32} {number : Int32} {w : Nat → Int32} {up : Nat → Int32} {down : Nat → Int32} {ce sl : Nat} (h : Ok X cX8_war RX8) (hR : Rm X 4 98 0 0) (hL : ∀ i, i < 7 → i < X.nL) (hce : ce ≤ 0) (hsl : sl ≤ 0) : ∀ (n0 : Nat) (x3 : Int32) (x5 : Int32) (comesUp : Nat → Int32) (comesDown : Nat → Int32) {o_comesUp : Nat → Int32} {o_comesDown : Nat → Int32}, f_X8_war_L98 x4 n0 x3 x5 comesUp comesDown = some (o_comesUp, o_comesDown) → (G X [(a, .inr (8, [.ref a_w, .int isImage, .ref a_tape, .int taped, .ref a_lane, .ref a_size, .ref a_items, .ref a_up, .ref a_down, .int above, .int below, .ref a_fell, .int fallen, .int torn, .int at_, .int start, .int number, .ref a_read, .ref a_comesUp, .ref a_comesDown, .ref a_held])), (a_w, .inl (X.E 1, 1142, .inl w)), (a_up, .inl (X.E 1, 8, .inl up)), (a_down, .inl (X.E 1, 8, .inl down)), (a_comesUp, .inl (X.E 1, 243, .inl o_comesUp)), (a_comesDown, .inl (X.E 1, 243, .inl o_comesDown))] [(0, .ref a), (2, .int x2)] ce sl 151 []) → G X [(a, .inr (8, [.ref a_w, .int isImage, .ref a_tape, .int taped, .ref a_lane, .ref a_size, .ref a_items, .ref a_up, .ref a_down, .int above, .int below, .ref a_fell, .int fallen, .int torn, .int at_, .int start, .int number, .ref a_read, .ref a_comesUp, .ref a_comesDown, .ref a_held])), (a_w, .inl (X.E 1, 1142, .inl w)), (a_up, .inl (X.E 1, 8, .inl up)), (a_down, .inl (X.E 1, 8, .inl down)), (a_comesUp, .inl (X.E 1, 243, .inl comesUp)), (a_comesDown, .inl (X.E 1, 243, .inl comesDown))] [(0, .ref a), (2, .int x2), (3, .int x3), (4, .int x4), (5, .int x5)] ce sl 98 [] := by
  intro n0
  induction n0 with
  | zero => intro x3 x5 comesUp comesDown o_comesUp o_comesDown hf; exact nomatch (show (none : Option _) = some _ from hf)
  | succ n0 ih =>
    intro x3 x5 comesUp comesDown o_comesUp o_comesDown hf k0
    replace hf : t_X8_war_L98 x4 (f_X8_war_L98 x4 n0) x3 x5 comesUp comesDown = some (o_comesUp, o_comesDown) := hf
    unfold t_X8_war_L98 at hf
    refine g_iload h 4 dX8_war_98 rfl ?_
    refine g_if_lt (tgt := 151) h dX8_war_100 rfl hf (fun c23 hf => ?_) (fun c23 hf => ?_)
    · obtain ⟨rfl, rfl⟩ := sj2 hf
      exact G.lsub [0, 1] rfl k0
    · refine g_iload h 3 dX8_war_103 rfl ?_
      refine g_if_le (tgt := 151) h dX8_war_105 rfl hf (fun c24 hf => ?_) (fun c24 hf => ?_)
      · obtain ⟨rfl, rfl⟩ := sj2 hf
        exact G.lsub [0, 1] rfl k0
      · refine g_iload_n h 2 dX8_war_108 rfl rfl ?_
        refine g_iconst (v := 3) h dX8_war_109 kiconst_3 ?_
        refine g_idiv h dX8_war_110 (by decide) ?_
        refine g_istore_n (lv' := [(3, .int (x3 / 3)), (0, .ref a), (2, .int x2), (4, .int x4), (5, .int x5)]) h dX8_war_111 rfl (hL 3 (fle rfl)) rfl ?_
        refine g_iconst (v := 0) h dX8_war_112 kiconst_0 ?_
        refine g_istore (lv' := [(6, .int 0), (3, .int (x3 / 3)), (0, .ref a), (2, .int x2), (4, .int x4), (5, .int x5)]) h dX8_war_113 (hL 6 (fle rfl)) rfl ?_
        refine G.lsub (lv' := [(0, .ref a), (2, .int x2), (3, .int (x3 / 3)), (4, .int x4), (5, .int x5), (6, .int 0)]) [2, 3, 1, 4, 5, 0] rfl ?_
        obtain ⟨comesUp_31, comesDown_32, hv, hf⟩ := ob2 hf
        refine w_X8_war_L115 (x2 := x2) (x3 := (x3 / 3)) (x4 := x4) (x5 := x5) (isImage := isImage) (taped := taped) (above := above) (below := below) (fallen := fallen) (torn := torn) (at_ := at_) (start := start) (number := number) (w := w) (up := up) (down := down) h hR hL hce hsl FU _ _ _ hv ?_
        · clear hv
          refine g_iinc (j := 4) (v := (x5 + (-1))) (lv' := [(5, .int (x5 + (-1))), (0, .ref a), (2, .int x2), (3, .int (x3 / 3)), (4, .int x4)]) h dX8_war_145 rfl (kinc_m1 _) (hL 5 (fle rfl)) rfl ?_
          refine g_goto (tgt := 98) h dX8_war_148 rfl ?_
          exact G.lsub [1, 2, 3, 4, 0] rfl (ih _ _ _ _ hf k0)
set_option maxHeartbeats 4000000 in
set_option maxRecDepth 100000 in
theorem ct_X8_war {l : Launch} {D : va_G} {E : Ety} {a a_w a_tape a_lane a_size a_items a_up a_down a_fell a_read a_comesUp a_comesDown a_held : Nat} {x1 : Int32} {x2 : Int32} {isImage : Int32} {taped : Int32} {above : Int32} {below : Int32} {fallen : Int32} {torn : Int32} {at_ : Int32} {start : Int32} {number : Int32} {w : Nat → Int32} {up : Nat → Int32} {down : Nat → Int32} {comesUp : Nat → Int32} {comesDown : Nat → Int32} {r_ : Int32} {o_w : Nat → Int32} {o_up : Nat → Int32} {o_down : Nat → Int32} {o_comesUp : Nat → Int32} {o_comesDown : Nat → Int32} (hf : f_X8_war x1 x2 w up down comesUp comesDown = some (r_, o_w, o_up, o_down, o_comesUp, o_comesDown)) : Ct l yX8_war cX8_war 7 (some .int) 4 98 0 0 D E [.ref a, .int x1, .int x2] [(a, .inr (8, [.ref a_w, .int isImage, .ref a_tape, .int taped, .ref a_lane, .ref a_size, .ref a_items, .ref a_up, .ref a_down, .int above, .int below, .ref a_fell, .int fallen, .int torn, .int at_, .int start, .int number, .ref a_read, .ref a_comesUp, .ref a_comesDown, .ref a_held])), (a_w, .inl (E 1, 1142, .inl w)), (a_up, .inl (E 1, 8, .inl up)), (a_down, .inl (E 1, 8, .inl down)), (a_comesUp, .inl (E 1, 243, .inl comesUp)), (a_comesDown, .inl (E 1, 243, .inl comesDown))] (Pn (some (.int r_)) [(a, .inr (8, [.ref a_w, .int isImage, .ref a_tape, .int taped, .ref a_lane, .ref a_size, .ref a_items, .ref a_up, .ref a_down, .int above, .int below, .ref a_fell, .int fallen, .int torn, .int at_, .int start, .int number, .ref a_read, .ref a_comesUp, .ref a_comesDown, .ref a_held])), (a_w, .inl (E 1, 1142, .inl o_w)), (a_up, .inl (E 1, 8, .inl o_up)), (a_down, .inl (E 1, 8, .inl o_down)), (a_comesUp, .inl (E 1, 243, .inl o_comesUp)), (a_comesDown, .inl (E 1, 243, .inl o_comesDown))]) := by
  refine ct_of (own := RX8) (plainFor_of_name (by decide)) rfl (fle rfl) rfl ?_
  intro X hl hD hE hnL hXF h hR hF hnm
  subst hl; subst hD; subst hE
  have hL : ∀ i, i < 7 → i < X.nL := fun i hi => by rw [hnL]; exact hi
  unfold f_X8_war at hf
  refine g_iload_n h 1 dX8_war_0 rfl rfl ?_
  refine g_i2l h dX8_war_1 ?_
  refine g_lconst (v := 0) h dX8_war_2 rfl ?_
  refine g_ldc2 h q1505 dX8_war_3 ?_
  obtain ⟨r_1, hv, hf⟩ := ob1 hf
  refine g_callS (n := 3) (As := [.long x1.toInt64, .long 0, .long 5]) (st := []) (wr := [(a, .inr (8, [.ref a_w, .int isImage, .ref a_tape, .int taped, .ref a_lane, .ref a_size, .ref a_items, .ref a_up, .ref a_down, .int above, .int below, .ref a_fell, .int fallen, .int torn, .int at_, .int start, .int number, .ref a_read, .ref a_comesUp, .ref a_comesDown, .ref a_held])), (a_w, .inl (X.E 1, 1142, .inl w)), (a_up, .inl (X.E 1, 8, .inl up)), (a_down, .inl (X.E 1, 8, .inl down)), (a_comesUp, .inl (X.E 1, 243, .inl comesUp)), (a_comesDown, .inl (X.E 1, 243, .inl comesDown))]) (isC := []) (isR := [0, 1, 2, 3, 4, 5]) h hR (ct_X8_in (x0 := x1.toInt64) (x2 := 0) (x4 := 5) hv) (lw_S q1236 q1237 q80 q1238) (by decide +kernel) rfl ⟨rfl, rfl, rfl, rfl, by decide⟩ ⟨fle rfl, fle rfl, fle rfl, fle rfl, fle rfl⟩ rfl dX8_war_6 (pin (perm := [0, 1, 2, 3, 4, 5]) (ws' := [(a, .inr (8, [.ref a_w, .int isImage, .ref a_tape, .int taped, .ref a_lane, .ref a_size, .ref a_items, .ref a_up, .ref a_down, .int above, .int below, .ref a_fell, .int fallen, .int torn, .int at_, .int start, .int number, .ref a_read, .ref a_comesUp, .ref a_comesDown, .ref a_held])), (a_w, .inl (X.E 1, 1142, .inl w)), (a_up, .inl (X.E 1, 8, .inl up)), (a_down, .inl (X.E 1, 8, .inl down)), (a_comesUp, .inl (X.E 1, 243, .inl comesUp)), (a_comesDown, .inl (X.E 1, 243, .inl comesDown))]) (stk := [.int r_1]) rfl rfl rfl ?_)
  clear hv
  refine g_if_eq (tgt := 22) h dX8_war_9 rfl hf (fun c2 hf => ?_) (fun c2 hf => ?_)
  · refine g_iconst (v := (-1)) h dX8_war_22 kiconst_m1 ?_
    obtain ⟨rfl, rfl, rfl, rfl, rfl, rfl⟩ := sj6 hf
    exact g_iret h hF [0, 1, 2, 3, 4, 5] rfl rfl ⟨rfl, rfl⟩ (fle rfl) (fle rfl) dX8_war_23
  · refine g_iload_n h 2 dX8_war_12 rfl rfl ?_
    refine g_i2l h dX8_war_13 ?_
    refine g_lconst (v := 0) h dX8_war_14 rfl ?_
    refine g_lconst (v := 1) h dX8_war_15 rfl ?_
    obtain ⟨r_3, hv, hf⟩ := ob1 hf
    refine g_callS (n := 3) (As := [.long x2.toInt64, .long 0, .long 1]) (st := []) (wr := [(a, .inr (8, [.ref a_w, .int isImage, .ref a_tape, .int taped, .ref a_lane, .ref a_size, .ref a_items, .ref a_up, .ref a_down, .int above, .int below, .ref a_fell, .int fallen, .int torn, .int at_, .int start, .int number, .ref a_read, .ref a_comesUp, .ref a_comesDown, .ref a_held])), (a_w, .inl (X.E 1, 1142, .inl w)), (a_up, .inl (X.E 1, 8, .inl up)), (a_down, .inl (X.E 1, 8, .inl down)), (a_comesUp, .inl (X.E 1, 243, .inl comesUp)), (a_comesDown, .inl (X.E 1, 243, .inl comesDown))]) (isC := []) (isR := [0, 1, 2, 3, 4, 5]) h hR (ct_X8_in (x0 := x2.toInt64) (x2 := 0) (x4 := 1) hv) (lw_S q1236 q1237 q80 q1238) (by decide +kernel) rfl ⟨rfl, rfl, rfl, rfl, by decide⟩ ⟨fle rfl, fle rfl, fle rfl, fle rfl, fle rfl⟩ rfl dX8_war_16 (pin (perm := [0, 1, 2, 3, 4, 5]) (ws' := [(a, .inr (8, [.ref a_w, .int isImage, .ref a_tape, .int taped, .ref a_lane, .ref a_size, .ref a_items, .ref a_up, .ref a_down, .int above, .int below, .ref a_fell, .int fallen, .int torn, .int at_, .int start, .int number, .ref a_read, .ref a_comesUp, .ref a_comesDown, .ref a_held])), (a_w, .inl (X.E 1, 1142, .inl w)), (a_up, .inl (X.E 1, 8, .inl up)), (a_down, .inl (X.E 1, 8, .inl down)), (a_comesUp, .inl (X.E 1, 243, .inl comesUp)), (a_comesDown, .inl (X.E 1, 243, .inl comesDown))]) (stk := [.int r_3]) rfl rfl rfl ?_)
    clear hv
    refine g_if_ne (tgt := 24) h dX8_war_19 rfl hf (fun c4 hf => ?_) (fun c4 hf => ?_)
    · refine g_iconst (v := (-1)) h dX8_war_22 kiconst_m1 ?_
      obtain ⟨rfl, rfl, rfl, rfl, rfl, rfl⟩ := sj6 hf
      exact g_iret h hF [0, 1, 2, 3, 4, 5] rfl rfl ⟨rfl, rfl⟩ (fle rfl) (fle rfl) dX8_war_23
    · refine g_aload_n h 0 dX8_war_24 rfl rfl ?_
      refine g_iconst (v := 0) h dX8_war_25 kiconst_0 ?_
      obtain ⟨r_5, hv, hf⟩ := ob1 hf
      refine g_callV (ci := 8) (q0 := 0) (n := 1) (As := [.int 0]) (st := []) (wr := [(a_up, .inl (X.E 1, 8, .inl up)), (a_down, .inl (X.E 1, 8, .inl down)), (a_comesUp, .inl (X.E 1, 243, .inl comesUp)), (a_comesDown, .inl (X.E 1, 243, .inl comesDown))]) (isC := [0, 1]) (isR := [2, 3, 4, 5]) h hR (ct_X8_holding (a := a) (a_w := a_w) (a_tape := a_tape) (a_lane := a_lane) (a_size := a_size) (a_items := a_items) (a_up := a_up) (a_down := a_down) (a_fell := a_fell) (a_read := a_read) (a_comesUp := a_comesUp) (a_comesDown := a_comesDown) (a_held := a_held) (x1 := 0) (isImage := isImage) (taped := taped) (above := above) (below := below) (fallen := fallen) (torn := torn) (at_ := at_) (start := start) (number := number) (w := w) hv) rfl rfl (lw_V q1387 q1389 qs50 q80 q1390) (by decide +kernel) rfl ⟨rfl, rfl, rfl, rfl, by decide⟩ ⟨fle rfl, fle rfl, fle rfl, fle rfl, fle rfl⟩ rfl dX8_war_26 (pin (perm := [4, 5, 0, 1, 2, 3]) (ws' := [(a, .inr (8, [.ref a_w, .int isImage, .ref a_tape, .int taped, .ref a_lane, .ref a_size, .ref a_items, .ref a_up, .ref a_down, .int above, .int below, .ref a_fell, .int fallen, .int torn, .int at_, .int start, .int number, .ref a_read, .ref a_comesUp, .ref a_comesDown, .ref a_held])), (a_w, .inl (X.E 1, 1142, .inl w)), (a_up, .inl (X.E 1, 8, .inl up)), (a_down, .inl (X.E 1, 8, .inl down)), (a_comesUp, .inl (X.E 1, 243, .inl comesUp)), (a_comesDown, .inl (X.E 1, 243, .inl comesDown))]) (stk := [.int r_5]) rfl rfl rfl ?_)
      clear hv
      refine g_if_ne (tgt := 34) h dX8_war_29 rfl hf (fun c6 hf => ?_) (fun c6 hf => ?_)
      · refine g_iload_n h 2 dX8_war_32 rfl rfl ?_
        obtain ⟨rfl, rfl, rfl, rfl, rfl, rfl⟩ := sj6 hf
        exact g_iret h hF [0, 1, 2, 3, 4, 5] rfl rfl ⟨rfl, rfl⟩ (fle rfl) (fle rfl) dX8_war_33
      · refine g_iconst (v := 1) h dX8_war_34 kiconst_1 ?_
        refine g_istore_n (lv' := [(3, .int 1), (0, .ref a), (1, .int x1), (2, .int x2)]) h dX8_war_35 rfl (hL 3 (fle rfl)) rfl ?_
        refine g_iconst (v := 0) h dX8_war_36 kiconst_0 ?_
        refine g_istore (lv' := [(4, .int 0), (3, .int 1), (0, .ref a), (1, .int x1), (2, .int x2)]) h dX8_war_37 (hL 4 (fle rfl)) rfl ?_
        refine G.lsub (lv' := [(0, .ref a), (1, .int x1), (2, .int x2), (3, .int 1), (4, .int 0)]) [2, 3, 4, 1, 0] rfl ?_
        obtain ⟨x3_8, hv, hf⟩ := ob1 hf
        refine w_X8_war_L39 (x1 := x1) (x2 := x2) (isImage := isImage) (taped := taped) (above := above) (below := below) (fallen := fallen) (torn := torn) (at_ := at_) (start := start) (number := number) (w := w) (up := up) (down := down) (comesUp := comesUp) (comesDown := comesDown) h hR hL (fle rfl) (fle rfl) FU _ _ hv ?_
        · clear hv
          refine g_iconst (v := 0) h dX8_war_55 kiconst_0 ?_
          refine g_istore (lv' := [(4, .int 0), (0, .ref a), (1, .int x1), (2, .int x2), (3, .int x3_8)]) h dX8_war_56 (hL 4 (fle rfl)) rfl ?_
          refine g_iconst (v := 0) h dX8_war_58 kiconst_0 ?_
          refine g_istore (lv' := [(5, .int 0), (4, .int 0), (0, .ref a), (1, .int x1), (2, .int x2), (3, .int x3_8)]) h dX8_war_59 (hL 5 (fle rfl)) rfl ?_
          refine G.lsub (lv' := [(0, .ref a), (1, .int x1), (2, .int x2), (3, .int x3_8), (4, .int 0), (5, .int 0)]) [2, 3, 4, 5, 1, 0] rfl ?_
          obtain ⟨x4_17, w_18, up_19, down_20, comesUp_21, comesDown_22, hv, hf⟩ := ob6 hf
          refine w_X8_war_L61 (x1 := x1) (x2 := x2) (x3 := x3_8) (isImage := isImage) (taped := taped) (above := above) (below := below) (fallen := fallen) (torn := torn) (at_ := at_) (start := start) (number := number) h hR hL (fle rfl) (fle rfl) FU _ _ _ _ _ _ _ hv ?_
          · clear hv
            refine g_iload_n h 1 dX8_war_93 rfl rfl ?_
            refine g_iconst (v := 1) h dX8_war_94 kiconst_1 ?_
            refine g_isub h dX8_war_95 ?_
            refine g_istore (lv' := [(5, .int (x1 - 1)), (0, .ref a), (1, .int x1), (2, .int x2), (3, .int x3_8), (4, .int x4_17)]) h dX8_war_96 (hL 5 (fle rfl)) rfl ?_
            refine G.lsub (lv' := [(0, .ref a), (2, .int x2), (3, .int x3_8), (4, .int x4_17), (5, .int (x1 - 1))]) [1, 3, 4, 5, 0] rfl ?_
            obtain ⟨comesUp_33, comesDown_34, hv, hf⟩ := ob2 hf
            refine w_X8_war_L98 (x2 := x2) (x4 := x4_17) (isImage := isImage) (taped := taped) (above := above) (below := below) (fallen := fallen) (torn := torn) (at_ := at_) (start := start) (number := number) (w := w_18) (up := up_19) (down := down_20) h hR hL (fle rfl) (fle rfl) FU _ _ _ _ hv ?_
            · clear hv
              refine g_aload_n h 0 dX8_war_151 rfl rfl ?_
              refine g_get (ci := 8) (v := .ref a_comesUp) h in_X8 0 18 rfl rfl (fle rfl) rfl q1184 rfl dX8_war_152 ?_
              refine g_iconst (v := 0) h dX8_war_155 kiconst_0 ?_
              refine g_iaload h 4 rfl (by decide) dX8_war_156 ?_
              refine g_aload_n h 0 dX8_war_157 rfl rfl ?_
              refine g_get (ci := 8) (v := .ref a_comesDown) h in_X8 0 19 rfl rfl (fle rfl) rfl q1185 rfl dX8_war_158 ?_
              refine g_iconst (v := 0) h dX8_war_161 kiconst_0 ?_
              refine g_iaload h 5 rfl (by decide) dX8_war_162 ?_
              refine g_iload_n h 1 dX8_war_163 rfl rfl ?_
              obtain ⟨r_35, hv, hf⟩ := ob1 hf
              refine g_callS (n := 3) (As := [.int (comesUp_33 (0 : Int32).toNatClampNeg), .int (comesDown_34 (0 : Int32).toNatClampNeg), .int x2]) (st := []) (wr := [(a, .inr (8, [.ref a_w, .int isImage, .ref a_tape, .int taped, .ref a_lane, .ref a_size, .ref a_items, .ref a_up, .ref a_down, .int above, .int below, .ref a_fell, .int fallen, .int torn, .int at_, .int start, .int number, .ref a_read, .ref a_comesUp, .ref a_comesDown, .ref a_held])), (a_w, .inl (X.E 1, 1142, .inl w_18)), (a_up, .inl (X.E 1, 8, .inl up_19)), (a_down, .inl (X.E 1, 8, .inl down_20)), (a_comesUp, .inl (X.E 1, 243, .inl comesUp_33)), (a_comesDown, .inl (X.E 1, 243, .inl comesDown_34))]) (isC := []) (isR := [0, 1, 2, 3, 4, 5]) h hR (ct_X8_partOf (x0 := (comesUp_33 (0 : Int32).toNatClampNeg)) (x1 := (comesDown_34 (0 : Int32).toNatClampNeg)) (x2 := x2) hv) (lw_S q1360 q1361 q80 q1362) (by decide +kernel) rfl ⟨rfl, rfl, rfl, rfl, by decide⟩ ⟨fle rfl, fle rfl, fle rfl, fle rfl, fle rfl⟩ rfl dX8_war_164 (pin (perm := [0, 1, 2, 3, 4, 5]) (ws' := [(a, .inr (8, [.ref a_w, .int isImage, .ref a_tape, .int taped, .ref a_lane, .ref a_size, .ref a_items, .ref a_up, .ref a_down, .int above, .int below, .ref a_fell, .int fallen, .int torn, .int at_, .int start, .int number, .ref a_read, .ref a_comesUp, .ref a_comesDown, .ref a_held])), (a_w, .inl (X.E 1, 1142, .inl w_18)), (a_up, .inl (X.E 1, 8, .inl up_19)), (a_down, .inl (X.E 1, 8, .inl down_20)), (a_comesUp, .inl (X.E 1, 243, .inl comesUp_33)), (a_comesDown, .inl (X.E 1, 243, .inl comesDown_34))]) (stk := [.int r_35]) rfl rfl rfl ?_)
              clear hv
              obtain ⟨rfl, rfl, rfl, rfl, rfl, rfl⟩ := sj6 hf
              exact g_iret h hF [0, 1, 2, 3, 4, 5] rfl rfl ⟨rfl, rfl⟩ (fle rfl) (fle rfl) dX8_war_167
set_option maxHeartbeats 4000000 in
set_option maxRecDepth 100000 in
theorem w_X8_image_L2 {X : Cx} {a a_comesDown a_comesUp a_down a_fell a_held a_items a_lane a_read a_size a_tape a_up a_w : Nat} {isImage : Int32} {taped : Int32} {above : Int32} {below : Int32} {fallen : Int32} {torn : Int32} {at_ : Int32} {start : Int32} {number : Int32} {ce sl : Nat} (h : Ok X cX8_image RX8) (hR : Rm X 0 0 0 0) (hL : ∀ i, i < 2 → i < X.nL) (hce : ce ≤ 0) (hsl : sl ≤ 0) : ∀ (n0 : Nat) (x1 : Int32) (w : Nat → Int32) {o_w : Nat → Int32}, f_X8_image_L2 n0 x1 w = some o_w → (G X [(a, .inr (8, [.ref a_w, .int isImage, .ref a_tape, .int taped, .ref a_lane, .ref a_size, .ref a_items, .ref a_up, .ref a_down, .int above, .int below, .ref a_fell, .int fallen, .int torn, .int at_, .int start, .int number, .ref a_read, .ref a_comesUp, .ref a_comesDown, .ref a_held])), (a_w, .inl (X.E 1, 1142, .inl o_w))] [(0, .ref a)] ce sl 31 []) → G X [(a, .inr (8, [.ref a_w, .int isImage, .ref a_tape, .int taped, .ref a_lane, .ref a_size, .ref a_items, .ref a_up, .ref a_down, .int above, .int below, .ref a_fell, .int fallen, .int torn, .int at_, .int start, .int number, .ref a_read, .ref a_comesUp, .ref a_comesDown, .ref a_held])), (a_w, .inl (X.E 1, 1142, .inl w))] [(0, .ref a), (1, .int x1)] ce sl 2 [] := by
  intro n0
  induction n0 with
  | zero => intro x1 w o_w hf; exact nomatch (show (none : Option _) = some _ from hf)
  | succ n0 ih =>
    intro x1 w o_w hf k0
    replace hf : t_X8_image_L2 (f_X8_image_L2 n0) x1 w = some o_w := hf
    unfold t_X8_image_L2 at hf
    refine g_iload_n h 1 dX8_image_2 rfl rfl ?_
    refine g_sipush (v := 541) h dX8_image_3 ksipush_541 ?_
    refine g_icmp_ge (tgt := 31) h dX8_image_6 rfl hf (fun c1 hf => ?_) (fun c1 hf => ?_)
    · obtain rfl := sj1 hf
      exact G.lsub [0] rfl k0
    · refine g_aload_n h 0 dX8_image_9 rfl rfl ?_
      refine g_get (ci := 8) (v := .ref a_w) h in_X8 0 0 rfl rfl (fle rfl) rfl q1166 rfl dX8_image_10 ?_
      refine g_sipush (v := 541) h dX8_image_13 ksipush_541 ?_
      refine g_iload_n h 1 dX8_image_16 rfl rfl ?_
      refine g_iadd h dX8_image_17 ?_
      refine g_aload_n h 0 dX8_image_18 rfl rfl ?_
      refine g_get (ci := 8) (v := .ref a_w) h in_X8 0 0 rfl rfl (fle rfl) rfl q1166 rfl dX8_image_19 ?_
      refine g_iload_n h 1 dX8_image_22 rfl rfl ?_
      obtain ⟨g2, hf⟩ := gn hf
      refine g_iaload h 1 rfl g2 dX8_image_23 ?_
      obtain ⟨g3, hf⟩ := gn hf
      refine g_iastore (ws' := [(a, .inr (8, [.ref a_w, .int isImage, .ref a_tape, .int taped, .ref a_lane, .ref a_size, .ref a_items, .ref a_up, .ref a_down, .int above, .int below, .ref a_fell, .int fallen, .int torn, .int at_, .int start, .int number, .ref a_read, .ref a_comesUp, .ref a_comesDown, .ref a_held])), (a_w, .inl (X.E 1, 1142, .inl (upd w (541 + x1).toNatClampNeg (w x1.toNatClampNeg))))]) h 1 rfl g3 rfl dX8_image_24 ?_
      refine g_iinc (j := 1) (v := (x1 + 1)) (lv' := [(1, .int (x1 + 1)), (0, .ref a)]) h dX8_image_25 rfl (kinc_1 _) (hL 1 (fle rfl)) rfl ?_
      refine g_goto (tgt := 2) h dX8_image_28 rfl ?_
      exact G.lsub [1, 0] rfl (ih _ _ hf k0)
set_option maxHeartbeats 4000000 in
set_option maxRecDepth 100000 in
theorem ct_X8_image {l : Launch} {D : va_G} {E : Ety} {a a_w a_tape a_lane a_size a_items a_up a_down a_fell a_read a_comesUp a_comesDown a_held : Nat} {isImage : Int32} {taped : Int32} {above : Int32} {below : Int32} {fallen : Int32} {torn : Int32} {at_ : Int32} {start : Int32} {number : Int32} {w : Nat → Int32} {r_ : Int32} {o_isImage : Int32} {o_w : Nat → Int32} (hf : f_X8_image w = some (r_, o_isImage, o_w)) : Ct l yX8_image cX8_image 2 (some .int) 0 0 0 0 D E [.ref a] [(a, .inr (8, [.ref a_w, .int isImage, .ref a_tape, .int taped, .ref a_lane, .ref a_size, .ref a_items, .ref a_up, .ref a_down, .int above, .int below, .ref a_fell, .int fallen, .int torn, .int at_, .int start, .int number, .ref a_read, .ref a_comesUp, .ref a_comesDown, .ref a_held])), (a_w, .inl (E 1, 1142, .inl w))] (Pn (some (.int r_)) [(a, .inr (8, [.ref a_w, .int o_isImage, .ref a_tape, .int taped, .ref a_lane, .ref a_size, .ref a_items, .ref a_up, .ref a_down, .int above, .int below, .ref a_fell, .int fallen, .int torn, .int at_, .int start, .int number, .ref a_read, .ref a_comesUp, .ref a_comesDown, .ref a_held])), (a_w, .inl (E 1, 1142, .inl o_w))]) := by
  refine ct_of (own := RX8) (plainFor_of_name (by decide)) rfl (fle rfl) rfl ?_
  intro X hl hD hE hnL hXF h hR hF hnm
  subst hl; subst hD; subst hE
  have hL : ∀ i, i < 2 → i < X.nL := fun i hi => by rw [hnL]; exact hi
  unfold f_X8_image at hf
  refine g_iconst (v := 0) h dX8_image_0 kiconst_0 ?_
  refine g_istore_n (lv' := [(1, .int 0), (0, .ref a)]) h dX8_image_1 rfl (hL 1 (fle rfl)) rfl ?_
  refine G.lsub (lv' := [(0, .ref a), (1, .int 0)]) [1, 0] rfl ?_
  obtain ⟨w_4, hv, hf⟩ := ob1 hf
  refine w_X8_image_L2 (isImage := isImage) (taped := taped) (above := above) (below := below) (fallen := fallen) (torn := torn) (at_ := at_) (start := start) (number := number) h hR hL (fle rfl) (fle rfl) FU _ _ hv ?_
  · clear hv
    refine g_aload_n h 0 dX8_image_31 rfl rfl ?_
    refine g_iconst (v := 1) h dX8_image_32 kiconst_1 ?_
    refine g_put (ci := 8) (ty := tyX8 1) (ws' := [(a, .inr (8, [.ref a_w, .int 1, .ref a_tape, .int taped, .ref a_lane, .ref a_size, .ref a_items, .ref a_up, .ref a_down, .int above, .int below, .ref a_fell, .int fallen, .int torn, .int at_, .int start, .int number, .ref a_read, .ref a_comesUp, .ref a_comesDown, .ref a_held])), (a_w, .inl (X.E 1, 1142, .inl w_4))]) h in_X8 tyX8 tyX8_ok nmX8 0 1 rfl rfl (fle rfl) ⟨rfl, rfl⟩ q1167 rfl rfl rfl (fle rfl) rfl dX8_image_33 ?_
    refine g_iconst (v := 1) h dX8_image_36 kiconst_1 ?_
    obtain ⟨rfl, rfl, rfl⟩ := sj3 hf
    exact g_iret h hF [0, 1] rfl rfl ⟨rfl, rfl⟩ (fle rfl) (fle rfl) dX8_image_37
set_option maxHeartbeats 4000000 in
set_option maxRecDepth 100000 in
theorem w_X8_restore_L12 {X : Cx} {a a_comesDown a_comesUp a_down a_fell a_held a_items a_lane a_read a_size a_tape a_up a_w : Nat} {isImage : Int32} {taped : Int32} {above : Int32} {below : Int32} {fallen : Int32} {torn : Int32} {at_ : Int32} {start : Int32} {number : Int32} {ce sl : Nat} (h : Ok X cX8_restore RX8) (hR : Rm X 0 0 0 0) (hL : ∀ i, i < 2 → i < X.nL) (hce : ce ≤ 0) (hsl : sl ≤ 0) : ∀ (n0 : Nat) (x1 : Int32) (w : Nat → Int32) {o_w : Nat → Int32}, f_X8_restore_L12 n0 x1 w = some o_w → (G X [(a, .inr (8, [.ref a_w, .int isImage, .ref a_tape, .int taped, .ref a_lane, .ref a_size, .ref a_items, .ref a_up, .ref a_down, .int above, .int below, .ref a_fell, .int fallen, .int torn, .int at_, .int start, .int number, .ref a_read, .ref a_comesUp, .ref a_comesDown, .ref a_held])), (a_w, .inl (X.E 1, 1142, .inl o_w))] [] ce sl 41 []) → G X [(a, .inr (8, [.ref a_w, .int isImage, .ref a_tape, .int taped, .ref a_lane, .ref a_size, .ref a_items, .ref a_up, .ref a_down, .int above, .int below, .ref a_fell, .int fallen, .int torn, .int at_, .int start, .int number, .ref a_read, .ref a_comesUp, .ref a_comesDown, .ref a_held])), (a_w, .inl (X.E 1, 1142, .inl w))] [(0, .ref a), (1, .int x1)] ce sl 12 [] := by
  intro n0
  induction n0 with
  | zero => intro x1 w o_w hf; exact nomatch (show (none : Option _) = some _ from hf)
  | succ n0 ih =>
    intro x1 w o_w hf k0
    replace hf : t_X8_restore_L12 (f_X8_restore_L12 n0) x1 w = some o_w := hf
    unfold t_X8_restore_L12 at hf
    refine g_iload_n h 1 dX8_restore_12 rfl rfl ?_
    refine g_sipush (v := 541) h dX8_restore_13 ksipush_541 ?_
    refine g_icmp_ge (tgt := 41) h dX8_restore_16 rfl hf (fun c2 hf => ?_) (fun c2 hf => ?_)
    · obtain rfl := sj1 hf
      exact G.lsub [] rfl k0
    · refine g_aload_n h 0 dX8_restore_19 rfl rfl ?_
      refine g_get (ci := 8) (v := .ref a_w) h in_X8 0 0 rfl rfl (fle rfl) rfl q1166 rfl dX8_restore_20 ?_
      refine g_iload_n h 1 dX8_restore_23 rfl rfl ?_
      refine g_aload_n h 0 dX8_restore_24 rfl rfl ?_
      refine g_get (ci := 8) (v := .ref a_w) h in_X8 0 0 rfl rfl (fle rfl) rfl q1166 rfl dX8_restore_25 ?_
      refine g_sipush (v := 541) h dX8_restore_28 ksipush_541 ?_
      refine g_iload_n h 1 dX8_restore_31 rfl rfl ?_
      refine g_iadd h dX8_restore_32 ?_
      obtain ⟨g3, hf⟩ := gn hf
      refine g_iaload h 1 rfl g3 dX8_restore_33 ?_
      obtain ⟨g4, hf⟩ := gn hf
      refine g_iastore (ws' := [(a, .inr (8, [.ref a_w, .int isImage, .ref a_tape, .int taped, .ref a_lane, .ref a_size, .ref a_items, .ref a_up, .ref a_down, .int above, .int below, .ref a_fell, .int fallen, .int torn, .int at_, .int start, .int number, .ref a_read, .ref a_comesUp, .ref a_comesDown, .ref a_held])), (a_w, .inl (X.E 1, 1142, .inl (upd w x1.toNatClampNeg (w (541 + x1).toNatClampNeg))))]) h 1 rfl g4 rfl dX8_restore_34 ?_
      refine g_iinc (j := 1) (v := (x1 + 1)) (lv' := [(1, .int (x1 + 1)), (0, .ref a)]) h dX8_restore_35 rfl (kinc_1 _) (hL 1 (fle rfl)) rfl ?_
      refine g_goto (tgt := 12) h dX8_restore_38 rfl ?_
      exact G.lsub [1, 0] rfl (ih _ _ hf k0)
set_option maxHeartbeats 4000000 in
set_option maxRecDepth 100000 in
theorem ct_X8_restore {l : Launch} {D : va_G} {E : Ety} {a a_w a_tape a_lane a_size a_items a_up a_down a_fell a_read a_comesUp a_comesDown a_held : Nat} {isImage : Int32} {taped : Int32} {above : Int32} {below : Int32} {fallen : Int32} {torn : Int32} {at_ : Int32} {start : Int32} {number : Int32} {w : Nat → Int32} {r_ : Int32} {o_w : Nat → Int32} (hf : f_X8_restore isImage w = some (r_, o_w)) : Ct l yX8_restore cX8_restore 2 (some .int) 0 0 0 0 D E [.ref a] [(a, .inr (8, [.ref a_w, .int isImage, .ref a_tape, .int taped, .ref a_lane, .ref a_size, .ref a_items, .ref a_up, .ref a_down, .int above, .int below, .ref a_fell, .int fallen, .int torn, .int at_, .int start, .int number, .ref a_read, .ref a_comesUp, .ref a_comesDown, .ref a_held])), (a_w, .inl (E 1, 1142, .inl w))] (Pn (some (.int r_)) [(a, .inr (8, [.ref a_w, .int isImage, .ref a_tape, .int taped, .ref a_lane, .ref a_size, .ref a_items, .ref a_up, .ref a_down, .int above, .int below, .ref a_fell, .int fallen, .int torn, .int at_, .int start, .int number, .ref a_read, .ref a_comesUp, .ref a_comesDown, .ref a_held])), (a_w, .inl (E 1, 1142, .inl o_w))]) := by
  refine ct_of (own := RX8) (plainFor_of_name (by decide)) rfl (fle rfl) rfl ?_
  intro X hl hD hE hnL hXF h hR hF hnm
  subst hl; subst hD; subst hE
  have hL : ∀ i, i < 2 → i < X.nL := fun i hi => by rw [hnL]; exact hi
  unfold f_X8_restore at hf
  refine g_aload_n h 0 dX8_restore_0 rfl rfl ?_
  refine g_get (ci := 8) (v := .int isImage) h in_X8 0 1 rfl rfl (fle rfl) rfl q1167 rfl dX8_restore_1 ?_
  refine g_if_ne (tgt := 10) h dX8_restore_4 rfl hf (fun c1 hf => ?_) (fun c1 hf => ?_)
  · refine g_bipush (v := (-4)) h dX8_restore_7 kbipush_m4 ?_
    obtain ⟨rfl, rfl⟩ := sj2 hf
    exact g_iret h hF [0, 1] rfl rfl ⟨rfl, rfl⟩ (fle rfl) (fle rfl) dX8_restore_9
  · refine g_iconst (v := 0) h dX8_restore_10 kiconst_0 ?_
    refine g_istore_n (lv' := [(1, .int 0), (0, .ref a)]) h dX8_restore_11 rfl (hL 1 (fle rfl)) rfl ?_
    refine G.lsub (lv' := [(0, .ref a), (1, .int 0)]) [1, 0] rfl ?_
    obtain ⟨w_5, hv, hf⟩ := ob1 hf
    refine w_X8_restore_L12 (isImage := isImage) (taped := taped) (above := above) (below := below) (fallen := fallen) (torn := torn) (at_ := at_) (start := start) (number := number) h hR hL (fle rfl) (fle rfl) FU _ _ hv ?_
    · clear hv
      refine g_iconst (v := 1) h dX8_restore_41 kiconst_1 ?_
      obtain ⟨rfl, rfl⟩ := sj2 hf
      exact g_iret h hF [0, 1] rfl rfl ⟨rfl, rfl⟩ (fle rfl) (fle rfl) dX8_restore_42
set_option maxHeartbeats 4000000 in
set_option maxRecDepth 100000 in
theorem ct_X8_isRegister {l : Launch} {D : va_G} {E : Ety}  {x0 : Int32} {r_ : Int32} (hf : f_X8_isRegister x0 = some r_) : Ct l yX8_isRegister cX8_isRegister 1 (some .boolean) 1 25 0 0 D E [.int x0] [] (Pn (some (.int r_)) []) := by
  refine ct_of (own := RX8) (plainFor_of_name (by decide)) rfl (fle rfl) rfl ?_
  intro X hl hD hE hnL hXF h hR hF hnm
  subst hl; subst hD; subst hE
  have hL : ∀ i, i < 1 → i < X.nL := fun i hi => by rw [hnL]; exact hi
  unfold f_X8_isRegister at hf
  refine g_iload_n h 0 dX8_isRegister_0 rfl rfl ?_
  refine g_i2l h dX8_isRegister_1 ?_
  refine g_lconst (v := 0) h dX8_isRegister_2 rfl ?_
  refine g_ldc2 h q1537 dX8_isRegister_3 ?_
  obtain ⟨r_1, hv, hf⟩ := ob1 hf
  refine g_callS (n := 3) (As := [.long x0.toInt64, .long 0, .long 3]) (st := []) (wr := []) (isC := []) (isR := []) h hR (ct_X8_in (x0 := x0.toInt64) (x2 := 0) (x4 := 3) hv) (lw_S q1236 q1237 q80 q1238) (by decide +kernel) rfl ⟨rfl, rfl, rfl, rfl, by decide⟩ ⟨fle rfl, fle rfl, fle rfl, fle rfl, fle rfl⟩ rfl dX8_isRegister_6 (pin (perm := []) (ws' := []) (stk := [.int r_1]) rfl rfl rfl ?_)
  clear hv
  obtain ⟨gz, hf⟩ := gy hf
  obtain rfl := sj1 hf
  exact g_zret h hF (nz gz) [] rfl rfl ⟨rfl, rfl⟩ (fle rfl) (fle rfl) dX8_isRegister_9
set_option maxHeartbeats 4000000 in
set_option maxRecDepth 100000 in
theorem ct_X8_isLane {l : Launch} {D : va_G} {E : Ety}  {x0 : Int32} {r_ : Int32} (hf : f_X8_isLane x0 = some r_) : Ct l yX8_isLane cX8_isLane 1 (some .boolean) 1 25 0 0 D E [.int x0] [] (Pn (some (.int r_)) []) := by
  refine ct_of (own := RX8) (plainFor_of_name (by decide)) rfl (fle rfl) rfl ?_
  intro X hl hD hE hnL hXF h hR hF hnm
  subst hl; subst hD; subst hE
  have hL : ∀ i, i < 1 → i < X.nL := fun i hi => by rw [hnL]; exact hi
  unfold f_X8_isLane at hf
  refine g_iload_n h 0 dX8_isLane_0 rfl rfl ?_
  refine g_i2l h dX8_isLane_1 ?_
  refine g_lconst (v := 0) h dX8_isLane_2 rfl ?_
  refine g_ldc2 h q1537 dX8_isLane_3 ?_
  obtain ⟨r_1, hv, hf⟩ := ob1 hf
  refine g_callS (n := 3) (As := [.long x0.toInt64, .long 0, .long 3]) (st := []) (wr := []) (isC := []) (isR := []) h hR (ct_X8_in (x0 := x0.toInt64) (x2 := 0) (x4 := 3) hv) (lw_S q1236 q1237 q80 q1238) (by decide +kernel) rfl ⟨rfl, rfl, rfl, rfl, by decide⟩ ⟨fle rfl, fle rfl, fle rfl, fle rfl, fle rfl⟩ rfl dX8_isLane_6 (pin (perm := []) (ws' := []) (stk := [.int r_1]) rfl rfl rfl ?_)
  clear hv
  obtain ⟨gz, hf⟩ := gy hf
  obtain rfl := sj1 hf
  exact g_zret h hF (nz gz) [] rfl rfl ⟨rfl, rfl⟩ (fle rfl) (fle rfl) dX8_isLane_9
set_option maxHeartbeats 4000000 in
set_option maxRecDepth 100000 in
theorem ct_X8_seams {l : Launch} {D : va_G} {E : Ety} {a a_w a_tape a_lane a_size a_items a_up a_down a_fell a_read a_comesUp a_comesDown a_held : Nat} {isImage : Int32} {taped : Int32} {above : Int32} {below : Int32} {fallen : Int32} {torn : Int32} {at_ : Int32} {start : Int32} {number : Int32} {w : Nat → Int32} {r_ : Int32} (hf : f_X8_seams w = some r_) : Ct l yX8_seams cX8_seams 1 (some .int) 0 0 0 0 D E [.ref a] [(a, .inr (8, [.ref a_w, .int isImage, .ref a_tape, .int taped, .ref a_lane, .ref a_size, .ref a_items, .ref a_up, .ref a_down, .int above, .int below, .ref a_fell, .int fallen, .int torn, .int at_, .int start, .int number, .ref a_read, .ref a_comesUp, .ref a_comesDown, .ref a_held])), (a_w, .inl (E 1, 1142, .inl w))] (Pn (some (.int r_)) [(a, .inr (8, [.ref a_w, .int isImage, .ref a_tape, .int taped, .ref a_lane, .ref a_size, .ref a_items, .ref a_up, .ref a_down, .int above, .int below, .ref a_fell, .int fallen, .int torn, .int at_, .int start, .int number, .ref a_read, .ref a_comesUp, .ref a_comesDown, .ref a_held])), (a_w, .inl (E 1, 1142, .inl w))]) := by
  refine ct_of (own := RX8) (plainFor_of_name (by decide)) rfl (fle rfl) rfl ?_
  intro X hl hD hE hnL hXF h hR hF hnm
  subst hl; subst hD; subst hE
  have hL : ∀ i, i < 1 → i < X.nL := fun i hi => by rw [hnL]; exact hi
  unfold f_X8_seams at hf
  refine g_aload_n h 0 dX8_seams_0 rfl rfl ?_
  refine g_get (ci := 8) (v := .ref a_w) h in_X8 0 0 rfl rfl (fle rfl) rfl q1166 rfl dX8_seams_1 ?_
  refine g_iconst (v := 0) h dX8_seams_4 kiconst_0 ?_
  refine g_iaload h 1 rfl (by decide) dX8_seams_5 ?_
  refine g_iconst (v := 1) h dX8_seams_6 kiconst_1 ?_
  refine g_icmp_le (tgt := 21) h dX8_seams_7 rfl hf (fun c1 hf => ?_) (fun c1 hf => ?_)
  · refine g_iconst (v := 0) h dX8_seams_21 kiconst_0 ?_
    obtain rfl := sj1 hf
    exact g_iret h hF [0, 1] rfl rfl ⟨rfl, rfl⟩ (fle rfl) (fle rfl) dX8_seams_22
  · refine g_aload_n h 0 dX8_seams_10 rfl rfl ?_
    refine g_get (ci := 8) (v := .ref a_w) h in_X8 0 0 rfl rfl (fle rfl) rfl q1166 rfl dX8_seams_11 ?_
    refine g_iconst (v := 0) h dX8_seams_14 kiconst_0 ?_
    refine g_iaload h 1 rfl (by decide) dX8_seams_15 ?_
    refine g_iconst (v := 1) h dX8_seams_16 kiconst_1 ?_
    refine g_isub h dX8_seams_17 ?_
    refine g_goto (tgt := 22) h dX8_seams_18 rfl ?_
    obtain rfl := sj1 hf
    exact g_iret h hF [0, 1] rfl rfl ⟨rfl, rfl⟩ (fle rfl) (fle rfl) dX8_seams_22
set_option maxHeartbeats 4000000 in
set_option maxRecDepth 100000 in
theorem ct_X8_against {l : Launch} {D : va_G} {E : Ety} {a a_w a_tape a_lane a_size a_items a_up a_down a_fell a_read a_comesUp a_comesDown a_held : Nat} {x1 : Int32} {x2 : Int32} {x3 : Int32} {x4 : Int32} {isImage : Int32} {taped : Int32} {above : Int32} {below : Int32} {fallen : Int32} {torn : Int32} {at_ : Int32} {start : Int32} {number : Int32} {lane : Nat → Int32} {size : Nat → Int32} {r_ : Int32} (hf : f_X8_against x1 x2 x3 x4 lane size = some r_) : Ct l yX8_against cX8_against 5 (some .int) 0 0 0 0 D E [.ref a, .int x1, .int x2, .int x3, .int x4] [(a, .inr (8, [.ref a_w, .int isImage, .ref a_tape, .int taped, .ref a_lane, .ref a_size, .ref a_items, .ref a_up, .ref a_down, .int above, .int below, .ref a_fell, .int fallen, .int torn, .int at_, .int start, .int number, .ref a_read, .ref a_comesUp, .ref a_comesDown, .ref a_held])), (a_lane, .inl (E 1, 4, .inl lane)), (a_size, .inl (E 1, 4, .inl size))] (Pn (some (.int r_)) [(a, .inr (8, [.ref a_w, .int isImage, .ref a_tape, .int taped, .ref a_lane, .ref a_size, .ref a_items, .ref a_up, .ref a_down, .int above, .int below, .ref a_fell, .int fallen, .int torn, .int at_, .int start, .int number, .ref a_read, .ref a_comesUp, .ref a_comesDown, .ref a_held])), (a_lane, .inl (E 1, 4, .inl lane)), (a_size, .inl (E 1, 4, .inl size))]) := by
  refine ct_of (own := RX8) (plainFor_of_name (by decide)) rfl (fle rfl) rfl ?_
  intro X hl hD hE hnL hXF h hR hF hnm
  subst hl; subst hD; subst hE
  have hL : ∀ i, i < 5 → i < X.nL := fun i hi => by rw [hnL]; exact hi
  unfold f_X8_against at hf
  refine g_aload_n h 0 dX8_against_0 rfl rfl ?_
  refine g_get (ci := 8) (v := .ref a_lane) h in_X8 0 4 rfl rfl (fle rfl) rfl q1170 rfl dX8_against_1 ?_
  refine g_iload_n h 1 dX8_against_4 rfl rfl ?_
  obtain ⟨g1, hf⟩ := gn hf
  refine g_iaload h 1 rfl g1 dX8_against_5 ?_
  refine g_if_ge (tgt := 12) h dX8_against_6 rfl hf (fun c2 hf => ?_) (fun c2 hf => ?_)
  · refine g_aload_n h 0 dX8_against_12 rfl rfl ?_
    refine g_get (ci := 8) (v := .ref a_lane) h in_X8 0 4 rfl rfl (fle rfl) rfl q1170 rfl dX8_against_13 ?_
    refine g_iload_n h 1 dX8_against_16 rfl rfl ?_
    refine g_iaload h 1 rfl g1 dX8_against_17 ?_
    refine g_iload_n h 2 dX8_against_18 rfl rfl ?_
    refine g_icmp_eq (tgt := 25) h dX8_against_19 rfl hf (fun c3 hf => ?_) (fun c3 hf => ?_)
    · refine g_iload_n h 3 dX8_against_25 rfl rfl ?_
      refine g_if_lt (tgt := 51) h dX8_against_26 rfl hf (fun c4 hf => ?_) (fun c4 hf => ?_)
      · refine g_bipush (v := (-13)) h dX8_against_51 kbipush_m13 ?_
        refine g_goto (tgt := 57) h dX8_against_53 rfl ?_
        obtain rfl := sj1 hf
        exact g_iret h hF [0, 1, 2] rfl rfl ⟨rfl, rfl⟩ (fle rfl) (fle rfl) dX8_against_57
      · refine g_iload h 4 dX8_against_29 rfl ?_
        refine g_if_lt (tgt := 51) h dX8_against_31 rfl hf (fun c5 hf => ?_) (fun c5 hf => ?_)
        · refine g_bipush (v := (-13)) h dX8_against_51 kbipush_m13 ?_
          refine g_goto (tgt := 57) h dX8_against_53 rfl ?_
          obtain rfl := sj1 hf
          exact g_iret h hF [0, 1, 2] rfl rfl ⟨rfl, rfl⟩ (fle rfl) (fle rfl) dX8_against_57
        · refine g_iload_n h 3 dX8_against_34 rfl rfl ?_
          refine g_i2l h dX8_against_35 ?_
          refine g_iload h 4 dX8_against_36 rfl ?_
          refine g_i2l h dX8_against_38 ?_
          refine g_ladd h dX8_against_39 ?_
          refine g_aload_n h 0 dX8_against_40 rfl rfl ?_
          refine g_get (ci := 8) (v := .ref a_size) h in_X8 0 5 rfl rfl (fle rfl) rfl q1171 rfl dX8_against_41 ?_
          refine g_iload_n h 1 dX8_against_44 rfl rfl ?_
          refine g_iaload h 2 rfl g1 dX8_against_45 ?_
          refine g_i2l h dX8_against_46 ?_
          refine g_lcmp h dX8_against_47 ?_
          refine g_if_le (tgt := 56) h dX8_against_48 rfl hf (fun c6 hf => ?_) (fun c6 hf => ?_)
          · refine g_iconst (v := 0) h dX8_against_56 kiconst_0 ?_
            obtain rfl := sj1 hf
            exact g_iret h hF [0, 1, 2] rfl rfl ⟨rfl, rfl⟩ (fle rfl) (fle rfl) dX8_against_57
          · refine g_bipush (v := (-13)) h dX8_against_51 kbipush_m13 ?_
            refine g_goto (tgt := 57) h dX8_against_53 rfl ?_
            obtain rfl := sj1 hf
            exact g_iret h hF [0, 1, 2] rfl rfl ⟨rfl, rfl⟩ (fle rfl) (fle rfl) dX8_against_57
    · refine g_bipush (v := (-12)) h dX8_against_22 kbipush_m12 ?_
      obtain rfl := sj1 hf
      exact g_iret h hF [0, 1, 2] rfl rfl ⟨rfl, rfl⟩ (fle rfl) (fle rfl) dX8_against_24
  · refine g_bipush (v := (-11)) h dX8_against_9 kbipush_m11 ?_
    obtain rfl := sj1 hf
    exact g_iret h hF [0, 1, 2] rfl rfl ⟨rfl, rfl⟩ (fle rfl) (fle rfl) dX8_against_11
set_option maxHeartbeats 4000000 in
set_option maxRecDepth 100000 in
theorem w_X8_pullsSo_L11 {X : Cx} {a a_comesDown a_comesUp a_down a_fell a_held a_items a_lane a_read a_size a_tape a_up a_w : Nat} {x1 : Int32} {isImage : Int32} {taped : Int32} {above : Int32} {below : Int32} {fallen : Int32} {torn : Int32} {at_ : Int32} {start : Int32} {number : Int32} {w : Nat → Int32} {items : Nat → Int64} {up : Nat → Int32} {down : Nat → Int32} {ce sl : Nat} (h : Ok X cX8_pullsSo RX8) (hR : Rm X 3 70 0 0) (hL : ∀ i, i < 4 → i < X.nL) (hce : ce ≤ 0) (hsl : sl ≤ 0) : ∀ (n0 : Nat) (x2 : Int32) (x3 : Int32) {o_x2 : Int32}, f_X8_pullsSo_L11 x1 w items up down n0 x2 x3 = some o_x2 → (G X [(a, .inr (8, [.ref a_w, .int isImage, .ref a_tape, .int taped, .ref a_lane, .ref a_size, .ref a_items, .ref a_up, .ref a_down, .int above, .int below, .ref a_fell, .int fallen, .int torn, .int at_, .int start, .int number, .ref a_read, .ref a_comesUp, .ref a_comesDown, .ref a_held])), (a_w, .inl (X.E 1, 1142, .inl w)), (a_items, .inl (X.E 2, 96, .inr (.inl items))), (a_up, .inl (X.E 1, 8, .inl up)), (a_down, .inl (X.E 1, 8, .inl down))] [(2, .int o_x2)] ce sl 61 []) → G X [(a, .inr (8, [.ref a_w, .int isImage, .ref a_tape, .int taped, .ref a_lane, .ref a_size, .ref a_items, .ref a_up, .ref a_down, .int above, .int below, .ref a_fell, .int fallen, .int torn, .int at_, .int start, .int number, .ref a_read, .ref a_comesUp, .ref a_comesDown, .ref a_held])), (a_w, .inl (X.E 1, 1142, .inl w)), (a_items, .inl (X.E 2, 96, .inr (.inl items))), (a_up, .inl (X.E 1, 8, .inl up)), (a_down, .inl (X.E 1, 8, .inl down))] [(0, .ref a), (1, .int x1), (2, .int x2), (3, .int x3)] ce sl 11 [] := by
  intro n0
  induction n0 with
  | zero => intro x2 x3 o_x2 hf; exact nomatch (show (none : Option _) = some _ from hf)
  | succ n0 ih =>
    intro x2 x3 o_x2 hf k0
    replace hf : t_X8_pullsSo_L11 x1 w items up down (f_X8_pullsSo_L11 x1 w items up down n0) x2 x3 = some o_x2 := hf
    unfold t_X8_pullsSo_L11 at hf
    refine g_iload_n h 3 dX8_pullsSo_11 rfl rfl ?_
    refine g_aload_n h 0 dX8_pullsSo_12 rfl rfl ?_
    obtain ⟨r_3, hv, hf⟩ := ob1 hf
    refine g_callV (ci := 8) (q0 := 0) (n := 0) (As := []) (st := [.int x3]) (wr := [(a_items, .inl (X.E 2, 96, .inr (.inl items))), (a_up, .inl (X.E 1, 8, .inl up)), (a_down, .inl (X.E 1, 8, .inl down))]) (isC := [0, 1]) (isR := [2, 3, 4]) h hR (ct_X8_seams (a := a) (a_w := a_w) (a_tape := a_tape) (a_lane := a_lane) (a_size := a_size) (a_items := a_items) (a_up := a_up) (a_down := a_down) (a_fell := a_fell) (a_read := a_read) (a_comesUp := a_comesUp) (a_comesDown := a_comesDown) (a_held := a_held) (isImage := isImage) (taped := taped) (above := above) (below := below) (fallen := fallen) (torn := torn) (at_ := at_) (start := start) (number := number) (w := w) hv) rfl rfl (lw_V q1541 q1543 qs65 q80 q1544) (by decide +kernel) rfl ⟨rfl, rfl, rfl, rfl, by decide⟩ ⟨hce, hsl, fle rfl, fle rfl, fle rfl⟩ rfl dX8_pullsSo_13 (pin (perm := [3, 4, 0, 1, 2]) (ws' := [(a, .inr (8, [.ref a_w, .int isImage, .ref a_tape, .int taped, .ref a_lane, .ref a_size, .ref a_items, .ref a_up, .ref a_down, .int above, .int below, .ref a_fell, .int fallen, .int torn, .int at_, .int start, .int number, .ref a_read, .ref a_comesUp, .ref a_comesDown, .ref a_held])), (a_w, .inl (X.E 1, 1142, .inl w)), (a_items, .inl (X.E 2, 96, .inr (.inl items))), (a_up, .inl (X.E 1, 8, .inl up)), (a_down, .inl (X.E 1, 8, .inl down))]) (stk := [.int r_3, .int x3]) rfl rfl rfl ?_)
    clear hv
    refine g_icmp_ge (tgt := 61) h dX8_pullsSo_16 rfl hf (fun c4 hf => ?_) (fun c4 hf => ?_)
    · obtain rfl := sj1 hf
      exact G.lsub [2] rfl k0
    · refine g_iload_n h 2 dX8_pullsSo_19 rfl rfl ?_
      refine g_if_eq (tgt := 53) h dX8_pullsSo_20 rfl hf (fun c5 hf => ?_) (fun c5 hf => ?_)
      · refine g_iconst (v := 0) h dX8_pullsSo_53 kiconst_0 ?_
        refine g_istore_n (lv' := [(2, .int 0), (0, .ref a), (1, .int x1), (3, .int x3)]) h dX8_pullsSo_54 rfl (hL 2 (fle rfl)) rfl ?_
        refine g_iinc (j := 3) (v := (x3 + 1)) (lv' := [(3, .int (x3 + 1)), (2, .int 0), (0, .ref a), (1, .int x1)]) h dX8_pullsSo_55 rfl (kinc_1 _) (hL 3 (fle rfl)) rfl ?_
        refine g_goto (tgt := 11) h dX8_pullsSo_58 rfl ?_
        exact G.lsub [2, 3, 1, 0] rfl (ih _ _ hf k0)
      · refine g_aload_n h 0 dX8_pullsSo_23 rfl rfl ?_
        refine g_get (ci := 8) (v := .ref a_items) h in_X8 0 6 rfl rfl (fle rfl) rfl q1172 rfl dX8_pullsSo_24 ?_
        refine g_iload_n h 1 dX8_pullsSo_27 rfl rfl ?_
        refine g_iload_n h 3 dX8_pullsSo_28 rfl rfl ?_
        refine g_iadd h dX8_pullsSo_29 ?_
        obtain ⟨g6, hf⟩ := gn hf
        refine g_laload h 2 rfl g6 dX8_pullsSo_30 ?_
        refine g_aload_n h 0 dX8_pullsSo_31 rfl rfl ?_
        refine g_get (ci := 8) (v := .ref a_up) h in_X8 0 7 rfl rfl (fle rfl) rfl q1173 rfl dX8_pullsSo_32 ?_
        refine g_iload_n h 3 dX8_pullsSo_35 rfl rfl ?_
        obtain ⟨g7, hf⟩ := gn hf
        refine g_iaload h 3 rfl g7 dX8_pullsSo_36 ?_
        refine g_aload_n h 0 dX8_pullsSo_37 rfl rfl ?_
        refine g_get (ci := 8) (v := .ref a_down) h in_X8 0 8 rfl rfl (fle rfl) rfl q1174 rfl dX8_pullsSo_38 ?_
        refine g_iload_n h 3 dX8_pullsSo_41 rfl rfl ?_
        refine g_iaload h 4 rfl g7 dX8_pullsSo_42 ?_
        obtain ⟨g8, hf⟩ := gn hf
        refine g_idiv h dX8_pullsSo_43 g8 ?_
        refine g_i2l h dX8_pullsSo_44 ?_
        refine g_lcmp h dX8_pullsSo_45 ?_
        refine g_if_ne (tgt := 53) h dX8_pullsSo_46 rfl hf (fun c9 hf => ?_) (fun c9 hf => ?_)
        · refine g_iconst (v := 1) h dX8_pullsSo_49 kiconst_1 ?_
          refine g_goto (tgt := 54) h dX8_pullsSo_50 rfl ?_
          refine g_istore_n (lv' := [(2, .int 1), (0, .ref a), (1, .int x1), (3, .int x3)]) h dX8_pullsSo_54 rfl (hL 2 (fle rfl)) rfl ?_
          refine g_iinc (j := 3) (v := (x3 + 1)) (lv' := [(3, .int (x3 + 1)), (2, .int 1), (0, .ref a), (1, .int x1)]) h dX8_pullsSo_55 rfl (kinc_1 _) (hL 3 (fle rfl)) rfl ?_
          refine g_goto (tgt := 11) h dX8_pullsSo_58 rfl ?_
          exact G.lsub [2, 3, 1, 0] rfl (ih _ _ hf k0)
        · refine g_iconst (v := 0) h dX8_pullsSo_53 kiconst_0 ?_
          refine g_istore_n (lv' := [(2, .int 0), (0, .ref a), (1, .int x1), (3, .int x3)]) h dX8_pullsSo_54 rfl (hL 2 (fle rfl)) rfl ?_
          refine g_iinc (j := 3) (v := (x3 + 1)) (lv' := [(3, .int (x3 + 1)), (2, .int 0), (0, .ref a), (1, .int x1)]) h dX8_pullsSo_55 rfl (kinc_1 _) (hL 3 (fle rfl)) rfl ?_
          refine g_goto (tgt := 11) h dX8_pullsSo_58 rfl ?_
          exact G.lsub [2, 3, 1, 0] rfl (ih _ _ hf k0)
set_option maxHeartbeats 4000000 in
set_option maxRecDepth 100000 in
theorem ct_X8_pullsSo {l : Launch} {D : va_G} {E : Ety} {a a_w a_tape a_lane a_size a_items a_up a_down a_fell a_read a_comesUp a_comesDown a_held : Nat} {x1 : Int32} {isImage : Int32} {taped : Int32} {above : Int32} {below : Int32} {fallen : Int32} {torn : Int32} {at_ : Int32} {start : Int32} {number : Int32} {w : Nat → Int32} {items : Nat → Int64} {up : Nat → Int32} {down : Nat → Int32} {r_ : Int32} {o_up : Nat → Int32} {o_down : Nat → Int32} (hf : f_X8_pullsSo x1 w items up down = some (r_, o_up, o_down)) : Ct l yX8_pullsSo cX8_pullsSo 4 (some .boolean) 3 70 0 0 D E [.ref a, .int x1] [(a, .inr (8, [.ref a_w, .int isImage, .ref a_tape, .int taped, .ref a_lane, .ref a_size, .ref a_items, .ref a_up, .ref a_down, .int above, .int below, .ref a_fell, .int fallen, .int torn, .int at_, .int start, .int number, .ref a_read, .ref a_comesUp, .ref a_comesDown, .ref a_held])), (a_w, .inl (E 1, 1142, .inl w)), (a_items, .inl (E 2, 96, .inr (.inl items))), (a_up, .inl (E 1, 8, .inl up)), (a_down, .inl (E 1, 8, .inl down))] (Pn (some (.int r_)) [(a, .inr (8, [.ref a_w, .int isImage, .ref a_tape, .int taped, .ref a_lane, .ref a_size, .ref a_items, .ref a_up, .ref a_down, .int above, .int below, .ref a_fell, .int fallen, .int torn, .int at_, .int start, .int number, .ref a_read, .ref a_comesUp, .ref a_comesDown, .ref a_held])), (a_w, .inl (E 1, 1142, .inl w)), (a_items, .inl (E 2, 96, .inr (.inl items))), (a_up, .inl (E 1, 8, .inl o_up)), (a_down, .inl (E 1, 8, .inl o_down))]) := by
  refine ct_of (own := RX8) (plainFor_of_name (by decide)) rfl (fle rfl) rfl ?_
  intro X hl hD hE hnL hXF h hR hF hnm
  subst hl; subst hD; subst hE
  have hL : ∀ i, i < 4 → i < X.nL := fun i hi => by rw [hnL]; exact hi
  unfold f_X8_pullsSo at hf
  refine g_aload_n h 0 dX8_pullsSo_0 rfl rfl ?_
  refine g_sipush (v := 1082) h dX8_pullsSo_1 ksipush_1082 ?_
  obtain ⟨up_1, down_2, hv, hf⟩ := ob2 hf
  refine g_callV (ci := 8) (q0 := 0) (n := 1) (As := [.int 1082]) (st := []) (wr := [(a_items, .inl (X.E 2, 96, .inr (.inl items)))]) (isC := [0, 1, 3, 4]) (isR := [2]) h hR (ct_X8_layPulls (a := a) (a_w := a_w) (a_tape := a_tape) (a_lane := a_lane) (a_size := a_size) (a_items := a_items) (a_up := a_up) (a_down := a_down) (a_fell := a_fell) (a_read := a_read) (a_comesUp := a_comesUp) (a_comesDown := a_comesDown) (a_held := a_held) (x1 := 1082) (isImage := isImage) (taped := taped) (above := above) (below := below) (fallen := fallen) (torn := torn) (at_ := at_) (start := start) (number := number) (w := w) (up := up) (down := down) hv) rfl rfl (lw_V q1280 q1282 qs36 q80 q1283) (by decide +kernel) rfl ⟨rfl, rfl, rfl, rfl, by decide⟩ ⟨fle rfl, fle rfl, fle rfl, fle rfl, fle rfl⟩ rfl dX8_pullsSo_4 (pin (perm := [1, 2, 0, 3, 4]) (ws' := [(a, .inr (8, [.ref a_w, .int isImage, .ref a_tape, .int taped, .ref a_lane, .ref a_size, .ref a_items, .ref a_up, .ref a_down, .int above, .int below, .ref a_fell, .int fallen, .int torn, .int at_, .int start, .int number, .ref a_read, .ref a_comesUp, .ref a_comesDown, .ref a_held])), (a_w, .inl (X.E 1, 1142, .inl w)), (a_items, .inl (X.E 2, 96, .inr (.inl items))), (a_up, .inl (X.E 1, 8, .inl up_1)), (a_down, .inl (X.E 1, 8, .inl down_2))]) (stk := []) rfl rfl rfl ?_)
  clear hv
  refine g_iconst (v := 1) h dX8_pullsSo_7 kiconst_1 ?_
  refine g_istore_n (lv' := [(2, .int 1), (0, .ref a), (1, .int x1)]) h dX8_pullsSo_8 rfl (hL 2 (fle rfl)) rfl ?_
  refine g_iconst (v := 0) h dX8_pullsSo_9 kiconst_0 ?_
  refine g_istore_n (lv' := [(3, .int 0), (2, .int 1), (0, .ref a), (1, .int x1)]) h dX8_pullsSo_10 rfl (hL 3 (fle rfl)) rfl ?_
  refine G.lsub (lv' := [(0, .ref a), (1, .int x1), (2, .int 1), (3, .int 0)]) [2, 3, 1, 0] rfl ?_
  obtain ⟨x2_10, hv, hf⟩ := ob1 hf
  refine w_X8_pullsSo_L11 (x1 := x1) (isImage := isImage) (taped := taped) (above := above) (below := below) (fallen := fallen) (torn := torn) (at_ := at_) (start := start) (number := number) (w := w) (items := items) (up := up_1) (down := down_2) h hR hL (fle rfl) (fle rfl) FU _ _ hv ?_
  · clear hv
    refine g_iload_n h 0 dX8_pullsSo_61 rfl rfl ?_
    obtain ⟨gz, hf⟩ := gy hf
    obtain ⟨rfl, rfl, rfl⟩ := sj3 hf
    exact g_zret h hF (nz gz) [0, 1, 2, 3, 4] rfl rfl ⟨rfl, rfl⟩ (fle rfl) (fle rfl) dX8_pullsSo_62
set_option maxHeartbeats 4000000 in
set_option maxRecDepth 100000 in
theorem w_X8_moved_L85 {X : Cx} {a a_comesDown a_comesUp a_down a_fell a_held a_items a_lane a_read a_size a_tape a_up a_w : Nat} {x1 : Int32} {x2 : Int32} {x4 : Int32} {x5 : Int32} {isImage : Int32} {taped : Int32} {above : Int32} {below : Int32} {fallen : Int32} {torn : Int32} {at_ : Int32} {start : Int32} {number : Int32} {lane : Nat → Int32} {size : Nat → Int32} {items : Nat → Int64} {ce sl : Nat} (h : Ok X cX8_moved RX8) (hR : Rm X 4 93 0 0) (hL : ∀ i, i < 12 → i < X.nL) (hce : ce ≤ 0) (hsl : sl ≤ 0) : ∀ (n0 : Nat) (x7 : Int32) (x8 : Int32) (x9 : Int32) (x10 : Int32) (w : Nat → Int32) (up : Nat → Int32) (down : Nat → Int32) {o_x7 : Int32} {o_x8 : Int32} {o_x9 : Int32} {o_w : Nat → Int32} {o_up : Nat → Int32} {o_down : Nat → Int32}, f_X8_moved_L85 x1 x2 x4 items n0 x7 x8 x9 x10 w up down = some (o_x7, o_x8, o_x9, o_w, o_up, o_down) → (G X [(a, .inr (8, [.ref a_w, .int isImage, .ref a_tape, .int taped, .ref a_lane, .ref a_size, .ref a_items, .ref a_up, .ref a_down, .int above, .int below, .ref a_fell, .int fallen, .int torn, .int at_, .int start, .int number, .ref a_read, .ref a_comesUp, .ref a_comesDown, .ref a_held])), (a_w, .inl (X.E 1, 1142, .inl o_w)), (a_lane, .inl (X.E 1, 4, .inl lane)), (a_size, .inl (X.E 1, 4, .inl size)), (a_items, .inl (X.E 2, 96, .inr (.inl items))), (a_up, .inl (X.E 1, 8, .inl o_up)), (a_down, .inl (X.E 1, 8, .inl o_down))] [(5, .int x5), (7, .int o_x7), (8, .int o_x8), (9, .int o_x9)] ce sl 175 []) → G X [(a, .inr (8, [.ref a_w, .int isImage, .ref a_tape, .int taped, .ref a_lane, .ref a_size, .ref a_items, .ref a_up, .ref a_down, .int above, .int below, .ref a_fell, .int fallen, .int torn, .int at_, .int start, .int number, .ref a_read, .ref a_comesUp, .ref a_comesDown, .ref a_held])), (a_w, .inl (X.E 1, 1142, .inl w)), (a_lane, .inl (X.E 1, 4, .inl lane)), (a_size, .inl (X.E 1, 4, .inl size)), (a_items, .inl (X.E 2, 96, .inr (.inl items))), (a_up, .inl (X.E 1, 8, .inl up)), (a_down, .inl (X.E 1, 8, .inl down))] [(0, .ref a), (1, .int x1), (2, .int x2), (4, .int x4), (5, .int x5), (7, .int x7), (8, .int x8), (9, .int x9), (10, .int x10)] ce sl 85 [] := by
  intro n0
  induction n0 with
  | zero => intro x7 x8 x9 x10 w up down o_x7 o_x8 o_x9 o_w o_up o_down hf; exact nomatch (show (none : Option _) = some _ from hf)
  | succ n0 ih =>
    intro x7 x8 x9 x10 w up down o_x7 o_x8 o_x9 o_w o_up o_down hf k0
    replace hf : t_X8_moved_L85 x1 x2 x4 items (f_X8_moved_L85 x1 x2 x4 items n0) x7 x8 x9 x10 w up down = some (o_x7, o_x8, o_x9, o_w, o_up, o_down) := hf
    unfold t_X8_moved_L85 at hf
    refine g_iload h 8 dX8_moved_85 rfl ?_
    refine g_bipush (v := 99) h dX8_moved_87 kbipush_99 ?_
    refine g_icmp_gt (tgt := 175) h dX8_moved_89 rfl hf (fun c14 hf => ?_) (fun c14 hf => ?_)
    · obtain ⟨rfl, rfl, rfl, rfl, rfl, rfl⟩ := sj6 hf
      exact G.lsub [4, 5, 6, 7] rfl k0
    · refine g_aload_n h 0 dX8_moved_92 rfl rfl ?_
      obtain ⟨w_15, hv, hf⟩ := ob1 hf
      refine g_callV (ci := 8) (q0 := 0) (n := 0) (As := []) (st := []) (wr := [(a_lane, .inl (X.E 1, 4, .inl lane)), (a_size, .inl (X.E 1, 4, .inl size)), (a_items, .inl (X.E 2, 96, .inr (.inl items))), (a_up, .inl (X.E 1, 8, .inl up)), (a_down, .inl (X.E 1, 8, .inl down))]) (isC := [0, 1]) (isR := [2, 3, 4, 5, 6]) h hR (ct_X8_tries (a := a) (a_w := a_w) (a_tape := a_tape) (a_lane := a_lane) (a_size := a_size) (a_items := a_items) (a_up := a_up) (a_down := a_down) (a_fell := a_fell) (a_read := a_read) (a_comesUp := a_comesUp) (a_comesDown := a_comesDown) (a_held := a_held) (isImage := isImage) (taped := taped) (above := above) (below := below) (fallen := fallen) (torn := torn) (at_ := at_) (start := start) (number := number) (w := w) hv) rfl rfl (lw_V q1477 q1479 qs60 q80 q1480) (by decide +kernel) rfl ⟨rfl, rfl, rfl, rfl, by decide⟩ ⟨hce, hsl, fle rfl, fle rfl, fle rfl⟩ rfl dX8_moved_93 (pin (perm := [5, 6, 0, 1, 2, 3, 4]) (ws' := [(a, .inr (8, [.ref a_w, .int isImage, .ref a_tape, .int taped, .ref a_lane, .ref a_size, .ref a_items, .ref a_up, .ref a_down, .int above, .int below, .ref a_fell, .int fallen, .int torn, .int at_, .int start, .int number, .ref a_read, .ref a_comesUp, .ref a_comesDown, .ref a_held])), (a_w, .inl (X.E 1, 1142, .inl w_15)), (a_lane, .inl (X.E 1, 4, .inl lane)), (a_size, .inl (X.E 1, 4, .inl size)), (a_items, .inl (X.E 2, 96, .inr (.inl items))), (a_up, .inl (X.E 1, 8, .inl up)), (a_down, .inl (X.E 1, 8, .inl down))]) (stk := []) rfl rfl rfl ?_)
      clear hv
      refine g_aload_n h 0 dX8_moved_96 rfl rfl ?_
      refine g_get (ci := 8) (v := .ref a_w) h in_X8 0 0 rfl rfl (fle rfl) rfl q1166 rfl dX8_moved_97 ?_
      refine g_sipush (v := 1110) h dX8_moved_100 ksipush_1110 ?_
      refine g_iload_n h 1 dX8_moved_103 rfl rfl ?_
      refine g_iadd h dX8_moved_104 ?_
      refine g_iload h 8 dX8_moved_105 rfl ?_
      obtain ⟨g16, hf⟩ := gn hf
      refine g_iastore (ws' := [(a, .inr (8, [.ref a_w, .int isImage, .ref a_tape, .int taped, .ref a_lane, .ref a_size, .ref a_items, .ref a_up, .ref a_down, .int above, .int below, .ref a_fell, .int fallen, .int torn, .int at_, .int start, .int number, .ref a_read, .ref a_comesUp, .ref a_comesDown, .ref a_held])), (a_w, .inl (X.E 1, 1142, .inl (upd w_15 (1110 + x1).toNatClampNeg x10))), (a_lane, .inl (X.E 1, 4, .inl lane)), (a_size, .inl (X.E 1, 4, .inl size)), (a_items, .inl (X.E 2, 96, .inr (.inl items))), (a_up, .inl (X.E 1, 8, .inl up)), (a_down, .inl (X.E 1, 8, .inl down))]) h 1 rfl g16 rfl dX8_moved_107 ?_
      refine g_aload_n h 0 dX8_moved_108 rfl rfl ?_
      refine g_bipush (v := 24) h dX8_moved_109 kbipush_24 ?_
      refine g_iload_n h 2 dX8_moved_111 rfl rfl ?_
      refine g_imul h dX8_moved_112 ?_
      refine g_iload h 3 dX8_moved_113 rfl ?_
      refine g_iadd h dX8_moved_115 ?_
      obtain ⟨r_17, up_18, down_19, hv, hf⟩ := ob3 hf
      refine g_callV (ci := 8) (q0 := 0) (n := 1) (As := [.int ((24 * x2) + x4)]) (st := []) (wr := [(a_lane, .inl (X.E 1, 4, .inl lane)), (a_size, .inl (X.E 1, 4, .inl size))]) (isC := [0, 1, 4, 5, 6]) (isR := [2, 3]) h hR (ct_X8_pullsSo (a := a) (a_w := a_w) (a_tape := a_tape) (a_lane := a_lane) (a_size := a_size) (a_items := a_items) (a_up := a_up) (a_down := a_down) (a_fell := a_fell) (a_read := a_read) (a_comesUp := a_comesUp) (a_comesDown := a_comesDown) (a_held := a_held) (x1 := ((24 * x2) + x4)) (isImage := isImage) (taped := taped) (above := above) (below := below) (fallen := fallen) (torn := torn) (at_ := at_) (start := start) (number := number) (w := upd w_15 (1110 + x1).toNatClampNeg x10) (items := items) (up := up) (down := down) hv) rfl rfl (lw_V q1549 q1551 qs67 q80 q1552) (by decide +kernel) rfl ⟨rfl, rfl, rfl, rfl, by decide⟩ ⟨hce, hsl, fle rfl, fle rfl, fle rfl⟩ rfl dX8_moved_116 (pin (perm := [2, 3, 0, 1, 4, 5, 6]) (ws' := [(a, .inr (8, [.ref a_w, .int isImage, .ref a_tape, .int taped, .ref a_lane, .ref a_size, .ref a_items, .ref a_up, .ref a_down, .int above, .int below, .ref a_fell, .int fallen, .int torn, .int at_, .int start, .int number, .ref a_read, .ref a_comesUp, .ref a_comesDown, .ref a_held])), (a_w, .inl (X.E 1, 1142, .inl (upd w_15 (1110 + x1).toNatClampNeg x10))), (a_lane, .inl (X.E 1, 4, .inl lane)), (a_size, .inl (X.E 1, 4, .inl size)), (a_items, .inl (X.E 2, 96, .inr (.inl items))), (a_up, .inl (X.E 1, 8, .inl up_18)), (a_down, .inl (X.E 1, 8, .inl down_19))]) (stk := [.int r_17]) rfl rfl rfl ?_)
      clear hv
      refine g_istore (lv' := [(11, .int r_17), (0, .ref a), (1, .int x1), (2, .int x2), (4, .int x4), (5, .int x5), (7, .int x7), (8, .int x8), (9, .int x9), (10, .int x10)]) h dX8_moved_119 (hL 11 (fle rfl)) rfl ?_
      refine g_iload h 0 dX8_moved_121 rfl ?_
      obtain ⟨z_22, hw, hf⟩ := ob1 hf
      have K123 : G X [(a, .inr (8, [.ref a_w, .int isImage, .ref a_tape, .int taped, .ref a_lane, .ref a_size, .ref a_items, .ref a_up, .ref a_down, .int above, .int below, .ref a_fell, .int fallen, .int torn, .int at_, .int start, .int number, .ref a_read, .ref a_comesUp, .ref a_comesDown, .ref a_held])), (a_w, .inl (X.E 1, 1142, .inl (upd w_15 (1110 + x1).toNatClampNeg x10))), (a_lane, .inl (X.E 1, 4, .inl lane)), (a_size, .inl (X.E 1, 4, .inl size)), (a_items, .inl (X.E 2, 96, .inr (.inl items))), (a_up, .inl (X.E 1, 8, .inl up_18)), (a_down, .inl (X.E 1, 8, .inl down_19))] [(0, .ref a), (1, .int x1), (2, .int x2), (4, .int x4), (5, .int x5), (7, .int x7), (9, .int x9), (10, .int x10), (11, .int r_17)] ce sl 138 [.int z_22] := by
        clear hw
        refine g_istore (lv' := [(8, .int z_22), (0, .ref a), (1, .int x1), (2, .int x2), (4, .int x4), (5, .int x5), (7, .int x7), (9, .int x9), (10, .int x10), (11, .int r_17)]) h dX8_moved_138 (hL 8 (fle rfl)) rfl ?_
        refine g_iload h 9 dX8_moved_140 rfl ?_
        obtain ⟨z_25, hw, hf⟩ := ob1 hf
        have K142 : G X [(a, .inr (8, [.ref a_w, .int isImage, .ref a_tape, .int taped, .ref a_lane, .ref a_size, .ref a_items, .ref a_up, .ref a_down, .int above, .int below, .ref a_fell, .int fallen, .int torn, .int at_, .int start, .int number, .ref a_read, .ref a_comesUp, .ref a_comesDown, .ref a_held])), (a_w, .inl (X.E 1, 1142, .inl (upd w_15 (1110 + x1).toNatClampNeg x10))), (a_lane, .inl (X.E 1, 4, .inl lane)), (a_size, .inl (X.E 1, 4, .inl size)), (a_items, .inl (X.E 2, 96, .inr (.inl items))), (a_up, .inl (X.E 1, 8, .inl up_18)), (a_down, .inl (X.E 1, 8, .inl down_19))] [(0, .ref a), (1, .int x1), (2, .int x2), (4, .int x4), (5, .int x5), (7, .int x7), (8, .int z_22), (10, .int x10), (11, .int r_17)] ce sl 152 [.int z_25] := by
          clear hw
          refine g_istore (lv' := [(9, .int z_25), (0, .ref a), (1, .int x1), (2, .int x2), (4, .int x4), (5, .int x5), (7, .int x7), (8, .int z_22), (10, .int x10), (11, .int r_17)]) h dX8_moved_152 (hL 9 (fle rfl)) rfl ?_
          refine g_iload h 6 dX8_moved_154 rfl ?_
          refine g_iload h 9 dX8_moved_156 rfl ?_
          refine g_if_eq (tgt := 165) h dX8_moved_158 rfl hf (fun c26 hf => ?_) (fun c26 hf => ?_)
          · refine g_iconst (v := 0) h dX8_moved_165 kiconst_0 ?_
            refine g_iadd h dX8_moved_166 ?_
            refine g_istore (lv' := [(7, .int (x7 + 0)), (9, .int z_25), (0, .ref a), (1, .int x1), (2, .int x2), (4, .int x4), (5, .int x5), (8, .int z_22), (10, .int x10), (11, .int r_17)]) h dX8_moved_167 (hL 7 (fle rfl)) rfl ?_
            refine g_iinc (j := 8) (v := (x10 + 1)) (lv' := [(10, .int (x10 + 1)), (7, .int (x7 + 0)), (9, .int z_25), (0, .ref a), (1, .int x1), (2, .int x2), (4, .int x4), (5, .int x5), (8, .int z_22), (11, .int r_17)]) h dX8_moved_169 rfl (kinc_1 _) (hL 10 (fle rfl)) rfl ?_
            refine g_goto (tgt := 85) h dX8_moved_172 rfl ?_
            exact G.lsub [3, 4, 5, 6, 7, 1, 8, 2, 0] rfl (ih _ _ _ _ _ _ _ hf k0)
          · refine g_iconst (v := 1) h dX8_moved_161 kiconst_1 ?_
            refine g_goto (tgt := 166) h dX8_moved_162 rfl ?_
            refine g_iadd h dX8_moved_166 ?_
            refine g_istore (lv' := [(7, .int (x7 + 1)), (9, .int z_25), (0, .ref a), (1, .int x1), (2, .int x2), (4, .int x4), (5, .int x5), (8, .int z_22), (10, .int x10), (11, .int r_17)]) h dX8_moved_167 (hL 7 (fle rfl)) rfl ?_
            refine g_iinc (j := 8) (v := (x10 + 1)) (lv' := [(10, .int (x10 + 1)), (7, .int (x7 + 1)), (9, .int z_25), (0, .ref a), (1, .int x1), (2, .int x2), (4, .int x4), (5, .int x5), (8, .int z_22), (11, .int r_17)]) h dX8_moved_169 rfl (kinc_1 _) (hL 10 (fle rfl)) rfl ?_
            refine g_goto (tgt := 85) h dX8_moved_172 rfl ?_
            exact G.lsub [3, 4, 5, 6, 7, 1, 8, 2, 0] rfl (ih _ _ _ _ _ _ _ hf k0)
        clear hf
        have hf := hw
        clear hw
        refine g_if_eq (tgt := 150) h dX8_moved_142 rfl hf (fun c24 hf => ?_) (fun c24 hf => ?_)
        · refine g_iload h 7 dX8_moved_150 rfl ?_
          obtain rfl := sj1 hf
          exact G.lsub [1, 2, 3, 4, 5, 6, 0, 8, 9] rfl K142
        · refine g_iload h 8 dX8_moved_145 rfl ?_
          refine g_goto (tgt := 152) h dX8_moved_147 rfl ?_
          obtain rfl := sj1 hf
          exact G.lsub [1, 2, 3, 4, 5, 6, 0, 8, 9] rfl K142
      clear hf
      have hf := hw
      clear hw
      refine g_if_eq (tgt := 136) h dX8_moved_123 rfl hf (fun c20 hf => ?_) (fun c20 hf => ?_)
      · refine g_iload h 7 dX8_moved_136 rfl ?_
        obtain rfl := sj1 hf
        exact G.lsub [1, 2, 3, 4, 5, 6, 8, 9, 0] rfl K123
      · refine g_iload h 6 dX8_moved_126 rfl ?_
        refine g_if_ne (tgt := 136) h dX8_moved_128 rfl hf (fun c23 hf => ?_) (fun c23 hf => ?_)
        · refine g_iload h 9 dX8_moved_131 rfl ?_
          refine g_goto (tgt := 138) h dX8_moved_133 rfl ?_
          obtain rfl := sj1 hf
          exact G.lsub [1, 2, 3, 4, 5, 6, 8, 9, 0] rfl K123
        · refine g_iload h 7 dX8_moved_136 rfl ?_
          obtain rfl := sj1 hf
          exact G.lsub [1, 2, 3, 4, 5, 6, 8, 9, 0] rfl K123
set_option maxHeartbeats 4000000 in
set_option maxRecDepth 100000 in
theorem ct_X8_moved {l : Launch} {D : va_G} {E : Ety} {a a_w a_tape a_lane a_size a_items a_up a_down a_fell a_read a_comesUp a_comesDown a_held : Nat} {x1 : Int32} {x2 : Int32} {x3 : Int32} {x4 : Int32} {x5 : Int32} {isImage : Int32} {taped : Int32} {above : Int32} {below : Int32} {fallen : Int32} {torn : Int32} {at_ : Int32} {start : Int32} {number : Int32} {w : Nat → Int32} {lane : Nat → Int32} {size : Nat → Int32} {items : Nat → Int64} {up : Nat → Int32} {down : Nat → Int32} {r_ : Int32} {o_w : Nat → Int32} {o_up : Nat → Int32} {o_down : Nat → Int32} (hf : f_X8_moved x1 x2 x3 x4 x5 w lane size items up down = some (r_, o_w, o_up, o_down)) : Ct l yX8_moved cX8_moved 12 (some .int) 4 93 0 0 D E [.ref a, .int x1, .int x2, .int x3, .int x4, .int x5] [(a, .inr (8, [.ref a_w, .int isImage, .ref a_tape, .int taped, .ref a_lane, .ref a_size, .ref a_items, .ref a_up, .ref a_down, .int above, .int below, .ref a_fell, .int fallen, .int torn, .int at_, .int start, .int number, .ref a_read, .ref a_comesUp, .ref a_comesDown, .ref a_held])), (a_w, .inl (E 1, 1142, .inl w)), (a_lane, .inl (E 1, 4, .inl lane)), (a_size, .inl (E 1, 4, .inl size)), (a_items, .inl (E 2, 96, .inr (.inl items))), (a_up, .inl (E 1, 8, .inl up)), (a_down, .inl (E 1, 8, .inl down))] (Pn (some (.int r_)) [(a, .inr (8, [.ref a_w, .int isImage, .ref a_tape, .int taped, .ref a_lane, .ref a_size, .ref a_items, .ref a_up, .ref a_down, .int above, .int below, .ref a_fell, .int fallen, .int torn, .int at_, .int start, .int number, .ref a_read, .ref a_comesUp, .ref a_comesDown, .ref a_held])), (a_w, .inl (E 1, 1142, .inl o_w)), (a_lane, .inl (E 1, 4, .inl lane)), (a_size, .inl (E 1, 4, .inl size)), (a_items, .inl (E 2, 96, .inr (.inl items))), (a_up, .inl (E 1, 8, .inl o_up)), (a_down, .inl (E 1, 8, .inl o_down))]) := by
  refine ct_of (own := RX8) (plainFor_of_name (by decide)) rfl (fle rfl) rfl ?_
  intro X hl hD hE hnL hXF h hR hF hnm
  subst hl; subst hD; subst hE
  have hL : ∀ i, i < 12 → i < X.nL := fun i hi => by rw [hnL]; exact hi
  unfold f_X8_moved at hf
  refine g_aload_n h 0 dX8_moved_0 rfl rfl ?_
  refine g_iload_n h 1 dX8_moved_1 rfl rfl ?_
  obtain ⟨r_1, hv, hf⟩ := ob1 hf
  refine g_callV (ci := 8) (q0 := 0) (n := 1) (As := [.int x1]) (st := []) (wr := [(a_lane, .inl (X.E 1, 4, .inl lane)), (a_size, .inl (X.E 1, 4, .inl size)), (a_items, .inl (X.E 2, 96, .inr (.inl items))), (a_up, .inl (X.E 1, 8, .inl up)), (a_down, .inl (X.E 1, 8, .inl down))]) (isC := [0, 1]) (isR := [2, 3, 4, 5, 6]) h hR (ct_X8_isPerson (a := a) (a_w := a_w) (a_tape := a_tape) (a_lane := a_lane) (a_size := a_size) (a_items := a_items) (a_up := a_up) (a_down := a_down) (a_fell := a_fell) (a_read := a_read) (a_comesUp := a_comesUp) (a_comesDown := a_comesDown) (a_held := a_held) (x1 := x1) (isImage := isImage) (taped := taped) (above := above) (below := below) (fallen := fallen) (torn := torn) (at_ := at_) (start := start) (number := number) (w := w) hv) rfl rfl (lw_V q1340 q1342 qs45 q80 q1343) (by decide +kernel) rfl ⟨rfl, rfl, rfl, rfl, by decide⟩ ⟨fle rfl, fle rfl, fle rfl, fle rfl, fle rfl⟩ rfl dX8_moved_2 (pin (perm := [5, 6, 0, 1, 2, 3, 4]) (ws' := [(a, .inr (8, [.ref a_w, .int isImage, .ref a_tape, .int taped, .ref a_lane, .ref a_size, .ref a_items, .ref a_up, .ref a_down, .int above, .int below, .ref a_fell, .int fallen, .int torn, .int at_, .int start, .int number, .ref a_read, .ref a_comesUp, .ref a_comesDown, .ref a_held])), (a_w, .inl (X.E 1, 1142, .inl w)), (a_lane, .inl (X.E 1, 4, .inl lane)), (a_size, .inl (X.E 1, 4, .inl size)), (a_items, .inl (X.E 2, 96, .inr (.inl items))), (a_up, .inl (X.E 1, 8, .inl up)), (a_down, .inl (X.E 1, 8, .inl down))]) (stk := [.int r_1]) rfl rfl rfl ?_)
  clear hv
  refine g_if_eq (tgt := 35) h dX8_moved_5 rfl hf (fun c2 hf => ?_) (fun c2 hf => ?_)
  · refine g_iconst (v := (-1)) h dX8_moved_35 kiconst_m1 ?_
    obtain ⟨rfl, rfl, rfl, rfl⟩ := sj4 hf
    exact g_iret h hF [0, 1, 2, 3, 4, 5, 6] rfl rfl ⟨rfl, rfl⟩ (fle rfl) (fle rfl) dX8_moved_36
  · refine g_iload_n h 2 dX8_moved_8 rfl rfl ?_
    obtain ⟨r_3, hv, hf⟩ := ob1 hf
    refine g_callS (n := 1) (As := [.int x2]) (st := []) (wr := [(a, .inr (8, [.ref a_w, .int isImage, .ref a_tape, .int taped, .ref a_lane, .ref a_size, .ref a_items, .ref a_up, .ref a_down, .int above, .int below, .ref a_fell, .int fallen, .int torn, .int at_, .int start, .int number, .ref a_read, .ref a_comesUp, .ref a_comesDown, .ref a_held])), (a_w, .inl (X.E 1, 1142, .inl w)), (a_lane, .inl (X.E 1, 4, .inl lane)), (a_size, .inl (X.E 1, 4, .inl size)), (a_items, .inl (X.E 2, 96, .inr (.inl items))), (a_up, .inl (X.E 1, 8, .inl up)), (a_down, .inl (X.E 1, 8, .inl down))]) (isC := []) (isR := [0, 1, 2, 3, 4, 5, 6]) h hR (ct_X8_isRegister (x0 := x2) hv) (lw_S q1534 q1535 q80 q1536) (by decide +kernel) rfl ⟨rfl, rfl, rfl, rfl, by decide⟩ ⟨fle rfl, fle rfl, fle rfl, fle rfl, fle rfl⟩ rfl dX8_moved_9 (pin (perm := [0, 1, 2, 3, 4, 5, 6]) (ws' := [(a, .inr (8, [.ref a_w, .int isImage, .ref a_tape, .int taped, .ref a_lane, .ref a_size, .ref a_items, .ref a_up, .ref a_down, .int above, .int below, .ref a_fell, .int fallen, .int torn, .int at_, .int start, .int number, .ref a_read, .ref a_comesUp, .ref a_comesDown, .ref a_held])), (a_w, .inl (X.E 1, 1142, .inl w)), (a_lane, .inl (X.E 1, 4, .inl lane)), (a_size, .inl (X.E 1, 4, .inl size)), (a_items, .inl (X.E 2, 96, .inr (.inl items))), (a_up, .inl (X.E 1, 8, .inl up)), (a_down, .inl (X.E 1, 8, .inl down))]) (stk := [.int r_3]) rfl rfl rfl ?_)
    clear hv
    refine g_if_eq (tgt := 35) h dX8_moved_12 rfl hf (fun c4 hf => ?_) (fun c4 hf => ?_)
    · refine g_iconst (v := (-1)) h dX8_moved_35 kiconst_m1 ?_
      obtain ⟨rfl, rfl, rfl, rfl⟩ := sj4 hf
      exact g_iret h hF [0, 1, 2, 3, 4, 5, 6] rfl rfl ⟨rfl, rfl⟩ (fle rfl) (fle rfl) dX8_moved_36
    · refine g_iload_n h 3 dX8_moved_15 rfl rfl ?_
      obtain ⟨r_5, hv, hf⟩ := ob1 hf
      refine g_callS (n := 1) (As := [.int x3]) (st := []) (wr := [(a, .inr (8, [.ref a_w, .int isImage, .ref a_tape, .int taped, .ref a_lane, .ref a_size, .ref a_items, .ref a_up, .ref a_down, .int above, .int below, .ref a_fell, .int fallen, .int torn, .int at_, .int start, .int number, .ref a_read, .ref a_comesUp, .ref a_comesDown, .ref a_held])), (a_w, .inl (X.E 1, 1142, .inl w)), (a_lane, .inl (X.E 1, 4, .inl lane)), (a_size, .inl (X.E 1, 4, .inl size)), (a_items, .inl (X.E 2, 96, .inr (.inl items))), (a_up, .inl (X.E 1, 8, .inl up)), (a_down, .inl (X.E 1, 8, .inl down))]) (isC := []) (isR := [0, 1, 2, 3, 4, 5, 6]) h hR (ct_X8_isLane (x0 := x3) hv) (lw_S q1538 q1539 q80 q1540) (by decide +kernel) rfl ⟨rfl, rfl, rfl, rfl, by decide⟩ ⟨fle rfl, fle rfl, fle rfl, fle rfl, fle rfl⟩ rfl dX8_moved_16 (pin (perm := [0, 1, 2, 3, 4, 5, 6]) (ws' := [(a, .inr (8, [.ref a_w, .int isImage, .ref a_tape, .int taped, .ref a_lane, .ref a_size, .ref a_items, .ref a_up, .ref a_down, .int above, .int below, .ref a_fell, .int fallen, .int torn, .int at_, .int start, .int number, .ref a_read, .ref a_comesUp, .ref a_comesDown, .ref a_held])), (a_w, .inl (X.E 1, 1142, .inl w)), (a_lane, .inl (X.E 1, 4, .inl lane)), (a_size, .inl (X.E 1, 4, .inl size)), (a_items, .inl (X.E 2, 96, .inr (.inl items))), (a_up, .inl (X.E 1, 8, .inl up)), (a_down, .inl (X.E 1, 8, .inl down))]) (stk := [.int r_5]) rfl rfl rfl ?_)
      clear hv
      refine g_if_eq (tgt := 35) h dX8_moved_19 rfl hf (fun c6 hf => ?_) (fun c6 hf => ?_)
      · refine g_iconst (v := (-1)) h dX8_moved_35 kiconst_m1 ?_
        obtain ⟨rfl, rfl, rfl, rfl⟩ := sj4 hf
        exact g_iret h hF [0, 1, 2, 3, 4, 5, 6] rfl rfl ⟨rfl, rfl⟩ (fle rfl) (fle rfl) dX8_moved_36
      · refine g_iload h 5 dX8_moved_22 rfl ?_
        refine g_i2l h dX8_moved_24 ?_
        refine g_lconst (v := 0) h dX8_moved_25 rfl ?_
        refine g_ldc2 h q1382 dX8_moved_26 ?_
        obtain ⟨r_7, hv, hf⟩ := ob1 hf
        refine g_callS (n := 3) (As := [.long x5.toInt64, .long 0, .long 2]) (st := []) (wr := [(a, .inr (8, [.ref a_w, .int isImage, .ref a_tape, .int taped, .ref a_lane, .ref a_size, .ref a_items, .ref a_up, .ref a_down, .int above, .int below, .ref a_fell, .int fallen, .int torn, .int at_, .int start, .int number, .ref a_read, .ref a_comesUp, .ref a_comesDown, .ref a_held])), (a_w, .inl (X.E 1, 1142, .inl w)), (a_lane, .inl (X.E 1, 4, .inl lane)), (a_size, .inl (X.E 1, 4, .inl size)), (a_items, .inl (X.E 2, 96, .inr (.inl items))), (a_up, .inl (X.E 1, 8, .inl up)), (a_down, .inl (X.E 1, 8, .inl down))]) (isC := []) (isR := [0, 1, 2, 3, 4, 5, 6]) h hR (ct_X8_in (x0 := x5.toInt64) (x2 := 0) (x4 := 2) hv) (lw_S q1236 q1237 q80 q1238) (by decide +kernel) rfl ⟨rfl, rfl, rfl, rfl, by decide⟩ ⟨fle rfl, fle rfl, fle rfl, fle rfl, fle rfl⟩ rfl dX8_moved_29 (pin (perm := [0, 1, 2, 3, 4, 5, 6]) (ws' := [(a, .inr (8, [.ref a_w, .int isImage, .ref a_tape, .int taped, .ref a_lane, .ref a_size, .ref a_items, .ref a_up, .ref a_down, .int above, .int below, .ref a_fell, .int fallen, .int torn, .int at_, .int start, .int number, .ref a_read, .ref a_comesUp, .ref a_comesDown, .ref a_held])), (a_w, .inl (X.E 1, 1142, .inl w)), (a_lane, .inl (X.E 1, 4, .inl lane)), (a_size, .inl (X.E 1, 4, .inl size)), (a_items, .inl (X.E 2, 96, .inr (.inl items))), (a_up, .inl (X.E 1, 8, .inl up)), (a_down, .inl (X.E 1, 8, .inl down))]) (stk := [.int r_7]) rfl rfl rfl ?_)
        clear hv
        refine g_if_ne (tgt := 37) h dX8_moved_32 rfl hf (fun c8 hf => ?_) (fun c8 hf => ?_)
        · refine g_iconst (v := (-1)) h dX8_moved_35 kiconst_m1 ?_
          obtain ⟨rfl, rfl, rfl, rfl⟩ := sj4 hf
          exact g_iret h hF [0, 1, 2, 3, 4, 5, 6] rfl rfl ⟨rfl, rfl⟩ (fle rfl) (fle rfl) dX8_moved_36
        · refine g_aload_n h 0 dX8_moved_37 rfl rfl ?_
          refine g_iconst (v := 0) h dX8_moved_38 kiconst_0 ?_
          refine g_iload_n h 1 dX8_moved_39 rfl rfl ?_
          obtain ⟨r_9, hv, hf⟩ := ob1 hf
          refine g_callV (ci := 8) (q0 := 0) (n := 2) (As := [.int 0, .int x1]) (st := []) (wr := [(a_lane, .inl (X.E 1, 4, .inl lane)), (a_size, .inl (X.E 1, 4, .inl size)), (a_items, .inl (X.E 2, 96, .inr (.inl items))), (a_up, .inl (X.E 1, 8, .inl up)), (a_down, .inl (X.E 1, 8, .inl down))]) (isC := [0, 1]) (isR := [2, 3, 4, 5, 6]) h hR (ct_X8_holds (a := a) (a_w := a_w) (a_tape := a_tape) (a_lane := a_lane) (a_size := a_size) (a_items := a_items) (a_up := a_up) (a_down := a_down) (a_fell := a_fell) (a_read := a_read) (a_comesUp := a_comesUp) (a_comesDown := a_comesDown) (a_held := a_held) (x1 := 0) (x2 := x1) (isImage := isImage) (taped := taped) (above := above) (below := below) (fallen := fallen) (torn := torn) (at_ := at_) (start := start) (number := number) (w := w) hv) rfl rfl (lw_V q1284 q1286 qs37 q80 q1287) (by decide +kernel) rfl ⟨rfl, rfl, rfl, rfl, by decide⟩ ⟨fle rfl, fle rfl, fle rfl, fle rfl, fle rfl⟩ rfl dX8_moved_40 (pin (perm := [5, 6, 0, 1, 2, 3, 4]) (ws' := [(a, .inr (8, [.ref a_w, .int isImage, .ref a_tape, .int taped, .ref a_lane, .ref a_size, .ref a_items, .ref a_up, .ref a_down, .int above, .int below, .ref a_fell, .int fallen, .int torn, .int at_, .int start, .int number, .ref a_read, .ref a_comesUp, .ref a_comesDown, .ref a_held])), (a_w, .inl (X.E 1, 1142, .inl w)), (a_lane, .inl (X.E 1, 4, .inl lane)), (a_size, .inl (X.E 1, 4, .inl size)), (a_items, .inl (X.E 2, 96, .inr (.inl items))), (a_up, .inl (X.E 1, 8, .inl up)), (a_down, .inl (X.E 1, 8, .inl down))]) (stk := [.int r_9]) rfl rfl rfl ?_)
          clear hv
          refine g_if_ne (tgt := 49) h dX8_moved_43 rfl hf (fun c10 hf => ?_) (fun c10 hf => ?_)
          · refine g_bipush (v := (-2)) h dX8_moved_46 kbipush_m2 ?_
            obtain ⟨rfl, rfl, rfl, rfl⟩ := sj4 hf
            exact g_iret h hF [0, 1, 2, 3, 4, 5, 6] rfl rfl ⟨rfl, rfl⟩ (fle rfl) (fle rfl) dX8_moved_48
          · refine g_aload_n h 0 dX8_moved_49 rfl rfl ?_
            refine g_iload_n h 2 dX8_moved_50 rfl rfl ?_
            refine g_iload_n h 3 dX8_moved_51 rfl rfl ?_
            refine g_iload h 4 dX8_moved_52 rfl ?_
            refine g_aload_n h 0 dX8_moved_54 rfl rfl ?_
            obtain ⟨r_11, hv, hf⟩ := ob1 hf
            refine g_callV (ci := 8) (q0 := 0) (n := 0) (As := []) (st := [.int x4, .int x3, .int x2, .ref a]) (wr := [(a_lane, .inl (X.E 1, 4, .inl lane)), (a_size, .inl (X.E 1, 4, .inl size)), (a_items, .inl (X.E 2, 96, .inr (.inl items))), (a_up, .inl (X.E 1, 8, .inl up)), (a_down, .inl (X.E 1, 8, .inl down))]) (isC := [0, 1]) (isR := [2, 3, 4, 5, 6]) h hR (ct_X8_seams (a := a) (a_w := a_w) (a_tape := a_tape) (a_lane := a_lane) (a_size := a_size) (a_items := a_items) (a_up := a_up) (a_down := a_down) (a_fell := a_fell) (a_read := a_read) (a_comesUp := a_comesUp) (a_comesDown := a_comesDown) (a_held := a_held) (isImage := isImage) (taped := taped) (above := above) (below := below) (fallen := fallen) (torn := torn) (at_ := at_) (start := start) (number := number) (w := w) hv) rfl rfl (lw_V q1541 q1543 qs65 q80 q1544) (by decide +kernel) rfl ⟨rfl, rfl, rfl, rfl, by decide⟩ ⟨fle rfl, fle rfl, fle rfl, fle rfl, fle rfl⟩ rfl dX8_moved_55 (pin (perm := [5, 6, 0, 1, 2, 3, 4]) (ws' := [(a, .inr (8, [.ref a_w, .int isImage, .ref a_tape, .int taped, .ref a_lane, .ref a_size, .ref a_items, .ref a_up, .ref a_down, .int above, .int below, .ref a_fell, .int fallen, .int torn, .int at_, .int start, .int number, .ref a_read, .ref a_comesUp, .ref a_comesDown, .ref a_held])), (a_w, .inl (X.E 1, 1142, .inl w)), (a_lane, .inl (X.E 1, 4, .inl lane)), (a_size, .inl (X.E 1, 4, .inl size)), (a_items, .inl (X.E 2, 96, .inr (.inl items))), (a_up, .inl (X.E 1, 8, .inl up)), (a_down, .inl (X.E 1, 8, .inl down))]) (stk := [.int r_11, .int x4, .int x3, .int x2, .ref a]) rfl rfl rfl ?_)
            clear hv
            obtain ⟨r_12, hv, hf⟩ := ob1 hf
            refine g_callV (ci := 8) (q0 := 0) (n := 4) (As := [.int x2, .int x3, .int x4, .int r_11]) (st := []) (wr := [(a_w, .inl (X.E 1, 1142, .inl w)), (a_items, .inl (X.E 2, 96, .inr (.inl items))), (a_up, .inl (X.E 1, 8, .inl up)), (a_down, .inl (X.E 1, 8, .inl down))]) (isC := [0, 2, 3]) (isR := [1, 4, 5, 6]) h hR (ct_X8_against (a := a) (a_w := a_w) (a_tape := a_tape) (a_lane := a_lane) (a_size := a_size) (a_items := a_items) (a_up := a_up) (a_down := a_down) (a_fell := a_fell) (a_read := a_read) (a_comesUp := a_comesUp) (a_comesDown := a_comesDown) (a_held := a_held) (x1 := x2) (x2 := x3) (x3 := x4) (x4 := r_11) (isImage := isImage) (taped := taped) (above := above) (below := below) (fallen := fallen) (torn := torn) (at_ := at_) (start := start) (number := number) (lane := lane) (size := size) hv) rfl rfl (lw_V q1545 q1547 qs66 q80 q1548) (by decide +kernel) rfl ⟨rfl, rfl, rfl, rfl, by decide⟩ ⟨fle rfl, fle rfl, fle rfl, fle rfl, fle rfl⟩ rfl dX8_moved_58 (pin (perm := [4, 0, 5, 6, 1, 2, 3]) (ws' := [(a, .inr (8, [.ref a_w, .int isImage, .ref a_tape, .int taped, .ref a_lane, .ref a_size, .ref a_items, .ref a_up, .ref a_down, .int above, .int below, .ref a_fell, .int fallen, .int torn, .int at_, .int start, .int number, .ref a_read, .ref a_comesUp, .ref a_comesDown, .ref a_held])), (a_w, .inl (X.E 1, 1142, .inl w)), (a_lane, .inl (X.E 1, 4, .inl lane)), (a_size, .inl (X.E 1, 4, .inl size)), (a_items, .inl (X.E 2, 96, .inr (.inl items))), (a_up, .inl (X.E 1, 8, .inl up)), (a_down, .inl (X.E 1, 8, .inl down))]) (stk := [.int r_12]) rfl rfl rfl ?_)
            clear hv
            refine g_istore (lv' := [(6, .int r_12), (0, .ref a), (1, .int x1), (2, .int x2), (3, .int x3), (4, .int x4), (5, .int x5)]) h dX8_moved_61 (hL 6 (fle rfl)) rfl ?_
            refine g_iload h 0 dX8_moved_63 rfl ?_
            refine g_if_ge (tgt := 71) h dX8_moved_65 rfl hf (fun c13 hf => ?_) (fun c13 hf => ?_)
            · refine g_iconst (v := 0) h dX8_moved_71 kiconst_0 ?_
              refine g_istore (lv' := [(7, .int 0), (6, .int r_12), (0, .ref a), (1, .int x1), (2, .int x2), (3, .int x3), (4, .int x4), (5, .int x5)]) h dX8_moved_72 (hL 7 (fle rfl)) rfl ?_
              refine g_bipush (v := (-4)) h dX8_moved_74 kbipush_m4 ?_
              refine g_istore (lv' := [(8, .int (-4)), (7, .int 0), (6, .int r_12), (0, .ref a), (1, .int x1), (2, .int x2), (3, .int x3), (4, .int x4), (5, .int x5)]) h dX8_moved_76 (hL 8 (fle rfl)) rfl ?_
              refine g_bipush (v := (-4)) h dX8_moved_78 kbipush_m4 ?_
              refine g_istore (lv' := [(9, .int (-4)), (8, .int (-4)), (7, .int 0), (6, .int r_12), (0, .ref a), (1, .int x1), (2, .int x2), (3, .int x3), (4, .int x4), (5, .int x5)]) h dX8_moved_80 (hL 9 (fle rfl)) rfl ?_
              refine g_iconst (v := 0) h dX8_moved_82 kiconst_0 ?_
              refine g_istore (lv' := [(10, .int 0), (9, .int (-4)), (8, .int (-4)), (7, .int 0), (6, .int r_12), (0, .ref a), (1, .int x1), (2, .int x2), (3, .int x3), (4, .int x4), (5, .int x5)]) h dX8_moved_83 (hL 10 (fle rfl)) rfl ?_
              refine G.lsub (lv' := [(0, .ref a), (1, .int x1), (2, .int x2), (4, .int x4), (5, .int x5), (7, .int 0), (8, .int (-4)), (9, .int (-4)), (10, .int 0)]) [5, 6, 7, 9, 10, 3, 2, 1, 0] rfl ?_
              obtain ⟨x7_27, x8_28, x9_29, w_30, up_31, down_32, hv, hf⟩ := ob6 hf
              refine w_X8_moved_L85 (x1 := x1) (x2 := x2) (x4 := x4) (x5 := x5) (isImage := isImage) (taped := taped) (above := above) (below := below) (fallen := fallen) (torn := torn) (at_ := at_) (start := start) (number := number) (lane := lane) (size := size) (items := items) h hR hL (fle rfl) (fle rfl) FU _ _ _ _ _ _ _ hv ?_
              · clear hv
                refine g_iload h 0 dX8_moved_175 rfl ?_
                refine g_if_ne (tgt := 185) h dX8_moved_177 rfl hf (fun c33 hf => ?_) (fun c33 hf => ?_)
                · refine g_iload h 1 dX8_moved_180 rfl ?_
                  refine g_goto (tgt := 198) h dX8_moved_182 rfl ?_
                  obtain ⟨rfl, rfl, rfl, rfl⟩ := sj4 hf
                  exact g_iret h hF [0, 1, 2, 3, 4, 5, 6] rfl rfl ⟨rfl, rfl⟩ (fle rfl) (fle rfl) dX8_moved_198
                · refine g_iload h 0 dX8_moved_185 rfl ?_
                  refine g_iconst (v := 1) h dX8_moved_187 kiconst_1 ?_
                  refine g_icmp_ne (tgt := 196) h dX8_moved_188 rfl hf (fun c34 hf => ?_) (fun c34 hf => ?_)
                  · refine g_iload h 2 dX8_moved_191 rfl ?_
                    refine g_goto (tgt := 198) h dX8_moved_193 rfl ?_
                    obtain ⟨rfl, rfl, rfl, rfl⟩ := sj4 hf
                    exact g_iret h hF [0, 1, 2, 3, 4, 5, 6] rfl rfl ⟨rfl, rfl⟩ (fle rfl) (fle rfl) dX8_moved_198
                  · refine g_iload h 3 dX8_moved_196 rfl ?_
                    obtain ⟨rfl, rfl, rfl, rfl⟩ := sj4 hf
                    exact g_iret h hF [0, 1, 2, 3, 4, 5, 6] rfl rfl ⟨rfl, rfl⟩ (fle rfl) (fle rfl) dX8_moved_198
            · refine g_iload h 0 dX8_moved_68 rfl ?_
              obtain ⟨rfl, rfl, rfl, rfl⟩ := sj4 hf
              exact g_iret h hF [0, 1, 2, 3, 4, 5, 6] rfl rfl ⟨rfl, rfl⟩ (fle rfl) (fle rfl) dX8_moved_70
set_option maxHeartbeats 4000000 in
set_option maxRecDepth 100000 in
theorem w_X8_givesSo_L6 {X : Cx} {a a_comesDown a_comesUp a_down a_fell a_held a_items a_lane a_read a_size a_tape a_up a_w : Nat} {x1 : Int32} {x2 : Int32} {x3 : Int32} {x4 : Int32} {isImage : Int32} {taped : Int32} {above : Int32} {below : Int32} {fallen : Int32} {torn : Int32} {at_ : Int32} {start : Int32} {number : Int32} {items : Nat → Int64} {ce sl : Nat} (h : Ok X cX8_givesSo RX8) (hR : Rm X 0 0 0 0) (hL : ∀ i, i < 9 → i < X.nL) (hce : ce ≤ 0) (hsl : sl ≤ 0) : ∀ (n0 : Nat) (x5 : Int32) (x6 : Int32) {o_x5 : Int32}, f_X8_givesSo_L6 x1 x2 x3 x4 items n0 x5 x6 = some o_x5 → (G X [(a, .inr (8, [.ref a_w, .int isImage, .ref a_tape, .int taped, .ref a_lane, .ref a_size, .ref a_items, .ref a_up, .ref a_down, .int above, .int below, .ref a_fell, .int fallen, .int torn, .int at_, .int start, .int number, .ref a_read, .ref a_comesUp, .ref a_comesDown, .ref a_held])), (a_items, .inl (X.E 2, 96, .inr (.inl items)))] [(5, .int o_x5)] ce sl 90 []) → G X [(a, .inr (8, [.ref a_w, .int isImage, .ref a_tape, .int taped, .ref a_lane, .ref a_size, .ref a_items, .ref a_up, .ref a_down, .int above, .int below, .ref a_fell, .int fallen, .int torn, .int at_, .int start, .int number, .ref a_read, .ref a_comesUp, .ref a_comesDown, .ref a_held])), (a_items, .inl (X.E 2, 96, .inr (.inl items)))] [(0, .ref a), (1, .int x1), (2, .int x2), (3, .int x3), (4, .int x4), (5, .int x5), (6, .int x6)] ce sl 6 [] := by
  intro n0
  induction n0 with
  | zero => intro x5 x6 o_x5 hf; exact nomatch (show (none : Option _) = some _ from hf)
  | succ n0 ih =>
    intro x5 x6 o_x5 hf k0
    replace hf : t_X8_givesSo_L6 x1 x2 x3 x4 items (f_X8_givesSo_L6 x1 x2 x3 x4 items n0) x5 x6 = some o_x5 := hf
    unfold t_X8_givesSo_L6 at hf
    refine g_iload h 6 dX8_givesSo_6 rfl ?_
    refine g_iload h 4 dX8_givesSo_8 rfl ?_
    refine g_icmp_ge (tgt := 90) h dX8_givesSo_10 rfl hf (fun c1 hf => ?_) (fun c1 hf => ?_)
    · obtain rfl := sj1 hf
      exact G.lsub [5] rfl k0
    · refine g_aload_n h 0 dX8_givesSo_13 rfl rfl ?_
      refine g_get (ci := 8) (v := .ref a_items) h in_X8 0 6 rfl rfl (fle rfl) rfl q1172 rfl dX8_givesSo_14 ?_
      refine g_iload_n h 3 dX8_givesSo_17 rfl rfl ?_
      refine g_iconst (v := 2) h dX8_givesSo_18 kiconst_2 ?_
      refine g_iload h 6 dX8_givesSo_19 rfl ?_
      refine g_imul h dX8_givesSo_21 ?_
      refine g_iadd h dX8_givesSo_22 ?_
      obtain ⟨g2, hf⟩ := gn hf
      refine g_laload h 1 rfl g2 dX8_givesSo_23 ?_
      refine g_iload_n h 1 dX8_givesSo_24 rfl rfl ?_
      refine g_i2l h dX8_givesSo_25 ?_
      refine g_lcmp h dX8_givesSo_26 ?_
      obtain ⟨z_5, hw, hf⟩ := ob1 hf
      have K27 : G X [(a, .inr (8, [.ref a_w, .int isImage, .ref a_tape, .int taped, .ref a_lane, .ref a_size, .ref a_items, .ref a_up, .ref a_down, .int above, .int below, .ref a_fell, .int fallen, .int torn, .int at_, .int start, .int number, .ref a_read, .ref a_comesUp, .ref a_comesDown, .ref a_held])), (a_items, .inl (X.E 2, 96, .inr (.inl items)))] [(0, .ref a), (1, .int x1), (2, .int x2), (3, .int x3), (4, .int x4), (5, .int x5), (6, .int x6)] ce sl 51 [.long z_5] := by
        clear hw
        refine g_lstore (lv' := [(7, .long z_5), (0, .ref a), (1, .int x1), (2, .int x2), (3, .int x3), (4, .int x4), (5, .int x5), (6, .int x6)]) h dX8_givesSo_51 (hL 8 (fle rfl)) rfl ?_
        refine g_iload h 6 dX8_givesSo_53 rfl ?_
        refine g_if_eq (tgt := 81) h dX8_givesSo_55 rfl hf (fun c7 hf => ?_) (fun c7 hf => ?_)
        · refine g_iconst (v := 0) h dX8_givesSo_81 kiconst_0 ?_
          refine g_istore (lv' := [(5, .int 0), (7, .long z_5), (0, .ref a), (1, .int x1), (2, .int x2), (3, .int x3), (4, .int x4), (6, .int x6)]) h dX8_givesSo_82 (hL 5 (fle rfl)) rfl ?_
          refine g_iinc (j := 7) (v := (x6 + 1)) (lv' := [(6, .int (x6 + 1)), (5, .int 0), (7, .long z_5), (0, .ref a), (1, .int x1), (2, .int x2), (3, .int x3), (4, .int x4)]) h dX8_givesSo_84 rfl (kinc_1 _) (hL 6 (fle rfl)) rfl ?_
          refine g_goto (tgt := 6) h dX8_givesSo_87 rfl ?_
          exact G.lsub [3, 4, 5, 6, 7, 1, 0] rfl (ih _ _ hf k0)
        · refine g_aload_n h 1 dX8_givesSo_58 rfl rfl ?_
          refine g_get (ci := 8) (v := .ref a_items) h in_X8 0 6 rfl rfl (fle rfl) rfl q1172 rfl dX8_givesSo_59 ?_
          refine g_iload_n h 4 dX8_givesSo_62 rfl rfl ?_
          refine g_iconst (v := 2) h dX8_givesSo_63 kiconst_2 ?_
          refine g_iload h 7 dX8_givesSo_64 rfl ?_
          refine g_imul h dX8_givesSo_66 ?_
          refine g_iadd h dX8_givesSo_67 ?_
          refine g_iconst (v := 1) h dX8_givesSo_68 kiconst_1 ?_
          refine g_iadd h dX8_givesSo_69 ?_
          obtain ⟨g8, hf⟩ := gn hf
          refine g_laload h 1 rfl g8 dX8_givesSo_70 ?_
          refine g_lload h 0 dX8_givesSo_71 rfl ?_
          refine g_lcmp h dX8_givesSo_73 ?_
          refine g_if_ne (tgt := 81) h dX8_givesSo_74 rfl hf (fun c9 hf => ?_) (fun c9 hf => ?_)
          · refine g_iconst (v := 1) h dX8_givesSo_77 kiconst_1 ?_
            refine g_goto (tgt := 82) h dX8_givesSo_78 rfl ?_
            refine g_istore (lv' := [(5, .int 1), (7, .long z_5), (0, .ref a), (1, .int x1), (2, .int x2), (3, .int x3), (4, .int x4), (6, .int x6)]) h dX8_givesSo_82 (hL 5 (fle rfl)) rfl ?_
            refine g_iinc (j := 7) (v := (x6 + 1)) (lv' := [(6, .int (x6 + 1)), (5, .int 1), (7, .long z_5), (0, .ref a), (1, .int x1), (2, .int x2), (3, .int x3), (4, .int x4)]) h dX8_givesSo_84 rfl (kinc_1 _) (hL 6 (fle rfl)) rfl ?_
            refine g_goto (tgt := 6) h dX8_givesSo_87 rfl ?_
            exact G.lsub [3, 4, 5, 6, 7, 1, 0] rfl (ih _ _ hf k0)
          · refine g_iconst (v := 0) h dX8_givesSo_81 kiconst_0 ?_
            refine g_istore (lv' := [(5, .int 0), (7, .long z_5), (0, .ref a), (1, .int x1), (2, .int x2), (3, .int x3), (4, .int x4), (6, .int x6)]) h dX8_givesSo_82 (hL 5 (fle rfl)) rfl ?_
            refine g_iinc (j := 7) (v := (x6 + 1)) (lv' := [(6, .int (x6 + 1)), (5, .int 0), (7, .long z_5), (0, .ref a), (1, .int x1), (2, .int x2), (3, .int x3), (4, .int x4)]) h dX8_givesSo_84 rfl (kinc_1 _) (hL 6 (fle rfl)) rfl ?_
            refine g_goto (tgt := 6) h dX8_givesSo_87 rfl ?_
            exact G.lsub [3, 4, 5, 6, 7, 1, 0] rfl (ih _ _ hf k0)
      clear hf
      have hf := hw
      clear hw
      refine g_if_le (tgt := 50) h dX8_givesSo_27 rfl hf (fun c3 hf => ?_) (fun c3 hf => ?_)
      · refine g_lconst (v := 0) h dX8_givesSo_50 rfl ?_
        obtain rfl := sj1 hf
        exact G.lsub [0, 1, 2, 3, 4, 5, 6] rfl K27
      · refine g_aload_n h 0 dX8_givesSo_30 rfl rfl ?_
        refine g_get (ci := 8) (v := .ref a_items) h in_X8 0 6 rfl rfl (fle rfl) rfl q1172 rfl dX8_givesSo_31 ?_
        refine g_iload_n h 3 dX8_givesSo_34 rfl rfl ?_
        refine g_iconst (v := 2) h dX8_givesSo_35 kiconst_2 ?_
        refine g_iload h 6 dX8_givesSo_36 rfl ?_
        refine g_imul h dX8_givesSo_38 ?_
        refine g_iadd h dX8_givesSo_39 ?_
        refine g_laload h 1 rfl g2 dX8_givesSo_40 ?_
        refine g_iload_n h 1 dX8_givesSo_41 rfl rfl ?_
        refine g_i2l h dX8_givesSo_42 ?_
        refine g_lsub h dX8_givesSo_43 ?_
        refine g_iload_n h 2 dX8_givesSo_44 rfl rfl ?_
        refine g_i2l h dX8_givesSo_45 ?_
        obtain ⟨g6, hf⟩ := gn hf
        refine g_ldiv h dX8_givesSo_46 g6 ?_
        refine g_goto (tgt := 51) h dX8_givesSo_47 rfl ?_
        obtain rfl := sj1 hf
        exact G.lsub [0, 1, 2, 3, 4, 5, 6] rfl K27
set_option maxHeartbeats 4000000 in
set_option maxRecDepth 100000 in
theorem ct_X8_givesSo {l : Launch} {D : va_G} {E : Ety} {a a_w a_tape a_lane a_size a_items a_up a_down a_fell a_read a_comesUp a_comesDown a_held : Nat} {x1 : Int32} {x2 : Int32} {x3 : Int32} {x4 : Int32} {isImage : Int32} {taped : Int32} {above : Int32} {below : Int32} {fallen : Int32} {torn : Int32} {at_ : Int32} {start : Int32} {number : Int32} {items : Nat → Int64} {r_ : Int32} (hf : f_X8_givesSo x1 x2 x3 x4 items = some r_) : Ct l yX8_givesSo cX8_givesSo 9 (some .boolean) 0 0 0 0 D E [.ref a, .int x1, .int x2, .int x3, .int x4] [(a, .inr (8, [.ref a_w, .int isImage, .ref a_tape, .int taped, .ref a_lane, .ref a_size, .ref a_items, .ref a_up, .ref a_down, .int above, .int below, .ref a_fell, .int fallen, .int torn, .int at_, .int start, .int number, .ref a_read, .ref a_comesUp, .ref a_comesDown, .ref a_held])), (a_items, .inl (E 2, 96, .inr (.inl items)))] (Pn (some (.int r_)) [(a, .inr (8, [.ref a_w, .int isImage, .ref a_tape, .int taped, .ref a_lane, .ref a_size, .ref a_items, .ref a_up, .ref a_down, .int above, .int below, .ref a_fell, .int fallen, .int torn, .int at_, .int start, .int number, .ref a_read, .ref a_comesUp, .ref a_comesDown, .ref a_held])), (a_items, .inl (E 2, 96, .inr (.inl items)))]) := by
  refine ct_of (own := RX8) (plainFor_of_name (by decide)) rfl (fle rfl) rfl ?_
  intro X hl hD hE hnL hXF h hR hF hnm
  subst hl; subst hD; subst hE
  have hL : ∀ i, i < 9 → i < X.nL := fun i hi => by rw [hnL]; exact hi
  unfold f_X8_givesSo at hf
  refine g_iconst (v := 1) h dX8_givesSo_0 kiconst_1 ?_
  refine g_istore (lv' := [(5, .int 1), (0, .ref a), (1, .int x1), (2, .int x2), (3, .int x3), (4, .int x4)]) h dX8_givesSo_1 (hL 5 (fle rfl)) rfl ?_
  refine g_iconst (v := 0) h dX8_givesSo_3 kiconst_0 ?_
  refine g_istore (lv' := [(6, .int 0), (5, .int 1), (0, .ref a), (1, .int x1), (2, .int x2), (3, .int x3), (4, .int x4)]) h dX8_givesSo_4 (hL 6 (fle rfl)) rfl ?_
  refine G.lsub (lv' := [(0, .ref a), (1, .int x1), (2, .int x2), (3, .int x3), (4, .int x4), (5, .int 1), (6, .int 0)]) [2, 3, 4, 5, 6, 1, 0] rfl ?_
  obtain ⟨x5_10, hv, hf⟩ := ob1 hf
  refine w_X8_givesSo_L6 (x1 := x1) (x2 := x2) (x3 := x3) (x4 := x4) (isImage := isImage) (taped := taped) (above := above) (below := below) (fallen := fallen) (torn := torn) (at_ := at_) (start := start) (number := number) (items := items) h hR hL (fle rfl) (fle rfl) FU _ _ hv ?_
  · clear hv
    refine g_iload h 0 dX8_givesSo_90 rfl ?_
    obtain ⟨gz, hf⟩ := gy hf
    obtain rfl := sj1 hf
    exact g_zret h hF (nz gz) [0, 1] rfl rfl ⟨rfl, rfl⟩ (fle rfl) (fle rfl) dX8_givesSo_92
set_option maxHeartbeats 4000000 in
set_option maxRecDepth 100000 in
theorem w_X8_gives_L81 {X : Cx} {a a_comesDown a_comesUp a_down a_fell a_held a_items a_lane a_read a_size a_tape a_up a_w : Nat} {x1 : Int32} {x3 : Int32} {x4 : Int32} {x5 : Int32} {x9 : Int32} {isImage : Int32} {taped : Int32} {above : Int32} {below : Int32} {fallen : Int32} {torn : Int32} {at_ : Int32} {start : Int32} {number : Int32} {lane : Nat → Int32} {size : Nat → Int32} {items : Nat → Int64} {ce sl : Nat} (h : Ok X cX8_gives RX8) (hR : Rm X 2 45 0 0) (hL : ∀ i, i < 12 → i < X.nL) (hce : ce ≤ 0) (hsl : sl ≤ 0) : ∀ (n0 : Nat) (x7 : Int32) (x8 : Int32) (x10 : Int32) {o_x7 : Int32} {o_x8 : Int32}, f_X8_gives_L81 x1 x3 x4 x9 items n0 x7 x8 x10 = some (o_x7, o_x8) → (G X [(a, .inr (8, [.ref a_w, .int isImage, .ref a_tape, .int taped, .ref a_lane, .ref a_size, .ref a_items, .ref a_up, .ref a_down, .int above, .int below, .ref a_fell, .int fallen, .int torn, .int at_, .int start, .int number, .ref a_read, .ref a_comesUp, .ref a_comesDown, .ref a_held])), (a_lane, .inl (X.E 1, 4, .inl lane)), (a_size, .inl (X.E 1, 4, .inl size)), (a_items, .inl (X.E 2, 96, .inr (.inl items)))] [(0, .ref a), (1, .int x1), (3, .int x3), (4, .int x4), (5, .int x5), (7, .int o_x7), (8, .int o_x8), (9, .int x9)] ce sl 152 []) → G X [(a, .inr (8, [.ref a_w, .int isImage, .ref a_tape, .int taped, .ref a_lane, .ref a_size, .ref a_items, .ref a_up, .ref a_down, .int above, .int below, .ref a_fell, .int fallen, .int torn, .int at_, .int start, .int number, .ref a_read, .ref a_comesUp, .ref a_comesDown, .ref a_held])), (a_lane, .inl (X.E 1, 4, .inl lane)), (a_size, .inl (X.E 1, 4, .inl size)), (a_items, .inl (X.E 2, 96, .inr (.inl items)))] [(0, .ref a), (1, .int x1), (3, .int x3), (4, .int x4), (5, .int x5), (7, .int x7), (8, .int x8), (9, .int x9), (10, .int x10)] ce sl 81 [] := by
  intro n0
  induction n0 with
  | zero => intro x7 x8 x10 o_x7 o_x8 hf; exact nomatch (show (none : Option _) = some _ from hf)
  | succ n0 ih =>
    intro x7 x8 x10 o_x7 o_x8 hf k0
    replace hf : t_X8_gives_L81 x1 x3 x4 x9 items (f_X8_gives_L81 x1 x3 x4 x9 items n0) x7 x8 x10 = some (o_x7, o_x8) := hf
    unfold t_X8_gives_L81 at hf
    refine g_iload h 8 dX8_gives_81 rfl ?_
    refine g_bipush (v := 9) h dX8_gives_83 kbipush_9 ?_
    refine g_icmp_gt (tgt := 152) h dX8_gives_85 rfl hf (fun c12 hf => ?_) (fun c12 hf => ?_)
    · obtain ⟨rfl, rfl⟩ := sj2 hf
      exact G.lsub [0, 1, 2, 3, 4, 5, 6, 7] rfl k0
    · refine g_aload_n h 0 dX8_gives_88 rfl rfl ?_
      refine g_iload h 7 dX8_gives_89 rfl ?_
      refine g_iload h 8 dX8_gives_91 rfl ?_
      refine g_bipush (v := 24) h dX8_gives_93 kbipush_24 ?_
      refine g_iload_n h 1 dX8_gives_95 rfl rfl ?_
      refine g_imul h dX8_gives_96 ?_
      refine g_iload_n h 2 dX8_gives_97 rfl rfl ?_
      refine g_iadd h dX8_gives_98 ?_
      refine g_iload h 3 dX8_gives_99 rfl ?_
      obtain ⟨r_13, hv, hf⟩ := ob1 hf
      refine g_callV (ci := 8) (q0 := 0) (n := 4) (As := [.int x9, .int x10, .int ((24 * x1) + x3), .int x4]) (st := []) (wr := [(a_lane, .inl (X.E 1, 4, .inl lane)), (a_size, .inl (X.E 1, 4, .inl size))]) (isC := [0, 3]) (isR := [1, 2]) h hR (ct_X8_givesSo (a := a) (a_w := a_w) (a_tape := a_tape) (a_lane := a_lane) (a_size := a_size) (a_items := a_items) (a_up := a_up) (a_down := a_down) (a_fell := a_fell) (a_read := a_read) (a_comesUp := a_comesUp) (a_comesDown := a_comesDown) (a_held := a_held) (x1 := x9) (x2 := x10) (x3 := ((24 * x1) + x3)) (x4 := x4) (isImage := isImage) (taped := taped) (above := above) (below := below) (fallen := fallen) (torn := torn) (at_ := at_) (start := start) (number := number) (items := items) hv) rfl rfl (lw_V q1557 q1559 qs68 q80 q1560) (by decide +kernel) rfl ⟨rfl, rfl, rfl, rfl, by decide⟩ ⟨hce, hsl, fle rfl, fle rfl, fle rfl⟩ rfl dX8_gives_101 (pin (perm := [2, 0, 1, 3]) (ws' := [(a, .inr (8, [.ref a_w, .int isImage, .ref a_tape, .int taped, .ref a_lane, .ref a_size, .ref a_items, .ref a_up, .ref a_down, .int above, .int below, .ref a_fell, .int fallen, .int torn, .int at_, .int start, .int number, .ref a_read, .ref a_comesUp, .ref a_comesDown, .ref a_held])), (a_lane, .inl (X.E 1, 4, .inl lane)), (a_size, .inl (X.E 1, 4, .inl size)), (a_items, .inl (X.E 2, 96, .inr (.inl items)))]) (stk := [.int r_13]) rfl rfl rfl ?_)
      clear hv
      refine g_istore (lv' := [(11, .int r_13), (0, .ref a), (1, .int x1), (3, .int x3), (4, .int x4), (5, .int x5), (7, .int x7), (8, .int x8), (9, .int x9), (10, .int x10)]) h dX8_gives_104 (hL 11 (fle rfl)) rfl ?_
      refine g_iload h 0 dX8_gives_106 rfl ?_
      obtain ⟨z_16, hw, hf⟩ := ob1 hf
      have K108 : G X [(a, .inr (8, [.ref a_w, .int isImage, .ref a_tape, .int taped, .ref a_lane, .ref a_size, .ref a_items, .ref a_up, .ref a_down, .int above, .int below, .ref a_fell, .int fallen, .int torn, .int at_, .int start, .int number, .ref a_read, .ref a_comesUp, .ref a_comesDown, .ref a_held])), (a_lane, .inl (X.E 1, 4, .inl lane)), (a_size, .inl (X.E 1, 4, .inl size)), (a_items, .inl (X.E 2, 96, .inr (.inl items)))] [(0, .ref a), (1, .int x1), (3, .int x3), (4, .int x4), (5, .int x5), (7, .int x7), (9, .int x9), (10, .int x10), (11, .int r_13)] ce sl 129 [.int z_16] := by
        clear hw
        refine g_istore (lv' := [(8, .int z_16), (0, .ref a), (1, .int x1), (3, .int x3), (4, .int x4), (5, .int x5), (7, .int x7), (9, .int x9), (10, .int x10), (11, .int r_13)]) h dX8_gives_129 (hL 8 (fle rfl)) rfl ?_
        refine g_iload h 6 dX8_gives_131 rfl ?_
        refine g_iload h 9 dX8_gives_133 rfl ?_
        refine g_if_eq (tgt := 142) h dX8_gives_135 rfl hf (fun c18 hf => ?_) (fun c18 hf => ?_)
        · refine g_iconst (v := 0) h dX8_gives_142 kiconst_0 ?_
          refine g_iadd h dX8_gives_143 ?_
          refine g_istore (lv' := [(7, .int (x7 + 0)), (8, .int z_16), (0, .ref a), (1, .int x1), (3, .int x3), (4, .int x4), (5, .int x5), (9, .int x9), (10, .int x10), (11, .int r_13)]) h dX8_gives_144 (hL 7 (fle rfl)) rfl ?_
          refine g_iinc (j := 8) (v := (x10 + 1)) (lv' := [(10, .int (x10 + 1)), (7, .int (x7 + 0)), (8, .int z_16), (0, .ref a), (1, .int x1), (3, .int x3), (4, .int x4), (5, .int x5), (9, .int x9), (11, .int r_13)]) h dX8_gives_146 rfl (kinc_1 _) (hL 10 (fle rfl)) rfl ?_
          refine g_goto (tgt := 81) h dX8_gives_149 rfl ?_
          exact G.lsub [3, 4, 5, 6, 7, 1, 2, 8, 0] rfl (ih _ _ _ hf k0)
        · refine g_iconst (v := 1) h dX8_gives_138 kiconst_1 ?_
          refine g_goto (tgt := 143) h dX8_gives_139 rfl ?_
          refine g_iadd h dX8_gives_143 ?_
          refine g_istore (lv' := [(7, .int (x7 + 1)), (8, .int z_16), (0, .ref a), (1, .int x1), (3, .int x3), (4, .int x4), (5, .int x5), (9, .int x9), (10, .int x10), (11, .int r_13)]) h dX8_gives_144 (hL 7 (fle rfl)) rfl ?_
          refine g_iinc (j := 8) (v := (x10 + 1)) (lv' := [(10, .int (x10 + 1)), (7, .int (x7 + 1)), (8, .int z_16), (0, .ref a), (1, .int x1), (3, .int x3), (4, .int x4), (5, .int x5), (9, .int x9), (11, .int r_13)]) h dX8_gives_146 rfl (kinc_1 _) (hL 10 (fle rfl)) rfl ?_
          refine g_goto (tgt := 81) h dX8_gives_149 rfl ?_
          exact G.lsub [3, 4, 5, 6, 7, 1, 2, 8, 0] rfl (ih _ _ _ hf k0)
      clear hf
      have hf := hw
      clear hw
      refine g_if_eq (tgt := 127) h dX8_gives_108 rfl hf (fun c14 hf => ?_) (fun c14 hf => ?_)
      · refine g_iload h 7 dX8_gives_127 rfl ?_
        obtain rfl := sj1 hf
        exact G.lsub [1, 2, 3, 4, 5, 6, 8, 9, 0] rfl K108
      · refine g_iload h 6 dX8_gives_111 rfl ?_
        refine g_if_ne (tgt := 127) h dX8_gives_113 rfl hf (fun c17 hf => ?_) (fun c17 hf => ?_)
        · refine g_bipush (v := 10) h dX8_gives_116 kbipush_10 ?_
          refine g_iload h 8 dX8_gives_118 rfl ?_
          refine g_imul h dX8_gives_120 ?_
          refine g_iload h 9 dX8_gives_121 rfl ?_
          refine g_iadd h dX8_gives_123 ?_
          refine g_goto (tgt := 129) h dX8_gives_124 rfl ?_
          obtain rfl := sj1 hf
          exact G.lsub [1, 2, 3, 4, 5, 6, 8, 9, 0] rfl K108
        · refine g_iload h 7 dX8_gives_127 rfl ?_
          obtain rfl := sj1 hf
          exact G.lsub [1, 2, 3, 4, 5, 6, 8, 9, 0] rfl K108
set_option maxHeartbeats 4000000 in
set_option maxRecDepth 100000 in
theorem w_X8_gives_L71 {X : Cx} {a a_comesDown a_comesUp a_down a_fell a_held a_items a_lane a_read a_size a_tape a_up a_w : Nat} {x1 : Int32} {x3 : Int32} {x4 : Int32} {x5 : Int32} {isImage : Int32} {taped : Int32} {above : Int32} {below : Int32} {fallen : Int32} {torn : Int32} {at_ : Int32} {start : Int32} {number : Int32} {lane : Nat → Int32} {size : Nat → Int32} {items : Nat → Int64} {ce sl : Nat} (h : Ok X cX8_gives RX8) (hR : Rm X 2 45 0 0) (hL : ∀ i, i < 12 → i < X.nL) (hce : ce ≤ 0) (hsl : sl ≤ 0) : ∀ (n0 : Nat) (x7 : Int32) (x8 : Int32) (x9 : Int32) {o_x7 : Int32} {o_x8 : Int32}, f_X8_gives_L71 x1 x3 x4 items n0 x7 x8 x9 = some (o_x7, o_x8) → (G X [(a, .inr (8, [.ref a_w, .int isImage, .ref a_tape, .int taped, .ref a_lane, .ref a_size, .ref a_items, .ref a_up, .ref a_down, .int above, .int below, .ref a_fell, .int fallen, .int torn, .int at_, .int start, .int number, .ref a_read, .ref a_comesUp, .ref a_comesDown, .ref a_held])), (a_lane, .inl (X.E 1, 4, .inl lane)), (a_size, .inl (X.E 1, 4, .inl size)), (a_items, .inl (X.E 2, 96, .inr (.inl items)))] [(5, .int x5), (7, .int o_x7), (8, .int o_x8)] ce sl 158 []) → G X [(a, .inr (8, [.ref a_w, .int isImage, .ref a_tape, .int taped, .ref a_lane, .ref a_size, .ref a_items, .ref a_up, .ref a_down, .int above, .int below, .ref a_fell, .int fallen, .int torn, .int at_, .int start, .int number, .ref a_read, .ref a_comesUp, .ref a_comesDown, .ref a_held])), (a_lane, .inl (X.E 1, 4, .inl lane)), (a_size, .inl (X.E 1, 4, .inl size)), (a_items, .inl (X.E 2, 96, .inr (.inl items)))] [(0, .ref a), (1, .int x1), (3, .int x3), (4, .int x4), (5, .int x5), (7, .int x7), (8, .int x8), (9, .int x9)] ce sl 71 [] := by
  intro n0
  induction n0 with
  | zero => intro x7 x8 x9 o_x7 o_x8 hf; exact nomatch (show (none : Option _) = some _ from hf)
  | succ n0 ih =>
    intro x7 x8 x9 o_x7 o_x8 hf k0
    replace hf : t_X8_gives_L71 x1 x3 x4 items (f_X8_gives_L71 x1 x3 x4 items n0) x7 x8 x9 = some (o_x7, o_x8) := hf
    unfold t_X8_gives_L71 at hf
    refine g_iload h 7 dX8_gives_71 rfl ?_
    refine g_bipush (v := 20) h dX8_gives_73 kbipush_20 ?_
    refine g_icmp_gt (tgt := 158) h dX8_gives_75 rfl hf (fun c11 hf => ?_) (fun c11 hf => ?_)
    · obtain ⟨rfl, rfl⟩ := sj2 hf
      exact G.lsub [4, 5, 6] rfl k0
    · refine g_iconst (v := 1) h dX8_gives_78 kiconst_1 ?_
      refine g_istore (lv' := [(10, .int 1), (0, .ref a), (1, .int x1), (3, .int x3), (4, .int x4), (5, .int x5), (7, .int x7), (8, .int x8), (9, .int x9)]) h dX8_gives_79 (hL 10 (fle rfl)) rfl ?_
      refine G.lsub (lv' := [(0, .ref a), (1, .int x1), (3, .int x3), (4, .int x4), (5, .int x5), (7, .int x7), (8, .int x8), (9, .int x9), (10, .int 1)]) [1, 2, 3, 4, 5, 6, 7, 8, 0] rfl ?_
      obtain ⟨x7_19, x8_20, hv, hf⟩ := ob2 hf
      refine w_X8_gives_L81 (x1 := x1) (x3 := x3) (x4 := x4) (x5 := x5) (x9 := x9) (isImage := isImage) (taped := taped) (above := above) (below := below) (fallen := fallen) (torn := torn) (at_ := at_) (start := start) (number := number) (lane := lane) (size := size) (items := items) h hR hL hce hsl FU _ _ _ hv ?_
      · clear hv
        refine g_iinc (j := 7) (v := (x9 + 1)) (lv' := [(9, .int (x9 + 1)), (0, .ref a), (1, .int x1), (3, .int x3), (4, .int x4), (5, .int x5), (7, .int x7_19), (8, .int x8_20)]) h dX8_gives_152 rfl (kinc_1 _) (hL 9 (fle rfl)) rfl ?_
        refine g_goto (tgt := 71) h dX8_gives_155 rfl ?_
        exact G.lsub [1, 2, 3, 4, 5, 6, 7, 0] rfl (ih _ _ _ hf k0)
set_option maxHeartbeats 4000000 in
set_option maxRecDepth 100000 in
theorem ct_X8_gives {l : Launch} {D : va_G} {E : Ety} {a a_w a_tape a_lane a_size a_items a_up a_down a_fell a_read a_comesUp a_comesDown a_held : Nat} {x1 : Int32} {x2 : Int32} {x3 : Int32} {x4 : Int32} {x5 : Int32} {isImage : Int32} {taped : Int32} {above : Int32} {below : Int32} {fallen : Int32} {torn : Int32} {at_ : Int32} {start : Int32} {number : Int32} {lane : Nat → Int32} {size : Nat → Int32} {items : Nat → Int64} {r_ : Int32} (hf : f_X8_gives x1 x2 x3 x4 x5 lane size items = some r_) : Ct l yX8_gives cX8_gives 12 (some .int) 2 45 0 0 D E [.ref a, .int x1, .int x2, .int x3, .int x4, .int x5] [(a, .inr (8, [.ref a_w, .int isImage, .ref a_tape, .int taped, .ref a_lane, .ref a_size, .ref a_items, .ref a_up, .ref a_down, .int above, .int below, .ref a_fell, .int fallen, .int torn, .int at_, .int start, .int number, .ref a_read, .ref a_comesUp, .ref a_comesDown, .ref a_held])), (a_lane, .inl (E 1, 4, .inl lane)), (a_size, .inl (E 1, 4, .inl size)), (a_items, .inl (E 2, 96, .inr (.inl items)))] (Pn (some (.int r_)) [(a, .inr (8, [.ref a_w, .int isImage, .ref a_tape, .int taped, .ref a_lane, .ref a_size, .ref a_items, .ref a_up, .ref a_down, .int above, .int below, .ref a_fell, .int fallen, .int torn, .int at_, .int start, .int number, .ref a_read, .ref a_comesUp, .ref a_comesDown, .ref a_held])), (a_lane, .inl (E 1, 4, .inl lane)), (a_size, .inl (E 1, 4, .inl size)), (a_items, .inl (E 2, 96, .inr (.inl items)))]) := by
  refine ct_of (own := RX8) (plainFor_of_name (by decide)) rfl (fle rfl) rfl ?_
  intro X hl hD hE hnL hXF h hR hF hnm
  subst hl; subst hD; subst hE
  have hL : ∀ i, i < 12 → i < X.nL := fun i hi => by rw [hnL]; exact hi
  unfold f_X8_gives at hf
  refine g_iload_n h 1 dX8_gives_0 rfl rfl ?_
  obtain ⟨r_1, hv, hf⟩ := ob1 hf
  refine g_callS (n := 1) (As := [.int x1]) (st := []) (wr := [(a, .inr (8, [.ref a_w, .int isImage, .ref a_tape, .int taped, .ref a_lane, .ref a_size, .ref a_items, .ref a_up, .ref a_down, .int above, .int below, .ref a_fell, .int fallen, .int torn, .int at_, .int start, .int number, .ref a_read, .ref a_comesUp, .ref a_comesDown, .ref a_held])), (a_lane, .inl (X.E 1, 4, .inl lane)), (a_size, .inl (X.E 1, 4, .inl size)), (a_items, .inl (X.E 2, 96, .inr (.inl items)))]) (isC := []) (isR := [0, 1, 2, 3]) h hR (ct_X8_isRegister (x0 := x1) hv) (lw_S q1534 q1535 q80 q1536) (by decide +kernel) rfl ⟨rfl, rfl, rfl, rfl, by decide⟩ ⟨fle rfl, fle rfl, fle rfl, fle rfl, fle rfl⟩ rfl dX8_gives_1 (pin (perm := [0, 1, 2, 3]) (ws' := [(a, .inr (8, [.ref a_w, .int isImage, .ref a_tape, .int taped, .ref a_lane, .ref a_size, .ref a_items, .ref a_up, .ref a_down, .int above, .int below, .ref a_fell, .int fallen, .int torn, .int at_, .int start, .int number, .ref a_read, .ref a_comesUp, .ref a_comesDown, .ref a_held])), (a_lane, .inl (X.E 1, 4, .inl lane)), (a_size, .inl (X.E 1, 4, .inl size)), (a_items, .inl (X.E 2, 96, .inr (.inl items)))]) (stk := [.int r_1]) rfl rfl rfl ?_)
  clear hv
  refine g_if_eq (tgt := 38) h dX8_gives_4 rfl hf (fun c2 hf => ?_) (fun c2 hf => ?_)
  · refine g_iconst (v := (-1)) h dX8_gives_38 kiconst_m1 ?_
    obtain rfl := sj1 hf
    exact g_iret h hF [0, 1, 2, 3] rfl rfl ⟨rfl, rfl⟩ (fle rfl) (fle rfl) dX8_gives_39
  · refine g_iload_n h 2 dX8_gives_7 rfl rfl ?_
    obtain ⟨r_3, hv, hf⟩ := ob1 hf
    refine g_callS (n := 1) (As := [.int x2]) (st := []) (wr := [(a, .inr (8, [.ref a_w, .int isImage, .ref a_tape, .int taped, .ref a_lane, .ref a_size, .ref a_items, .ref a_up, .ref a_down, .int above, .int below, .ref a_fell, .int fallen, .int torn, .int at_, .int start, .int number, .ref a_read, .ref a_comesUp, .ref a_comesDown, .ref a_held])), (a_lane, .inl (X.E 1, 4, .inl lane)), (a_size, .inl (X.E 1, 4, .inl size)), (a_items, .inl (X.E 2, 96, .inr (.inl items)))]) (isC := []) (isR := [0, 1, 2, 3]) h hR (ct_X8_isLane (x0 := x2) hv) (lw_S q1538 q1539 q80 q1540) (by decide +kernel) rfl ⟨rfl, rfl, rfl, rfl, by decide⟩ ⟨fle rfl, fle rfl, fle rfl, fle rfl, fle rfl⟩ rfl dX8_gives_8 (pin (perm := [0, 1, 2, 3]) (ws' := [(a, .inr (8, [.ref a_w, .int isImage, .ref a_tape, .int taped, .ref a_lane, .ref a_size, .ref a_items, .ref a_up, .ref a_down, .int above, .int below, .ref a_fell, .int fallen, .int torn, .int at_, .int start, .int number, .ref a_read, .ref a_comesUp, .ref a_comesDown, .ref a_held])), (a_lane, .inl (X.E 1, 4, .inl lane)), (a_size, .inl (X.E 1, 4, .inl size)), (a_items, .inl (X.E 2, 96, .inr (.inl items)))]) (stk := [.int r_3]) rfl rfl rfl ?_)
    clear hv
    refine g_if_eq (tgt := 38) h dX8_gives_11 rfl hf (fun c4 hf => ?_) (fun c4 hf => ?_)
    · refine g_iconst (v := (-1)) h dX8_gives_38 kiconst_m1 ?_
      obtain rfl := sj1 hf
      exact g_iret h hF [0, 1, 2, 3] rfl rfl ⟨rfl, rfl⟩ (fle rfl) (fle rfl) dX8_gives_39
    · refine g_iload h 4 dX8_gives_14 rfl ?_
      refine g_i2l h dX8_gives_16 ?_
      refine g_lconst (v := 1) h dX8_gives_17 rfl ?_
      refine g_ldc2 h q1497 dX8_gives_18 ?_
      obtain ⟨r_5, hv, hf⟩ := ob1 hf
      refine g_callS (n := 3) (As := [.long x4.toInt64, .long 1, .long 10]) (st := []) (wr := [(a, .inr (8, [.ref a_w, .int isImage, .ref a_tape, .int taped, .ref a_lane, .ref a_size, .ref a_items, .ref a_up, .ref a_down, .int above, .int below, .ref a_fell, .int fallen, .int torn, .int at_, .int start, .int number, .ref a_read, .ref a_comesUp, .ref a_comesDown, .ref a_held])), (a_lane, .inl (X.E 1, 4, .inl lane)), (a_size, .inl (X.E 1, 4, .inl size)), (a_items, .inl (X.E 2, 96, .inr (.inl items)))]) (isC := []) (isR := [0, 1, 2, 3]) h hR (ct_X8_in (x0 := x4.toInt64) (x2 := 1) (x4 := 10) hv) (lw_S q1236 q1237 q80 q1238) (by decide +kernel) rfl ⟨rfl, rfl, rfl, rfl, by decide⟩ ⟨fle rfl, fle rfl, fle rfl, fle rfl, fle rfl⟩ rfl dX8_gives_21 (pin (perm := [0, 1, 2, 3]) (ws' := [(a, .inr (8, [.ref a_w, .int isImage, .ref a_tape, .int taped, .ref a_lane, .ref a_size, .ref a_items, .ref a_up, .ref a_down, .int above, .int below, .ref a_fell, .int fallen, .int torn, .int at_, .int start, .int number, .ref a_read, .ref a_comesUp, .ref a_comesDown, .ref a_held])), (a_lane, .inl (X.E 1, 4, .inl lane)), (a_size, .inl (X.E 1, 4, .inl size)), (a_items, .inl (X.E 2, 96, .inr (.inl items)))]) (stk := [.int r_5]) rfl rfl rfl ?_)
      clear hv
      refine g_if_eq (tgt := 38) h dX8_gives_24 rfl hf (fun c6 hf => ?_) (fun c6 hf => ?_)
      · refine g_iconst (v := (-1)) h dX8_gives_38 kiconst_m1 ?_
        obtain rfl := sj1 hf
        exact g_iret h hF [0, 1, 2, 3] rfl rfl ⟨rfl, rfl⟩ (fle rfl) (fle rfl) dX8_gives_39
      · refine g_iload h 5 dX8_gives_27 rfl ?_
        refine g_i2l h dX8_gives_29 ?_
        refine g_lconst (v := 0) h dX8_gives_30 rfl ?_
        refine g_lconst (v := 1) h dX8_gives_31 rfl ?_
        obtain ⟨r_7, hv, hf⟩ := ob1 hf
        refine g_callS (n := 3) (As := [.long x5.toInt64, .long 0, .long 1]) (st := []) (wr := [(a, .inr (8, [.ref a_w, .int isImage, .ref a_tape, .int taped, .ref a_lane, .ref a_size, .ref a_items, .ref a_up, .ref a_down, .int above, .int below, .ref a_fell, .int fallen, .int torn, .int at_, .int start, .int number, .ref a_read, .ref a_comesUp, .ref a_comesDown, .ref a_held])), (a_lane, .inl (X.E 1, 4, .inl lane)), (a_size, .inl (X.E 1, 4, .inl size)), (a_items, .inl (X.E 2, 96, .inr (.inl items)))]) (isC := []) (isR := [0, 1, 2, 3]) h hR (ct_X8_in (x0 := x5.toInt64) (x2 := 0) (x4 := 1) hv) (lw_S q1236 q1237 q80 q1238) (by decide +kernel) rfl ⟨rfl, rfl, rfl, rfl, by decide⟩ ⟨fle rfl, fle rfl, fle rfl, fle rfl, fle rfl⟩ rfl dX8_gives_32 (pin (perm := [0, 1, 2, 3]) (ws' := [(a, .inr (8, [.ref a_w, .int isImage, .ref a_tape, .int taped, .ref a_lane, .ref a_size, .ref a_items, .ref a_up, .ref a_down, .int above, .int below, .ref a_fell, .int fallen, .int torn, .int at_, .int start, .int number, .ref a_read, .ref a_comesUp, .ref a_comesDown, .ref a_held])), (a_lane, .inl (X.E 1, 4, .inl lane)), (a_size, .inl (X.E 1, 4, .inl size)), (a_items, .inl (X.E 2, 96, .inr (.inl items)))]) (stk := [.int r_7]) rfl rfl rfl ?_)
        clear hv
        refine g_if_ne (tgt := 40) h dX8_gives_35 rfl hf (fun c8 hf => ?_) (fun c8 hf => ?_)
        · refine g_iconst (v := (-1)) h dX8_gives_38 kiconst_m1 ?_
          obtain rfl := sj1 hf
          exact g_iret h hF [0, 1, 2, 3] rfl rfl ⟨rfl, rfl⟩ (fle rfl) (fle rfl) dX8_gives_39
        · refine g_aload_n h 0 dX8_gives_40 rfl rfl ?_
          refine g_iload_n h 1 dX8_gives_41 rfl rfl ?_
          refine g_iload_n h 2 dX8_gives_42 rfl rfl ?_
          refine g_iload_n h 3 dX8_gives_43 rfl rfl ?_
          refine g_iconst (v := 2) h dX8_gives_44 kiconst_2 ?_
          refine g_iload h 4 dX8_gives_45 rfl ?_
          refine g_imul h dX8_gives_47 ?_
          obtain ⟨r_9, hv, hf⟩ := ob1 hf
          refine g_callV (ci := 8) (q0 := 0) (n := 4) (As := [.int x1, .int x2, .int x3, .int (2 * x4)]) (st := []) (wr := [(a_items, .inl (X.E 2, 96, .inr (.inl items)))]) (isC := [0, 1, 2]) (isR := [3]) h hR (ct_X8_against (a := a) (a_w := a_w) (a_tape := a_tape) (a_lane := a_lane) (a_size := a_size) (a_items := a_items) (a_up := a_up) (a_down := a_down) (a_fell := a_fell) (a_read := a_read) (a_comesUp := a_comesUp) (a_comesDown := a_comesDown) (a_held := a_held) (x1 := x1) (x2 := x2) (x3 := x3) (x4 := (2 * x4)) (isImage := isImage) (taped := taped) (above := above) (below := below) (fallen := fallen) (torn := torn) (at_ := at_) (start := start) (number := number) (lane := lane) (size := size) hv) rfl rfl (lw_V q1545 q1547 qs66 q80 q1548) (by decide +kernel) rfl ⟨rfl, rfl, rfl, rfl, by decide⟩ ⟨fle rfl, fle rfl, fle rfl, fle rfl, fle rfl⟩ rfl dX8_gives_48 (pin (perm := [1, 2, 3, 0]) (ws' := [(a, .inr (8, [.ref a_w, .int isImage, .ref a_tape, .int taped, .ref a_lane, .ref a_size, .ref a_items, .ref a_up, .ref a_down, .int above, .int below, .ref a_fell, .int fallen, .int torn, .int at_, .int start, .int number, .ref a_read, .ref a_comesUp, .ref a_comesDown, .ref a_held])), (a_lane, .inl (X.E 1, 4, .inl lane)), (a_size, .inl (X.E 1, 4, .inl size)), (a_items, .inl (X.E 2, 96, .inr (.inl items)))]) (stk := [.int r_9]) rfl rfl rfl ?_)
          clear hv
          refine g_istore (lv' := [(6, .int r_9), (0, .ref a), (1, .int x1), (2, .int x2), (3, .int x3), (4, .int x4), (5, .int x5)]) h dX8_gives_51 (hL 6 (fle rfl)) rfl ?_
          refine g_iload h 0 dX8_gives_53 rfl ?_
          refine g_if_ge (tgt := 61) h dX8_gives_55 rfl hf (fun c10 hf => ?_) (fun c10 hf => ?_)
          · refine g_iconst (v := 0) h dX8_gives_61 kiconst_0 ?_
            refine g_istore (lv' := [(7, .int 0), (6, .int r_9), (0, .ref a), (1, .int x1), (2, .int x2), (3, .int x3), (4, .int x4), (5, .int x5)]) h dX8_gives_62 (hL 7 (fle rfl)) rfl ?_
            refine g_bipush (v := (-4)) h dX8_gives_64 kbipush_m4 ?_
            refine g_istore (lv' := [(8, .int (-4)), (7, .int 0), (6, .int r_9), (0, .ref a), (1, .int x1), (2, .int x2), (3, .int x3), (4, .int x4), (5, .int x5)]) h dX8_gives_66 (hL 8 (fle rfl)) rfl ?_
            refine g_iconst (v := 1) h dX8_gives_68 kiconst_1 ?_
            refine g_istore (lv' := [(9, .int 1), (8, .int (-4)), (7, .int 0), (6, .int r_9), (0, .ref a), (1, .int x1), (2, .int x2), (3, .int x3), (4, .int x4), (5, .int x5)]) h dX8_gives_69 (hL 9 (fle rfl)) rfl ?_
            refine G.lsub (lv' := [(0, .ref a), (1, .int x1), (3, .int x3), (4, .int x4), (5, .int x5), (7, .int 0), (8, .int (-4)), (9, .int 1)]) [4, 5, 7, 8, 9, 2, 1, 0] rfl ?_
            obtain ⟨x7_21, x8_22, hv, hf⟩ := ob2 hf
            refine w_X8_gives_L71 (x1 := x1) (x3 := x3) (x4 := x4) (x5 := x5) (isImage := isImage) (taped := taped) (above := above) (below := below) (fallen := fallen) (torn := torn) (at_ := at_) (start := start) (number := number) (lane := lane) (size := size) (items := items) h hR hL (fle rfl) (fle rfl) FU _ _ _ hv ?_
            · clear hv
              refine g_iload h 0 dX8_gives_158 rfl ?_
              refine g_if_ne (tgt := 168) h dX8_gives_160 rfl hf (fun c23 hf => ?_) (fun c23 hf => ?_)
              · refine g_iload h 1 dX8_gives_163 rfl ?_
                refine g_goto (tgt := 170) h dX8_gives_165 rfl ?_
                obtain rfl := sj1 hf
                exact g_iret h hF [0, 1, 2, 3] rfl rfl ⟨rfl, rfl⟩ (fle rfl) (fle rfl) dX8_gives_170
              · refine g_iload h 2 dX8_gives_168 rfl ?_
                obtain rfl := sj1 hf
                exact g_iret h hF [0, 1, 2, 3] rfl rfl ⟨rfl, rfl⟩ (fle rfl) (fle rfl) dX8_gives_170
          · refine g_iload h 0 dX8_gives_58 rfl ?_
            obtain rfl := sj1 hf
            exact g_iret h hF [0, 1, 2, 3] rfl rfl ⟨rfl, rfl⟩ (fle rfl) (fle rfl) dX8_gives_60
set_option maxHeartbeats 4000000 in
set_option maxRecDepth 100000 in
theorem w_X8_log_L54 {X : Cx} {a a_comesDown a_comesUp a_down a_fell a_held a_items a_lane a_read a_size a_tape a_up a_w : Nat} {x1 : Int32} {x2 : Int32} {x4 : Int32} {isImage : Int32} {taped : Int32} {at_ : Int32} {start : Int32} {number : Int32} {lane : Nat → Int32} {size : Nat → Int32} {ce sl : Nat} (h : Ok X cX8_log RX8) (hR : Rm X 7 160 0 0) (hL : ∀ i, i < 7 → i < X.nL) (hce : ce ≤ 0) (hsl : sl ≤ 0) : ∀ (n0 : Nat) (x6 : Int32) (above : Int32) (below : Int32) (fallen : Int32) (torn : Int32) (w : Nat → Int32) (items : Nat → Int64) (up : Nat → Int32) (down : Nat → Int32) (fell : Nat → Int32) {o_above : Int32} {o_below : Int32} {o_fallen : Int32} {o_torn : Int32} {o_w : Nat → Int32} {o_items : Nat → Int64} {o_up : Nat → Int32} {o_down : Nat → Int32} {o_fell : Nat → Int32}, f_X8_log_L54 x1 x2 x4 n0 x6 above below fallen torn w items up down fell = some (o_above, o_below, o_fallen, o_torn, o_w, o_items, o_up, o_down, o_fell) → (G X [(a, .inr (8, [.ref a_w, .int isImage, .ref a_tape, .int taped, .ref a_lane, .ref a_size, .ref a_items, .ref a_up, .ref a_down, .int o_above, .int o_below, .ref a_fell, .int o_fallen, .int o_torn, .int at_, .int start, .int number, .ref a_read, .ref a_comesUp, .ref a_comesDown, .ref a_held])), (a_w, .inl (X.E 1, 1142, .inl o_w)), (a_lane, .inl (X.E 1, 4, .inl lane)), (a_size, .inl (X.E 1, 4, .inl size)), (a_items, .inl (X.E 2, 96, .inr (.inl o_items))), (a_up, .inl (X.E 1, 8, .inl o_up)), (a_down, .inl (X.E 1, 8, .inl o_down)), (a_fell, .inl (X.E 1, 8, .inl o_fell))] [(1, .int x1)] ce sl 96 []) → G X [(a, .inr (8, [.ref a_w, .int isImage, .ref a_tape, .int taped, .ref a_lane, .ref a_size, .ref a_items, .ref a_up, .ref a_down, .int above, .int below, .ref a_fell, .int fallen, .int torn, .int at_, .int start, .int number, .ref a_read, .ref a_comesUp, .ref a_comesDown, .ref a_held])), (a_w, .inl (X.E 1, 1142, .inl w)), (a_lane, .inl (X.E 1, 4, .inl lane)), (a_size, .inl (X.E 1, 4, .inl size)), (a_items, .inl (X.E 2, 96, .inr (.inl items))), (a_up, .inl (X.E 1, 8, .inl up)), (a_down, .inl (X.E 1, 8, .inl down)), (a_fell, .inl (X.E 1, 8, .inl fell))] [(0, .ref a), (1, .int x1), (2, .int x2), (4, .int x4), (6, .int x6)] ce sl 54 [] := by
  intro n0
  induction n0 with
  | zero => intro x6 above below fallen torn w items up down fell o_above o_below o_fallen o_torn o_w o_items o_up o_down o_fell hf; exact nomatch (show (none : Option _) = some _ from hf)
  | succ n0 ih =>
    intro x6 above below fallen torn w items up down fell o_above o_below o_fallen o_torn o_w o_items o_up o_down o_fell hf k0
    replace hf : t_X8_log_L54 x1 x2 x4 (f_X8_log_L54 x1 x2 x4 n0) x6 above below fallen torn w items up down fell = some (o_above, o_below, o_fallen, o_torn, o_w, o_items, o_up, o_down, o_fell) := hf
    unfold t_X8_log_L54 at hf
    refine g_iload h 4 dX8_log_54 rfl ?_
    refine g_iload_n h 1 dX8_log_56 rfl rfl ?_
    refine g_icmp_ge (tgt := 96) h dX8_log_57 rfl hf (fun c10 hf => ?_) (fun c10 hf => ?_)
    · obtain ⟨rfl, rfl, rfl, rfl, rfl, rfl, rfl, rfl, rfl⟩ := sj9 hf
      exact G.lsub [1] rfl k0
    · refine g_aload_n h 0 dX8_log_60 rfl rfl ?_
      refine g_sipush (v := 1082) h dX8_log_61 ksipush_1082 ?_
      obtain ⟨above_11, below_12, fallen_13, torn_14, w_15, up_16, down_17, fell_18, hv, hf⟩ := ob8 hf
      refine g_callV (ci := 8) (q0 := 0) (n := 1) (As := [.int 1082]) (st := []) (wr := [(a_lane, .inl (X.E 1, 4, .inl lane)), (a_size, .inl (X.E 1, 4, .inl size)), (a_items, .inl (X.E 2, 96, .inr (.inl items)))]) (isC := [0, 1, 5, 6, 7]) (isR := [2, 3, 4]) h hR (ct_X8_hourOf (a := a) (a_w := a_w) (a_tape := a_tape) (a_lane := a_lane) (a_size := a_size) (a_items := a_items) (a_up := a_up) (a_down := a_down) (a_fell := a_fell) (a_read := a_read) (a_comesUp := a_comesUp) (a_comesDown := a_comesDown) (a_held := a_held) (x1 := 1082) (isImage := isImage) (taped := taped) (above := above) (below := below) (fallen := fallen) (torn := torn) (at_ := at_) (start := start) (number := number) (w := w) (up := up) (down := down) (fell := fell) hv) rfl rfl (lw_V q1446 q1448 qs58 q80 q1449) (by decide +kernel) rfl ⟨rfl, rfl, rfl, rfl, by decide⟩ ⟨hce, hsl, fle rfl, fle rfl, fle rfl⟩ rfl dX8_log_64 (pin (perm := [3, 4, 0, 1, 2, 5, 6, 7]) (ws' := [(a, .inr (8, [.ref a_w, .int isImage, .ref a_tape, .int taped, .ref a_lane, .ref a_size, .ref a_items, .ref a_up, .ref a_down, .int above_11, .int below_12, .ref a_fell, .int fallen_13, .int torn_14, .int at_, .int start, .int number, .ref a_read, .ref a_comesUp, .ref a_comesDown, .ref a_held])), (a_w, .inl (X.E 1, 1142, .inl w_15)), (a_lane, .inl (X.E 1, 4, .inl lane)), (a_size, .inl (X.E 1, 4, .inl size)), (a_items, .inl (X.E 2, 96, .inr (.inl items))), (a_up, .inl (X.E 1, 8, .inl up_16)), (a_down, .inl (X.E 1, 8, .inl down_17)), (a_fell, .inl (X.E 1, 8, .inl fell_18))]) (stk := []) rfl rfl rfl ?_)
      clear hv
      refine g_aload_n h 0 dX8_log_67 rfl rfl ?_
      refine g_get (ci := 8) (v := .ref a_items) h in_X8 0 6 rfl rfl (fle rfl) rfl q1172 rfl dX8_log_68 ?_
      refine g_bipush (v := 24) h dX8_log_71 kbipush_24 ?_
      refine g_iload_n h 2 dX8_log_73 rfl rfl ?_
      refine g_imul h dX8_log_74 ?_
      refine g_iload h 3 dX8_log_75 rfl ?_
      refine g_iadd h dX8_log_77 ?_
      refine g_iload h 4 dX8_log_78 rfl ?_
      refine g_iadd h dX8_log_80 ?_
      refine g_aload_n h 0 dX8_log_81 rfl rfl ?_
      refine g_sipush (v := 1082) h dX8_log_82 ksipush_1082 ?_
      obtain ⟨r_19, up_20, down_21, hv, hf⟩ := ob3 hf
      refine g_callV (ci := 8) (q0 := 0) (n := 1) (As := [.int 1082]) (st := [.int (((24 * x2) + x4) + x6), .ref a_items]) (wr := [(a_lane, .inl (X.E 1, 4, .inl lane)), (a_size, .inl (X.E 1, 4, .inl size)), (a_items, .inl (X.E 2, 96, .inr (.inl items))), (a_fell, .inl (X.E 1, 8, .inl fell_18))]) (isC := [0, 1, 5, 6]) (isR := [2, 3, 4, 7]) h hR (ct_X8_greatestCut (a := a) (a_w := a_w) (a_tape := a_tape) (a_lane := a_lane) (a_size := a_size) (a_items := a_items) (a_up := a_up) (a_down := a_down) (a_fell := a_fell) (a_read := a_read) (a_comesUp := a_comesUp) (a_comesDown := a_comesDown) (a_held := a_held) (x1 := 1082) (isImage := isImage) (taped := taped) (above := above_11) (below := below_12) (fallen := fallen_13) (torn := torn_14) (at_ := at_) (start := start) (number := number) (w := w_15) (up := up_16) (down := down_17) hv) rfl rfl (lw_V q1399 q1401 qs53 q80 q1402) (by decide +kernel) rfl ⟨rfl, rfl, rfl, rfl, by decide⟩ ⟨hce, hsl, fle rfl, fle rfl, fle rfl⟩ rfl dX8_log_85 (pin (perm := [4, 5, 0, 1, 2, 6, 7, 3]) (ws' := [(a, .inr (8, [.ref a_w, .int isImage, .ref a_tape, .int taped, .ref a_lane, .ref a_size, .ref a_items, .ref a_up, .ref a_down, .int above_11, .int below_12, .ref a_fell, .int fallen_13, .int torn_14, .int at_, .int start, .int number, .ref a_read, .ref a_comesUp, .ref a_comesDown, .ref a_held])), (a_w, .inl (X.E 1, 1142, .inl w_15)), (a_lane, .inl (X.E 1, 4, .inl lane)), (a_size, .inl (X.E 1, 4, .inl size)), (a_items, .inl (X.E 2, 96, .inr (.inl items))), (a_up, .inl (X.E 1, 8, .inl up_20)), (a_down, .inl (X.E 1, 8, .inl down_21)), (a_fell, .inl (X.E 1, 8, .inl fell_18))]) (stk := [.int r_19, .int (((24 * x2) + x4) + x6), .ref a_items]) rfl rfl rfl ?_)
      clear hv
      refine g_i2l h dX8_log_88 ?_
      obtain ⟨g22, hf⟩ := gn hf
      refine g_lastore (ws' := [(a, .inr (8, [.ref a_w, .int isImage, .ref a_tape, .int taped, .ref a_lane, .ref a_size, .ref a_items, .ref a_up, .ref a_down, .int above_11, .int below_12, .ref a_fell, .int fallen_13, .int torn_14, .int at_, .int start, .int number, .ref a_read, .ref a_comesUp, .ref a_comesDown, .ref a_held])), (a_w, .inl (X.E 1, 1142, .inl w_15)), (a_lane, .inl (X.E 1, 4, .inl lane)), (a_size, .inl (X.E 1, 4, .inl size)), (a_items, .inl (X.E 2, 96, .inr (.inl (vp_updL items (((24 * x2) + x4) + x6).toNatClampNeg r_19.toInt64)))), (a_up, .inl (X.E 1, 8, .inl up_20)), (a_down, .inl (X.E 1, 8, .inl down_21)), (a_fell, .inl (X.E 1, 8, .inl fell_18))]) h 4 rfl g22 rfl dX8_log_89 ?_
      refine g_iinc (j := 4) (v := (x6 + 1)) (lv' := [(6, .int (x6 + 1)), (0, .ref a), (1, .int x1), (2, .int x2), (4, .int x4)]) h dX8_log_90 rfl (kinc_1 _) (hL 6 (fle rfl)) rfl ?_
      refine g_goto (tgt := 54) h dX8_log_93 rfl ?_
      exact G.lsub [1, 2, 3, 4, 0] rfl (ih _ _ _ _ _ _ _ _ _ _ hf k0)
set_option maxHeartbeats 4000000 in
set_option maxRecDepth 100000 in
theorem ct_X8_log {l : Launch} {D : va_G} {E : Ety} {a a_w a_tape a_lane a_size a_items a_up a_down a_fell a_read a_comesUp a_comesDown a_held : Nat} {x1 : Int32} {x2 : Int32} {x3 : Int32} {x4 : Int32} {isImage : Int32} {taped : Int32} {above : Int32} {below : Int32} {fallen : Int32} {torn : Int32} {at_ : Int32} {start : Int32} {number : Int32} {w : Nat → Int32} {lane : Nat → Int32} {size : Nat → Int32} {items : Nat → Int64} {up : Nat → Int32} {down : Nat → Int32} {fell : Nat → Int32} {r_ : Int32} {o_above : Int32} {o_below : Int32} {o_fallen : Int32} {o_torn : Int32} {o_w : Nat → Int32} {o_items : Nat → Int64} {o_up : Nat → Int32} {o_down : Nat → Int32} {o_fell : Nat → Int32} (hf : f_X8_log x1 x2 x3 x4 above below fallen torn w lane size items up down fell = some (r_, o_above, o_below, o_fallen, o_torn, o_w, o_items, o_up, o_down, o_fell)) : Ct l yX8_log cX8_log 7 (some .int) 7 160 0 0 D E [.ref a, .int x1, .int x2, .int x3, .int x4] [(a, .inr (8, [.ref a_w, .int isImage, .ref a_tape, .int taped, .ref a_lane, .ref a_size, .ref a_items, .ref a_up, .ref a_down, .int above, .int below, .ref a_fell, .int fallen, .int torn, .int at_, .int start, .int number, .ref a_read, .ref a_comesUp, .ref a_comesDown, .ref a_held])), (a_w, .inl (E 1, 1142, .inl w)), (a_lane, .inl (E 1, 4, .inl lane)), (a_size, .inl (E 1, 4, .inl size)), (a_items, .inl (E 2, 96, .inr (.inl items))), (a_up, .inl (E 1, 8, .inl up)), (a_down, .inl (E 1, 8, .inl down)), (a_fell, .inl (E 1, 8, .inl fell))] (Pn (some (.int r_)) [(a, .inr (8, [.ref a_w, .int isImage, .ref a_tape, .int taped, .ref a_lane, .ref a_size, .ref a_items, .ref a_up, .ref a_down, .int o_above, .int o_below, .ref a_fell, .int o_fallen, .int o_torn, .int at_, .int start, .int number, .ref a_read, .ref a_comesUp, .ref a_comesDown, .ref a_held])), (a_w, .inl (E 1, 1142, .inl o_w)), (a_lane, .inl (E 1, 4, .inl lane)), (a_size, .inl (E 1, 4, .inl size)), (a_items, .inl (E 2, 96, .inr (.inl o_items))), (a_up, .inl (E 1, 8, .inl o_up)), (a_down, .inl (E 1, 8, .inl o_down)), (a_fell, .inl (E 1, 8, .inl o_fell))]) := by
  refine ct_of (own := RX8) (plainFor_of_name (by decide)) rfl (fle rfl) rfl ?_
  intro X hl hD hE hnL hXF h hR hF hnm
  subst hl; subst hD; subst hE
  have hL : ∀ i, i < 7 → i < X.nL := fun i hi => by rw [hnL]; exact hi
  unfold f_X8_log at hf
  refine g_iload_n h 1 dX8_log_0 rfl rfl ?_
  refine g_i2l h dX8_log_1 ?_
  refine g_lconst (v := 1) h dX8_log_2 rfl ?_
  refine g_ldc2 h q1445 dX8_log_3 ?_
  obtain ⟨r_1, hv, hf⟩ := ob1 hf
  refine g_callS (n := 3) (As := [.long x1.toInt64, .long 1, .long 24]) (st := []) (wr := [(a, .inr (8, [.ref a_w, .int isImage, .ref a_tape, .int taped, .ref a_lane, .ref a_size, .ref a_items, .ref a_up, .ref a_down, .int above, .int below, .ref a_fell, .int fallen, .int torn, .int at_, .int start, .int number, .ref a_read, .ref a_comesUp, .ref a_comesDown, .ref a_held])), (a_w, .inl (X.E 1, 1142, .inl w)), (a_lane, .inl (X.E 1, 4, .inl lane)), (a_size, .inl (X.E 1, 4, .inl size)), (a_items, .inl (X.E 2, 96, .inr (.inl items))), (a_up, .inl (X.E 1, 8, .inl up)), (a_down, .inl (X.E 1, 8, .inl down)), (a_fell, .inl (X.E 1, 8, .inl fell))]) (isC := []) (isR := [0, 1, 2, 3, 4, 5, 6, 7]) h hR (ct_X8_in (x0 := x1.toInt64) (x2 := 1) (x4 := 24) hv) (lw_S q1236 q1237 q80 q1238) (by decide +kernel) rfl ⟨rfl, rfl, rfl, rfl, by decide⟩ ⟨fle rfl, fle rfl, fle rfl, fle rfl, fle rfl⟩ rfl dX8_log_6 (pin (perm := [0, 1, 2, 3, 4, 5, 6, 7]) (ws' := [(a, .inr (8, [.ref a_w, .int isImage, .ref a_tape, .int taped, .ref a_lane, .ref a_size, .ref a_items, .ref a_up, .ref a_down, .int above, .int below, .ref a_fell, .int fallen, .int torn, .int at_, .int start, .int number, .ref a_read, .ref a_comesUp, .ref a_comesDown, .ref a_held])), (a_w, .inl (X.E 1, 1142, .inl w)), (a_lane, .inl (X.E 1, 4, .inl lane)), (a_size, .inl (X.E 1, 4, .inl size)), (a_items, .inl (X.E 2, 96, .inr (.inl items))), (a_up, .inl (X.E 1, 8, .inl up)), (a_down, .inl (X.E 1, 8, .inl down)), (a_fell, .inl (X.E 1, 8, .inl fell))]) (stk := [.int r_1]) rfl rfl rfl ?_)
  clear hv
  refine g_if_eq (tgt := 26) h dX8_log_9 rfl hf (fun c2 hf => ?_) (fun c2 hf => ?_)
  · refine g_iconst (v := (-1)) h dX8_log_26 kiconst_m1 ?_
    obtain ⟨rfl, rfl, rfl, rfl, rfl, rfl, rfl, rfl, rfl, rfl⟩ := sj10 hf
    exact g_iret h hF [0, 1, 2, 3, 4, 5, 6, 7] rfl rfl ⟨rfl, rfl⟩ (fle rfl) (fle rfl) dX8_log_27
  · refine g_iload_n h 2 dX8_log_12 rfl rfl ?_
    obtain ⟨r_3, hv, hf⟩ := ob1 hf
    refine g_callS (n := 1) (As := [.int x2]) (st := []) (wr := [(a, .inr (8, [.ref a_w, .int isImage, .ref a_tape, .int taped, .ref a_lane, .ref a_size, .ref a_items, .ref a_up, .ref a_down, .int above, .int below, .ref a_fell, .int fallen, .int torn, .int at_, .int start, .int number, .ref a_read, .ref a_comesUp, .ref a_comesDown, .ref a_held])), (a_w, .inl (X.E 1, 1142, .inl w)), (a_lane, .inl (X.E 1, 4, .inl lane)), (a_size, .inl (X.E 1, 4, .inl size)), (a_items, .inl (X.E 2, 96, .inr (.inl items))), (a_up, .inl (X.E 1, 8, .inl up)), (a_down, .inl (X.E 1, 8, .inl down)), (a_fell, .inl (X.E 1, 8, .inl fell))]) (isC := []) (isR := [0, 1, 2, 3, 4, 5, 6, 7]) h hR (ct_X8_isRegister (x0 := x2) hv) (lw_S q1534 q1535 q80 q1536) (by decide +kernel) rfl ⟨rfl, rfl, rfl, rfl, by decide⟩ ⟨fle rfl, fle rfl, fle rfl, fle rfl, fle rfl⟩ rfl dX8_log_13 (pin (perm := [0, 1, 2, 3, 4, 5, 6, 7]) (ws' := [(a, .inr (8, [.ref a_w, .int isImage, .ref a_tape, .int taped, .ref a_lane, .ref a_size, .ref a_items, .ref a_up, .ref a_down, .int above, .int below, .ref a_fell, .int fallen, .int torn, .int at_, .int start, .int number, .ref a_read, .ref a_comesUp, .ref a_comesDown, .ref a_held])), (a_w, .inl (X.E 1, 1142, .inl w)), (a_lane, .inl (X.E 1, 4, .inl lane)), (a_size, .inl (X.E 1, 4, .inl size)), (a_items, .inl (X.E 2, 96, .inr (.inl items))), (a_up, .inl (X.E 1, 8, .inl up)), (a_down, .inl (X.E 1, 8, .inl down)), (a_fell, .inl (X.E 1, 8, .inl fell))]) (stk := [.int r_3]) rfl rfl rfl ?_)
    clear hv
    refine g_if_eq (tgt := 26) h dX8_log_16 rfl hf (fun c4 hf => ?_) (fun c4 hf => ?_)
    · refine g_iconst (v := (-1)) h dX8_log_26 kiconst_m1 ?_
      obtain ⟨rfl, rfl, rfl, rfl, rfl, rfl, rfl, rfl, rfl, rfl⟩ := sj10 hf
      exact g_iret h hF [0, 1, 2, 3, 4, 5, 6, 7] rfl rfl ⟨rfl, rfl⟩ (fle rfl) (fle rfl) dX8_log_27
    · refine g_iload_n h 3 dX8_log_19 rfl rfl ?_
      obtain ⟨r_5, hv, hf⟩ := ob1 hf
      refine g_callS (n := 1) (As := [.int x3]) (st := []) (wr := [(a, .inr (8, [.ref a_w, .int isImage, .ref a_tape, .int taped, .ref a_lane, .ref a_size, .ref a_items, .ref a_up, .ref a_down, .int above, .int below, .ref a_fell, .int fallen, .int torn, .int at_, .int start, .int number, .ref a_read, .ref a_comesUp, .ref a_comesDown, .ref a_held])), (a_w, .inl (X.E 1, 1142, .inl w)), (a_lane, .inl (X.E 1, 4, .inl lane)), (a_size, .inl (X.E 1, 4, .inl size)), (a_items, .inl (X.E 2, 96, .inr (.inl items))), (a_up, .inl (X.E 1, 8, .inl up)), (a_down, .inl (X.E 1, 8, .inl down)), (a_fell, .inl (X.E 1, 8, .inl fell))]) (isC := []) (isR := [0, 1, 2, 3, 4, 5, 6, 7]) h hR (ct_X8_isLane (x0 := x3) hv) (lw_S q1538 q1539 q80 q1540) (by decide +kernel) rfl ⟨rfl, rfl, rfl, rfl, by decide⟩ ⟨fle rfl, fle rfl, fle rfl, fle rfl, fle rfl⟩ rfl dX8_log_20 (pin (perm := [0, 1, 2, 3, 4, 5, 6, 7]) (ws' := [(a, .inr (8, [.ref a_w, .int isImage, .ref a_tape, .int taped, .ref a_lane, .ref a_size, .ref a_items, .ref a_up, .ref a_down, .int above, .int below, .ref a_fell, .int fallen, .int torn, .int at_, .int start, .int number, .ref a_read, .ref a_comesUp, .ref a_comesDown, .ref a_held])), (a_w, .inl (X.E 1, 1142, .inl w)), (a_lane, .inl (X.E 1, 4, .inl lane)), (a_size, .inl (X.E 1, 4, .inl size)), (a_items, .inl (X.E 2, 96, .inr (.inl items))), (a_up, .inl (X.E 1, 8, .inl up)), (a_down, .inl (X.E 1, 8, .inl down)), (a_fell, .inl (X.E 1, 8, .inl fell))]) (stk := [.int r_5]) rfl rfl rfl ?_)
      clear hv
      refine g_if_ne (tgt := 28) h dX8_log_23 rfl hf (fun c6 hf => ?_) (fun c6 hf => ?_)
      · refine g_iconst (v := (-1)) h dX8_log_26 kiconst_m1 ?_
        obtain ⟨rfl, rfl, rfl, rfl, rfl, rfl, rfl, rfl, rfl, rfl⟩ := sj10 hf
        exact g_iret h hF [0, 1, 2, 3, 4, 5, 6, 7] rfl rfl ⟨rfl, rfl⟩ (fle rfl) (fle rfl) dX8_log_27
      · refine g_aload_n h 0 dX8_log_28 rfl rfl ?_
        refine g_iload_n h 2 dX8_log_29 rfl rfl ?_
        refine g_iload_n h 3 dX8_log_30 rfl rfl ?_
        refine g_iload h 4 dX8_log_31 rfl ?_
        refine g_iload_n h 1 dX8_log_33 rfl rfl ?_
        obtain ⟨r_7, hv, hf⟩ := ob1 hf
        refine g_callV (ci := 8) (q0 := 0) (n := 4) (As := [.int x2, .int x3, .int x4, .int x1]) (st := []) (wr := [(a_w, .inl (X.E 1, 1142, .inl w)), (a_items, .inl (X.E 2, 96, .inr (.inl items))), (a_up, .inl (X.E 1, 8, .inl up)), (a_down, .inl (X.E 1, 8, .inl down)), (a_fell, .inl (X.E 1, 8, .inl fell))]) (isC := [0, 2, 3]) (isR := [1, 4, 5, 6, 7]) h hR (ct_X8_against (a := a) (a_w := a_w) (a_tape := a_tape) (a_lane := a_lane) (a_size := a_size) (a_items := a_items) (a_up := a_up) (a_down := a_down) (a_fell := a_fell) (a_read := a_read) (a_comesUp := a_comesUp) (a_comesDown := a_comesDown) (a_held := a_held) (x1 := x2) (x2 := x3) (x3 := x4) (x4 := x1) (isImage := isImage) (taped := taped) (above := above) (below := below) (fallen := fallen) (torn := torn) (at_ := at_) (start := start) (number := number) (lane := lane) (size := size) hv) rfl rfl (lw_V q1545 q1547 qs66 q80 q1548) (by decide +kernel) rfl ⟨rfl, rfl, rfl, rfl, by decide⟩ ⟨fle rfl, fle rfl, fle rfl, fle rfl, fle rfl⟩ rfl dX8_log_34 (pin (perm := [5, 0, 6, 7, 1, 2, 3, 4]) (ws' := [(a, .inr (8, [.ref a_w, .int isImage, .ref a_tape, .int taped, .ref a_lane, .ref a_size, .ref a_items, .ref a_up, .ref a_down, .int above, .int below, .ref a_fell, .int fallen, .int torn, .int at_, .int start, .int number, .ref a_read, .ref a_comesUp, .ref a_comesDown, .ref a_held])), (a_w, .inl (X.E 1, 1142, .inl w)), (a_lane, .inl (X.E 1, 4, .inl lane)), (a_size, .inl (X.E 1, 4, .inl size)), (a_items, .inl (X.E 2, 96, .inr (.inl items))), (a_up, .inl (X.E 1, 8, .inl up)), (a_down, .inl (X.E 1, 8, .inl down)), (a_fell, .inl (X.E 1, 8, .inl fell))]) (stk := [.int r_7]) rfl rfl rfl ?_)
        clear hv
        refine g_istore (lv' := [(5, .int r_7), (0, .ref a), (1, .int x1), (2, .int x2), (3, .int x3), (4, .int x4)]) h dX8_log_37 (hL 5 (fle rfl)) rfl ?_
        refine g_iload h 0 dX8_log_39 rfl ?_
        refine g_if_ge (tgt := 47) h dX8_log_41 rfl hf (fun c8 hf => ?_) (fun c8 hf => ?_)
        · refine g_aload_n h 1 dX8_log_47 rfl rfl ?_
          obtain ⟨w_9, hv, hf⟩ := ob1 hf
          refine g_callV (ci := 8) (q0 := 0) (n := 0) (As := []) (st := []) (wr := [(a_lane, .inl (X.E 1, 4, .inl lane)), (a_size, .inl (X.E 1, 4, .inl size)), (a_items, .inl (X.E 2, 96, .inr (.inl items))), (a_up, .inl (X.E 1, 8, .inl up)), (a_down, .inl (X.E 1, 8, .inl down)), (a_fell, .inl (X.E 1, 8, .inl fell))]) (isC := [0, 1]) (isR := [2, 3, 4, 5, 6, 7]) h hR (ct_X8_tries (a := a) (a_w := a_w) (a_tape := a_tape) (a_lane := a_lane) (a_size := a_size) (a_items := a_items) (a_up := a_up) (a_down := a_down) (a_fell := a_fell) (a_read := a_read) (a_comesUp := a_comesUp) (a_comesDown := a_comesDown) (a_held := a_held) (isImage := isImage) (taped := taped) (above := above) (below := below) (fallen := fallen) (torn := torn) (at_ := at_) (start := start) (number := number) (w := w) hv) rfl rfl (lw_V q1477 q1479 qs60 q80 q1480) (by decide +kernel) rfl ⟨rfl, rfl, rfl, rfl, by decide⟩ ⟨fle rfl, fle rfl, fle rfl, fle rfl, fle rfl⟩ rfl dX8_log_48 (pin (perm := [6, 7, 0, 1, 2, 3, 4, 5]) (ws' := [(a, .inr (8, [.ref a_w, .int isImage, .ref a_tape, .int taped, .ref a_lane, .ref a_size, .ref a_items, .ref a_up, .ref a_down, .int above, .int below, .ref a_fell, .int fallen, .int torn, .int at_, .int start, .int number, .ref a_read, .ref a_comesUp, .ref a_comesDown, .ref a_held])), (a_w, .inl (X.E 1, 1142, .inl w_9)), (a_lane, .inl (X.E 1, 4, .inl lane)), (a_size, .inl (X.E 1, 4, .inl size)), (a_items, .inl (X.E 2, 96, .inr (.inl items))), (a_up, .inl (X.E 1, 8, .inl up)), (a_down, .inl (X.E 1, 8, .inl down)), (a_fell, .inl (X.E 1, 8, .inl fell))]) (stk := []) rfl rfl rfl ?_)
          clear hv
          refine g_iconst (v := 0) h dX8_log_51 kiconst_0 ?_
          refine g_istore (lv' := [(6, .int 0), (5, .int r_7), (0, .ref a), (1, .int x1), (2, .int x2), (3, .int x3), (4, .int x4)]) h dX8_log_52 (hL 6 (fle rfl)) rfl ?_
          refine G.lsub (lv' := [(0, .ref a), (1, .int x1), (2, .int x2), (4, .int x4), (6, .int 0)]) [2, 3, 4, 6, 0] rfl ?_
          obtain ⟨above_23, below_24, fallen_25, torn_26, w_27, items_28, up_29, down_30, fell_31, hv, hf⟩ := ob9 hf
          refine w_X8_log_L54 (x1 := x1) (x2 := x2) (x4 := x4) (isImage := isImage) (taped := taped) (at_ := at_) (start := start) (number := number) (lane := lane) (size := size) h hR hL (fle rfl) (fle rfl) FU _ _ _ _ _ _ _ _ _ _ hv ?_
          · clear hv
            refine g_iload_n h 0 dX8_log_96 rfl rfl ?_
            obtain ⟨rfl, rfl, rfl, rfl, rfl, rfl, rfl, rfl, rfl, rfl⟩ := sj10 hf
            exact g_iret h hF [0, 1, 2, 3, 4, 5, 6, 7] rfl rfl ⟨rfl, rfl⟩ (fle rfl) (fle rfl) dX8_log_97
        · refine g_iload h 0 dX8_log_44 rfl ?_
          obtain ⟨rfl, rfl, rfl, rfl, rfl, rfl, rfl, rfl, rfl, rfl⟩ := sj10 hf
          exact g_iret h hF [0, 1, 2, 3, 4, 5, 6, 7] rfl rfl ⟨rfl, rfl⟩ (fle rfl) (fle rfl) dX8_log_46
set_option maxHeartbeats 4000000 in
set_option maxRecDepth 100000 in
theorem w_X8_sheet_L46 {X : Cx} {a a_comesDown a_comesUp a_down a_fell a_held a_items a_lane a_read a_size a_tape a_up a_w : Nat} {x1 : Int32} {x3 : Int32} {isImage : Int32} {taped : Int32} {above : Int32} {below : Int32} {fallen : Int32} {torn : Int32} {at_ : Int32} {start : Int32} {number : Int32} {lane : Nat → Int32} {size : Nat → Int32} {ce sl : Nat} (h : Ok X cX8_sheet RX8) (hR : Rm X 2 45 0 0) (hL : ∀ i, i < 5 → i < X.nL) (hce : ce ≤ 0) (hsl : sl ≤ 0) : ∀ (n0 : Nat) (x4 : Int32) (items : Nat → Int64) {o_items : Nat → Int64}, f_X8_sheet_L46 x1 n0 x4 items = some o_items → (G X [(a, .inr (8, [.ref a_w, .int isImage, .ref a_tape, .int taped, .ref a_lane, .ref a_size, .ref a_items, .ref a_up, .ref a_down, .int above, .int below, .ref a_fell, .int fallen, .int torn, .int at_, .int start, .int number, .ref a_read, .ref a_comesUp, .ref a_comesDown, .ref a_held])), (a_lane, .inl (X.E 1, 4, .inl lane)), (a_size, .inl (X.E 1, 4, .inl size)), (a_items, .inl (X.E 2, 96, .inr (.inl o_items)))] [(3, .int x3)] ce sl 72 []) → G X [(a, .inr (8, [.ref a_w, .int isImage, .ref a_tape, .int taped, .ref a_lane, .ref a_size, .ref a_items, .ref a_up, .ref a_down, .int above, .int below, .ref a_fell, .int fallen, .int torn, .int at_, .int start, .int number, .ref a_read, .ref a_comesUp, .ref a_comesDown, .ref a_held])), (a_lane, .inl (X.E 1, 4, .inl lane)), (a_size, .inl (X.E 1, 4, .inl size)), (a_items, .inl (X.E 2, 96, .inr (.inl items)))] [(0, .ref a), (1, .int x1), (3, .int x3), (4, .int x4)] ce sl 46 [] := by
  intro n0
  induction n0 with
  | zero => intro x4 items o_items hf; exact nomatch (show (none : Option _) = some _ from hf)
  | succ n0 ih =>
    intro x4 items o_items hf k0
    replace hf : t_X8_sheet_L46 x1 (f_X8_sheet_L46 x1 n0) x4 items = some o_items := hf
    unfold t_X8_sheet_L46 at hf
    refine g_iload h 3 dX8_sheet_46 rfl ?_
    refine g_bipush (v := 24) h dX8_sheet_48 kbipush_24 ?_
    refine g_icmp_ge (tgt := 72) h dX8_sheet_50 rfl hf (fun c8 hf => ?_) (fun c8 hf => ?_)
    · obtain rfl := sj1 hf
      exact G.lsub [2] rfl k0
    · refine g_aload_n h 0 dX8_sheet_53 rfl rfl ?_
      refine g_get (ci := 8) (v := .ref a_items) h in_X8 0 6 rfl rfl (fle rfl) rfl q1172 rfl dX8_sheet_54 ?_
      refine g_bipush (v := 24) h dX8_sheet_57 kbipush_24 ?_
      refine g_iload_n h 1 dX8_sheet_59 rfl rfl ?_
      refine g_imul h dX8_sheet_60 ?_
      refine g_iload h 3 dX8_sheet_61 rfl ?_
      refine g_iadd h dX8_sheet_63 ?_
      refine g_lconst (v := 0) h dX8_sheet_64 rfl ?_
      obtain ⟨g9, hf⟩ := gn hf
      refine g_lastore (ws' := [(a, .inr (8, [.ref a_w, .int isImage, .ref a_tape, .int taped, .ref a_lane, .ref a_size, .ref a_items, .ref a_up, .ref a_down, .int above, .int below, .ref a_fell, .int fallen, .int torn, .int at_, .int start, .int number, .ref a_read, .ref a_comesUp, .ref a_comesDown, .ref a_held])), (a_lane, .inl (X.E 1, 4, .inl lane)), (a_size, .inl (X.E 1, 4, .inl size)), (a_items, .inl (X.E 2, 96, .inr (.inl (vp_updL items ((24 * x1) + x4).toNatClampNeg 0))))]) h 3 rfl g9 rfl dX8_sheet_65 ?_
      refine g_iinc (j := 3) (v := (x4 + 1)) (lv' := [(4, .int (x4 + 1)), (0, .ref a), (1, .int x1), (3, .int x3)]) h dX8_sheet_66 rfl (kinc_1 _) (hL 4 (fle rfl)) rfl ?_
      refine g_goto (tgt := 46) h dX8_sheet_69 rfl ?_
      exact G.lsub [1, 2, 3, 0] rfl (ih _ _ hf k0)
set_option maxHeartbeats 4000000 in
set_option maxRecDepth 100000 in
theorem ct_X8_sheet {l : Launch} {D : va_G} {E : Ety} {a a_w a_tape a_lane a_size a_items a_up a_down a_fell a_read a_comesUp a_comesDown a_held : Nat} {x1 : Int32} {x2 : Int32} {x3 : Int32} {isImage : Int32} {taped : Int32} {above : Int32} {below : Int32} {fallen : Int32} {torn : Int32} {at_ : Int32} {start : Int32} {number : Int32} {lane : Nat → Int32} {size : Nat → Int32} {items : Nat → Int64} {r_ : Int32} {o_lane : Nat → Int32} {o_size : Nat → Int32} {o_items : Nat → Int64} (hf : f_X8_sheet x1 x2 x3 lane size items = some (r_, o_lane, o_size, o_items)) : Ct l yX8_sheet cX8_sheet 5 (some .int) 2 45 0 0 D E [.ref a, .int x1, .int x2, .int x3] [(a, .inr (8, [.ref a_w, .int isImage, .ref a_tape, .int taped, .ref a_lane, .ref a_size, .ref a_items, .ref a_up, .ref a_down, .int above, .int below, .ref a_fell, .int fallen, .int torn, .int at_, .int start, .int number, .ref a_read, .ref a_comesUp, .ref a_comesDown, .ref a_held])), (a_lane, .inl (E 1, 4, .inl lane)), (a_size, .inl (E 1, 4, .inl size)), (a_items, .inl (E 2, 96, .inr (.inl items)))] (Pn (some (.int r_)) [(a, .inr (8, [.ref a_w, .int isImage, .ref a_tape, .int taped, .ref a_lane, .ref a_size, .ref a_items, .ref a_up, .ref a_down, .int above, .int below, .ref a_fell, .int fallen, .int torn, .int at_, .int start, .int number, .ref a_read, .ref a_comesUp, .ref a_comesDown, .ref a_held])), (a_lane, .inl (E 1, 4, .inl o_lane)), (a_size, .inl (E 1, 4, .inl o_size)), (a_items, .inl (E 2, 96, .inr (.inl o_items)))]) := by
  refine ct_of (own := RX8) (plainFor_of_name (by decide)) rfl (fle rfl) rfl ?_
  intro X hl hD hE hnL hXF h hR hF hnm
  subst hl; subst hD; subst hE
  have hL : ∀ i, i < 5 → i < X.nL := fun i hi => by rw [hnL]; exact hi
  unfold f_X8_sheet at hf
  refine g_iload_n h 1 dX8_sheet_0 rfl rfl ?_
  obtain ⟨r_1, hv, hf⟩ := ob1 hf
  refine g_callS (n := 1) (As := [.int x1]) (st := []) (wr := [(a, .inr (8, [.ref a_w, .int isImage, .ref a_tape, .int taped, .ref a_lane, .ref a_size, .ref a_items, .ref a_up, .ref a_down, .int above, .int below, .ref a_fell, .int fallen, .int torn, .int at_, .int start, .int number, .ref a_read, .ref a_comesUp, .ref a_comesDown, .ref a_held])), (a_lane, .inl (X.E 1, 4, .inl lane)), (a_size, .inl (X.E 1, 4, .inl size)), (a_items, .inl (X.E 2, 96, .inr (.inl items)))]) (isC := []) (isR := [0, 1, 2, 3]) h hR (ct_X8_isRegister (x0 := x1) hv) (lw_S q1534 q1535 q80 q1536) (by decide +kernel) rfl ⟨rfl, rfl, rfl, rfl, by decide⟩ ⟨fle rfl, fle rfl, fle rfl, fle rfl, fle rfl⟩ rfl dX8_sheet_1 (pin (perm := [0, 1, 2, 3]) (ws' := [(a, .inr (8, [.ref a_w, .int isImage, .ref a_tape, .int taped, .ref a_lane, .ref a_size, .ref a_items, .ref a_up, .ref a_down, .int above, .int below, .ref a_fell, .int fallen, .int torn, .int at_, .int start, .int number, .ref a_read, .ref a_comesUp, .ref a_comesDown, .ref a_held])), (a_lane, .inl (X.E 1, 4, .inl lane)), (a_size, .inl (X.E 1, 4, .inl size)), (a_items, .inl (X.E 2, 96, .inr (.inl items)))]) (stk := [.int r_1]) rfl rfl rfl ?_)
  clear hv
  refine g_if_eq (tgt := 20) h dX8_sheet_4 rfl hf (fun c2 hf => ?_) (fun c2 hf => ?_)
  · refine g_iconst (v := (-1)) h dX8_sheet_20 kiconst_m1 ?_
    obtain ⟨rfl, rfl, rfl, rfl⟩ := sj4 hf
    exact g_iret h hF [0, 1, 2, 3] rfl rfl ⟨rfl, rfl⟩ (fle rfl) (fle rfl) dX8_sheet_21
  · refine g_iload_n h 2 dX8_sheet_7 rfl rfl ?_
    obtain ⟨r_3, hv, hf⟩ := ob1 hf
    refine g_callS (n := 1) (As := [.int x2]) (st := []) (wr := [(a, .inr (8, [.ref a_w, .int isImage, .ref a_tape, .int taped, .ref a_lane, .ref a_size, .ref a_items, .ref a_up, .ref a_down, .int above, .int below, .ref a_fell, .int fallen, .int torn, .int at_, .int start, .int number, .ref a_read, .ref a_comesUp, .ref a_comesDown, .ref a_held])), (a_lane, .inl (X.E 1, 4, .inl lane)), (a_size, .inl (X.E 1, 4, .inl size)), (a_items, .inl (X.E 2, 96, .inr (.inl items)))]) (isC := []) (isR := [0, 1, 2, 3]) h hR (ct_X8_isLane (x0 := x2) hv) (lw_S q1538 q1539 q80 q1540) (by decide +kernel) rfl ⟨rfl, rfl, rfl, rfl, by decide⟩ ⟨fle rfl, fle rfl, fle rfl, fle rfl, fle rfl⟩ rfl dX8_sheet_8 (pin (perm := [0, 1, 2, 3]) (ws' := [(a, .inr (8, [.ref a_w, .int isImage, .ref a_tape, .int taped, .ref a_lane, .ref a_size, .ref a_items, .ref a_up, .ref a_down, .int above, .int below, .ref a_fell, .int fallen, .int torn, .int at_, .int start, .int number, .ref a_read, .ref a_comesUp, .ref a_comesDown, .ref a_held])), (a_lane, .inl (X.E 1, 4, .inl lane)), (a_size, .inl (X.E 1, 4, .inl size)), (a_items, .inl (X.E 2, 96, .inr (.inl items)))]) (stk := [.int r_3]) rfl rfl rfl ?_)
    clear hv
    refine g_if_eq (tgt := 20) h dX8_sheet_11 rfl hf (fun c4 hf => ?_) (fun c4 hf => ?_)
    · refine g_iconst (v := (-1)) h dX8_sheet_20 kiconst_m1 ?_
      obtain ⟨rfl, rfl, rfl, rfl⟩ := sj4 hf
      exact g_iret h hF [0, 1, 2, 3] rfl rfl ⟨rfl, rfl⟩ (fle rfl) (fle rfl) dX8_sheet_21
    · refine g_iload_n h 3 dX8_sheet_14 rfl rfl ?_
      refine g_bipush (v := 24) h dX8_sheet_15 kbipush_24 ?_
      refine g_icmp_le (tgt := 22) h dX8_sheet_17 rfl hf (fun c5 hf => ?_) (fun c5 hf => ?_)
      · refine g_iload_n h 3 dX8_sheet_22 rfl rfl ?_
        refine g_if_ge (tgt := 29) h dX8_sheet_23 rfl hf (fun c6 hf => ?_) (fun c6 hf => ?_)
        · refine g_aload_n h 0 dX8_sheet_29 rfl rfl ?_
          refine g_get (ci := 8) (v := .ref a_lane) h in_X8 0 4 rfl rfl (fle rfl) rfl q1170 rfl dX8_sheet_30 ?_
          refine g_iload_n h 1 dX8_sheet_33 rfl rfl ?_
          refine g_iload_n h 2 dX8_sheet_34 rfl rfl ?_
          obtain ⟨g7, hf⟩ := gn hf
          refine g_iastore (ws' := [(a, .inr (8, [.ref a_w, .int isImage, .ref a_tape, .int taped, .ref a_lane, .ref a_size, .ref a_items, .ref a_up, .ref a_down, .int above, .int below, .ref a_fell, .int fallen, .int torn, .int at_, .int start, .int number, .ref a_read, .ref a_comesUp, .ref a_comesDown, .ref a_held])), (a_lane, .inl (X.E 1, 4, .inl (upd lane x1.toNatClampNeg x2))), (a_size, .inl (X.E 1, 4, .inl size)), (a_items, .inl (X.E 2, 96, .inr (.inl items)))]) h 1 rfl g7 rfl dX8_sheet_35 ?_
          refine g_aload_n h 0 dX8_sheet_36 rfl rfl ?_
          refine g_get (ci := 8) (v := .ref a_size) h in_X8 0 5 rfl rfl (fle rfl) rfl q1171 rfl dX8_sheet_37 ?_
          refine g_iload_n h 1 dX8_sheet_40 rfl rfl ?_
          refine g_iload_n h 3 dX8_sheet_41 rfl rfl ?_
          refine g_iastore (ws' := [(a, .inr (8, [.ref a_w, .int isImage, .ref a_tape, .int taped, .ref a_lane, .ref a_size, .ref a_items, .ref a_up, .ref a_down, .int above, .int below, .ref a_fell, .int fallen, .int torn, .int at_, .int start, .int number, .ref a_read, .ref a_comesUp, .ref a_comesDown, .ref a_held])), (a_lane, .inl (X.E 1, 4, .inl (upd lane x1.toNatClampNeg x2))), (a_size, .inl (X.E 1, 4, .inl (upd size x1.toNatClampNeg x3))), (a_items, .inl (X.E 2, 96, .inr (.inl items)))]) h 2 rfl g7 rfl dX8_sheet_42 ?_
          refine g_iconst (v := 0) h dX8_sheet_43 kiconst_0 ?_
          refine g_istore (lv' := [(4, .int 0), (0, .ref a), (1, .int x1), (2, .int x2), (3, .int x3)]) h dX8_sheet_44 (hL 4 (fle rfl)) rfl ?_
          refine G.lsub (lv' := [(0, .ref a), (1, .int x1), (3, .int x3), (4, .int 0)]) [1, 2, 4, 0] rfl ?_
          obtain ⟨items_10, hv, hf⟩ := ob1 hf
          refine w_X8_sheet_L46 (x1 := x1) (x3 := x3) (isImage := isImage) (taped := taped) (above := above) (below := below) (fallen := fallen) (torn := torn) (at_ := at_) (start := start) (number := number) (lane := upd lane x1.toNatClampNeg x2) (size := upd size x1.toNatClampNeg x3) h hR hL (fle rfl) (fle rfl) FU _ _ hv ?_
          · clear hv
            refine g_iload_n h 0 dX8_sheet_72 rfl rfl ?_
            obtain ⟨rfl, rfl, rfl, rfl⟩ := sj4 hf
            exact g_iret h hF [0, 1, 2, 3] rfl rfl ⟨rfl, rfl⟩ (fle rfl) (fle rfl) dX8_sheet_73
        · refine g_bipush (v := (-14)) h dX8_sheet_26 kbipush_m14 ?_
          obtain ⟨rfl, rfl, rfl, rfl⟩ := sj4 hf
          exact g_iret h hF [0, 1, 2, 3] rfl rfl ⟨rfl, rfl⟩ (fle rfl) (fle rfl) dX8_sheet_28
      · refine g_iconst (v := (-1)) h dX8_sheet_20 kiconst_m1 ?_
        obtain ⟨rfl, rfl, rfl, rfl⟩ := sj4 hf
        exact g_iret h hF [0, 1, 2, 3] rfl rfl ⟨rfl, rfl⟩ (fle rfl) (fle rfl) dX8_sheet_21
set_option maxHeartbeats 4000000 in
set_option maxRecDepth 100000 in
theorem ct_X8_drop {l : Launch} {D : va_G} {E : Ety} {a a_w a_tape a_lane a_size a_items a_up a_down a_fell a_read a_comesUp a_comesDown a_held : Nat} {x1 : Int32} {isImage : Int32} {taped : Int32} {above : Int32} {below : Int32} {fallen : Int32} {torn : Int32} {at_ : Int32} {start : Int32} {number : Int32} {lane : Nat → Int32} {size : Nat → Int32} {r_ : Int32} {o_lane : Nat → Int32} (hf : f_X8_drop x1 lane size = some (r_, o_lane)) : Ct l yX8_drop cX8_drop 2 (some .int) 2 45 0 0 D E [.ref a, .int x1] [(a, .inr (8, [.ref a_w, .int isImage, .ref a_tape, .int taped, .ref a_lane, .ref a_size, .ref a_items, .ref a_up, .ref a_down, .int above, .int below, .ref a_fell, .int fallen, .int torn, .int at_, .int start, .int number, .ref a_read, .ref a_comesUp, .ref a_comesDown, .ref a_held])), (a_lane, .inl (E 1, 4, .inl lane)), (a_size, .inl (E 1, 4, .inl size))] (Pn (some (.int r_)) [(a, .inr (8, [.ref a_w, .int isImage, .ref a_tape, .int taped, .ref a_lane, .ref a_size, .ref a_items, .ref a_up, .ref a_down, .int above, .int below, .ref a_fell, .int fallen, .int torn, .int at_, .int start, .int number, .ref a_read, .ref a_comesUp, .ref a_comesDown, .ref a_held])), (a_lane, .inl (E 1, 4, .inl o_lane)), (a_size, .inl (E 1, 4, .inl size))]) := by
  refine ct_of (own := RX8) (plainFor_of_name (by decide)) rfl (fle rfl) rfl ?_
  intro X hl hD hE hnL hXF h hR hF hnm
  subst hl; subst hD; subst hE
  have hL : ∀ i, i < 2 → i < X.nL := fun i hi => by rw [hnL]; exact hi
  unfold f_X8_drop at hf
  refine g_iload_n h 1 dX8_drop_0 rfl rfl ?_
  obtain ⟨r_1, hv, hf⟩ := ob1 hf
  refine g_callS (n := 1) (As := [.int x1]) (st := []) (wr := [(a, .inr (8, [.ref a_w, .int isImage, .ref a_tape, .int taped, .ref a_lane, .ref a_size, .ref a_items, .ref a_up, .ref a_down, .int above, .int below, .ref a_fell, .int fallen, .int torn, .int at_, .int start, .int number, .ref a_read, .ref a_comesUp, .ref a_comesDown, .ref a_held])), (a_lane, .inl (X.E 1, 4, .inl lane)), (a_size, .inl (X.E 1, 4, .inl size))]) (isC := []) (isR := [0, 1, 2]) h hR (ct_X8_isRegister (x0 := x1) hv) (lw_S q1534 q1535 q80 q1536) (by decide +kernel) rfl ⟨rfl, rfl, rfl, rfl, by decide⟩ ⟨fle rfl, fle rfl, fle rfl, fle rfl, fle rfl⟩ rfl dX8_drop_1 (pin (perm := [0, 1, 2]) (ws' := [(a, .inr (8, [.ref a_w, .int isImage, .ref a_tape, .int taped, .ref a_lane, .ref a_size, .ref a_items, .ref a_up, .ref a_down, .int above, .int below, .ref a_fell, .int fallen, .int torn, .int at_, .int start, .int number, .ref a_read, .ref a_comesUp, .ref a_comesDown, .ref a_held])), (a_lane, .inl (X.E 1, 4, .inl lane)), (a_size, .inl (X.E 1, 4, .inl size))]) (stk := [.int r_1]) rfl rfl rfl ?_)
  clear hv
  refine g_if_ne (tgt := 9) h dX8_drop_4 rfl hf (fun c2 hf => ?_) (fun c2 hf => ?_)
  · refine g_iconst (v := (-1)) h dX8_drop_7 kiconst_m1 ?_
    obtain ⟨rfl, rfl⟩ := sj2 hf
    exact g_iret h hF [0, 1, 2] rfl rfl ⟨rfl, rfl⟩ (fle rfl) (fle rfl) dX8_drop_8
  · refine g_aload_n h 0 dX8_drop_9 rfl rfl ?_
    refine g_get (ci := 8) (v := .ref a_lane) h in_X8 0 4 rfl rfl (fle rfl) rfl q1170 rfl dX8_drop_10 ?_
    refine g_iload_n h 1 dX8_drop_13 rfl rfl ?_
    obtain ⟨g3, hf⟩ := gn hf
    refine g_iaload h 1 rfl g3 dX8_drop_14 ?_
    refine g_if_ge (tgt := 21) h dX8_drop_15 rfl hf (fun c4 hf => ?_) (fun c4 hf => ?_)
    · refine g_aload_n h 0 dX8_drop_21 rfl rfl ?_
      refine g_get (ci := 8) (v := .ref a_lane) h in_X8 0 4 rfl rfl (fle rfl) rfl q1170 rfl dX8_drop_22 ?_
      refine g_iload_n h 1 dX8_drop_25 rfl rfl ?_
      refine g_iconst (v := (-1)) h dX8_drop_26 kiconst_m1 ?_
      refine g_iastore (ws' := [(a, .inr (8, [.ref a_w, .int isImage, .ref a_tape, .int taped, .ref a_lane, .ref a_size, .ref a_items, .ref a_up, .ref a_down, .int above, .int below, .ref a_fell, .int fallen, .int torn, .int at_, .int start, .int number, .ref a_read, .ref a_comesUp, .ref a_comesDown, .ref a_held])), (a_lane, .inl (X.E 1, 4, .inl (upd lane x1.toNatClampNeg (-1)))), (a_size, .inl (X.E 1, 4, .inl size))]) h 1 rfl g3 rfl dX8_drop_27 ?_
      refine g_aload_n h 0 dX8_drop_28 rfl rfl ?_
      refine g_get (ci := 8) (v := .ref a_size) h in_X8 0 5 rfl rfl (fle rfl) rfl q1171 rfl dX8_drop_29 ?_
      refine g_iload_n h 1 dX8_drop_32 rfl rfl ?_
      refine g_iaload h 2 rfl g3 dX8_drop_33 ?_
      obtain ⟨rfl, rfl⟩ := sj2 hf
      exact g_iret h hF [0, 1, 2] rfl rfl ⟨rfl, rfl⟩ (fle rfl) (fle rfl) dX8_drop_34
    · refine g_bipush (v := (-11)) h dX8_drop_18 kbipush_m11 ?_
      obtain ⟨rfl, rfl⟩ := sj2 hf
      exact g_iret h hF [0, 1, 2] rfl rfl ⟨rfl, rfl⟩ (fle rfl) (fle rfl) dX8_drop_20
set_option maxHeartbeats 4000000 in
set_option maxRecDepth 100000 in
theorem ct_X8_cut {l : Launch} {D : va_G} {E : Ety}  {x0 : Int32} {x1 : Int64} {r_ : Int64} (hf : f_X8_cut x0 x1 = some r_) : Ct l yX8_cut cX8_cut 3 (some .long) 0 0 0 0 D E [.int x0, .long x1] [] (Pn (some (.long r_)) []) := by
  refine ct_of (own := RX8) (plainFor_of_name (by decide)) rfl (fle rfl) rfl ?_
  intro X hl hD hE hnL hXF h hR hF hnm
  subst hl; subst hD; subst hE
  have hL : ∀ i, i < 3 → i < X.nL := fun i hi => by rw [hnL]; exact hi
  unfold f_X8_cut at hf
  refine g_iload_n h 0 dX8_cut_0 rfl rfl ?_
  refine g_if_ne (tgt := 11) h dX8_cut_1 rfl hf (fun c1 hf => ?_) (fun c1 hf => ?_)
  · refine g_lload_n h 1 dX8_cut_4 rfl rfl ?_
    refine g_l2i h dX8_cut_5 ?_
    refine g_i2b h dX8_cut_6 ?_
    refine g_i2l h dX8_cut_7 ?_
    refine g_goto (tgt := 35) h dX8_cut_8 rfl ?_
    obtain rfl := sj1 hf
    exact g_lret h hF [] rfl rfl ⟨rfl, rfl⟩ (fle rfl) (fle rfl) dX8_cut_35
  · refine g_iload_n h 0 dX8_cut_11 rfl rfl ?_
    refine g_iconst (v := 1) h dX8_cut_12 kiconst_1 ?_
    refine g_icmp_ne (tgt := 23) h dX8_cut_13 rfl hf (fun c2 hf => ?_) (fun c2 hf => ?_)
    · refine g_lload_n h 1 dX8_cut_16 rfl rfl ?_
      refine g_l2i h dX8_cut_17 ?_
      refine g_i2s h dX8_cut_18 ?_
      refine g_i2l h dX8_cut_19 ?_
      refine g_goto (tgt := 35) h dX8_cut_20 rfl ?_
      obtain rfl := sj1 hf
      exact g_lret h hF [] rfl rfl ⟨rfl, rfl⟩ (fle rfl) (fle rfl) dX8_cut_35
    · refine g_iload_n h 0 dX8_cut_23 rfl rfl ?_
      refine g_iconst (v := 2) h dX8_cut_24 kiconst_2 ?_
      refine g_icmp_ne (tgt := 34) h dX8_cut_25 rfl hf (fun c3 hf => ?_) (fun c3 hf => ?_)
      · refine g_lload_n h 1 dX8_cut_28 rfl rfl ?_
        refine g_l2i h dX8_cut_29 ?_
        refine g_i2l h dX8_cut_30 ?_
        refine g_goto (tgt := 35) h dX8_cut_31 rfl ?_
        obtain rfl := sj1 hf
        exact g_lret h hF [] rfl rfl ⟨rfl, rfl⟩ (fle rfl) (fle rfl) dX8_cut_35
      · refine g_lload_n h 1 dX8_cut_34 rfl rfl ?_
        obtain rfl := sj1 hf
        exact g_lret h hF [] rfl rfl ⟨rfl, rfl⟩ (fle rfl) (fle rfl) dX8_cut_35
set_option maxHeartbeats 4000000 in
set_option maxRecDepth 100000 in
theorem ct_X8_item {l : Launch} {D : va_G} {E : Ety} {a a_w a_tape a_lane a_size a_items a_up a_down a_fell a_read a_comesUp a_comesDown a_held : Nat} {x1 : Int32} {x2 : Int32} {x3 : Int32} {x4 : Int64} {isImage : Int32} {taped : Int32} {above : Int32} {below : Int32} {fallen : Int32} {torn : Int32} {at_ : Int32} {start : Int32} {number : Int32} {lane : Nat → Int32} {size : Nat → Int32} {items : Nat → Int64} {r_ : Int32} {o_items : Nat → Int64} (hf : f_X8_item x1 x2 x3 x4 lane size items = some (r_, o_items)) : Ct l yX8_item cX8_item 7 (some .int) 2 45 0 0 D E [.ref a, .int x1, .int x2, .int x3, .long x4] [(a, .inr (8, [.ref a_w, .int isImage, .ref a_tape, .int taped, .ref a_lane, .ref a_size, .ref a_items, .ref a_up, .ref a_down, .int above, .int below, .ref a_fell, .int fallen, .int torn, .int at_, .int start, .int number, .ref a_read, .ref a_comesUp, .ref a_comesDown, .ref a_held])), (a_lane, .inl (E 1, 4, .inl lane)), (a_size, .inl (E 1, 4, .inl size)), (a_items, .inl (E 2, 96, .inr (.inl items)))] (Pn (some (.int r_)) [(a, .inr (8, [.ref a_w, .int isImage, .ref a_tape, .int taped, .ref a_lane, .ref a_size, .ref a_items, .ref a_up, .ref a_down, .int above, .int below, .ref a_fell, .int fallen, .int torn, .int at_, .int start, .int number, .ref a_read, .ref a_comesUp, .ref a_comesDown, .ref a_held])), (a_lane, .inl (E 1, 4, .inl lane)), (a_size, .inl (E 1, 4, .inl size)), (a_items, .inl (E 2, 96, .inr (.inl o_items)))]) := by
  refine ct_of (own := RX8) (plainFor_of_name (by decide)) rfl (fle rfl) rfl ?_
  intro X hl hD hE hnL hXF h hR hF hnm
  subst hl; subst hD; subst hE
  have hL : ∀ i, i < 7 → i < X.nL := fun i hi => by rw [hnL]; exact hi
  unfold f_X8_item at hf
  refine g_iload_n h 1 dX8_item_0 rfl rfl ?_
  obtain ⟨r_1, hv, hf⟩ := ob1 hf
  refine g_callS (n := 1) (As := [.int x1]) (st := []) (wr := [(a, .inr (8, [.ref a_w, .int isImage, .ref a_tape, .int taped, .ref a_lane, .ref a_size, .ref a_items, .ref a_up, .ref a_down, .int above, .int below, .ref a_fell, .int fallen, .int torn, .int at_, .int start, .int number, .ref a_read, .ref a_comesUp, .ref a_comesDown, .ref a_held])), (a_lane, .inl (X.E 1, 4, .inl lane)), (a_size, .inl (X.E 1, 4, .inl size)), (a_items, .inl (X.E 2, 96, .inr (.inl items)))]) (isC := []) (isR := [0, 1, 2, 3]) h hR (ct_X8_isRegister (x0 := x1) hv) (lw_S q1534 q1535 q80 q1536) (by decide +kernel) rfl ⟨rfl, rfl, rfl, rfl, by decide⟩ ⟨fle rfl, fle rfl, fle rfl, fle rfl, fle rfl⟩ rfl dX8_item_1 (pin (perm := [0, 1, 2, 3]) (ws' := [(a, .inr (8, [.ref a_w, .int isImage, .ref a_tape, .int taped, .ref a_lane, .ref a_size, .ref a_items, .ref a_up, .ref a_down, .int above, .int below, .ref a_fell, .int fallen, .int torn, .int at_, .int start, .int number, .ref a_read, .ref a_comesUp, .ref a_comesDown, .ref a_held])), (a_lane, .inl (X.E 1, 4, .inl lane)), (a_size, .inl (X.E 1, 4, .inl size)), (a_items, .inl (X.E 2, 96, .inr (.inl items)))]) (stk := [.int r_1]) rfl rfl rfl ?_)
  clear hv
  refine g_if_eq (tgt := 14) h dX8_item_4 rfl hf (fun c2 hf => ?_) (fun c2 hf => ?_)
  · refine g_iconst (v := (-1)) h dX8_item_14 kiconst_m1 ?_
    obtain ⟨rfl, rfl⟩ := sj2 hf
    exact g_iret h hF [0, 1, 2, 3] rfl rfl ⟨rfl, rfl⟩ (fle rfl) (fle rfl) dX8_item_15
  · refine g_iload_n h 2 dX8_item_7 rfl rfl ?_
    obtain ⟨r_3, hv, hf⟩ := ob1 hf
    refine g_callS (n := 1) (As := [.int x2]) (st := []) (wr := [(a, .inr (8, [.ref a_w, .int isImage, .ref a_tape, .int taped, .ref a_lane, .ref a_size, .ref a_items, .ref a_up, .ref a_down, .int above, .int below, .ref a_fell, .int fallen, .int torn, .int at_, .int start, .int number, .ref a_read, .ref a_comesUp, .ref a_comesDown, .ref a_held])), (a_lane, .inl (X.E 1, 4, .inl lane)), (a_size, .inl (X.E 1, 4, .inl size)), (a_items, .inl (X.E 2, 96, .inr (.inl items)))]) (isC := []) (isR := [0, 1, 2, 3]) h hR (ct_X8_isLane (x0 := x2) hv) (lw_S q1538 q1539 q80 q1540) (by decide +kernel) rfl ⟨rfl, rfl, rfl, rfl, by decide⟩ ⟨fle rfl, fle rfl, fle rfl, fle rfl, fle rfl⟩ rfl dX8_item_8 (pin (perm := [0, 1, 2, 3]) (ws' := [(a, .inr (8, [.ref a_w, .int isImage, .ref a_tape, .int taped, .ref a_lane, .ref a_size, .ref a_items, .ref a_up, .ref a_down, .int above, .int below, .ref a_fell, .int fallen, .int torn, .int at_, .int start, .int number, .ref a_read, .ref a_comesUp, .ref a_comesDown, .ref a_held])), (a_lane, .inl (X.E 1, 4, .inl lane)), (a_size, .inl (X.E 1, 4, .inl size)), (a_items, .inl (X.E 2, 96, .inr (.inl items)))]) (stk := [.int r_3]) rfl rfl rfl ?_)
    clear hv
    refine g_if_ne (tgt := 16) h dX8_item_11 rfl hf (fun c4 hf => ?_) (fun c4 hf => ?_)
    · refine g_iconst (v := (-1)) h dX8_item_14 kiconst_m1 ?_
      obtain ⟨rfl, rfl⟩ := sj2 hf
      exact g_iret h hF [0, 1, 2, 3] rfl rfl ⟨rfl, rfl⟩ (fle rfl) (fle rfl) dX8_item_15
    · refine g_aload_n h 0 dX8_item_16 rfl rfl ?_
      refine g_iload_n h 1 dX8_item_17 rfl rfl ?_
      refine g_iload_n h 2 dX8_item_18 rfl rfl ?_
      refine g_iload_n h 3 dX8_item_19 rfl rfl ?_
      refine g_iconst (v := 1) h dX8_item_20 kiconst_1 ?_
      obtain ⟨r_5, hv, hf⟩ := ob1 hf
      refine g_callV (ci := 8) (q0 := 0) (n := 4) (As := [.int x1, .int x2, .int x3, .int 1]) (st := []) (wr := [(a_items, .inl (X.E 2, 96, .inr (.inl items)))]) (isC := [0, 1, 2]) (isR := [3]) h hR (ct_X8_against (a := a) (a_w := a_w) (a_tape := a_tape) (a_lane := a_lane) (a_size := a_size) (a_items := a_items) (a_up := a_up) (a_down := a_down) (a_fell := a_fell) (a_read := a_read) (a_comesUp := a_comesUp) (a_comesDown := a_comesDown) (a_held := a_held) (x1 := x1) (x2 := x2) (x3 := x3) (x4 := 1) (isImage := isImage) (taped := taped) (above := above) (below := below) (fallen := fallen) (torn := torn) (at_ := at_) (start := start) (number := number) (lane := lane) (size := size) hv) rfl rfl (lw_V q1545 q1547 qs66 q80 q1548) (by decide +kernel) rfl ⟨rfl, rfl, rfl, rfl, by decide⟩ ⟨fle rfl, fle rfl, fle rfl, fle rfl, fle rfl⟩ rfl dX8_item_21 (pin (perm := [1, 2, 3, 0]) (ws' := [(a, .inr (8, [.ref a_w, .int isImage, .ref a_tape, .int taped, .ref a_lane, .ref a_size, .ref a_items, .ref a_up, .ref a_down, .int above, .int below, .ref a_fell, .int fallen, .int torn, .int at_, .int start, .int number, .ref a_read, .ref a_comesUp, .ref a_comesDown, .ref a_held])), (a_lane, .inl (X.E 1, 4, .inl lane)), (a_size, .inl (X.E 1, 4, .inl size)), (a_items, .inl (X.E 2, 96, .inr (.inl items)))]) (stk := [.int r_5]) rfl rfl rfl ?_)
      clear hv
      refine g_istore (lv' := [(6, .int r_5), (0, .ref a), (1, .int x1), (2, .int x2), (3, .int x3), (4, .long x4)]) h dX8_item_24 (hL 6 (fle rfl)) rfl ?_
      refine g_iload h 0 dX8_item_26 rfl ?_
      refine g_if_ge (tgt := 34) h dX8_item_28 rfl hf (fun c6 hf => ?_) (fun c6 hf => ?_)
      · refine g_aload_n h 1 dX8_item_34 rfl rfl ?_
        refine g_get (ci := 8) (v := .ref a_items) h in_X8 0 6 rfl rfl (fle rfl) rfl q1172 rfl dX8_item_35 ?_
        refine g_bipush (v := 24) h dX8_item_38 kbipush_24 ?_
        refine g_iload_n h 2 dX8_item_40 rfl rfl ?_
        refine g_imul h dX8_item_41 ?_
        refine g_iload_n h 4 dX8_item_42 rfl rfl ?_
        refine g_iadd h dX8_item_43 ?_
        refine g_iload_n h 3 dX8_item_44 rfl rfl ?_
        refine g_lload h 5 dX8_item_45 rfl ?_
        obtain ⟨r_7, hv, hf⟩ := ob1 hf
        refine g_callS (n := 2) (As := [.int x2, .long x4]) (st := [.int ((24 * x1) + x3), .ref a_items]) (wr := [(a, .inr (8, [.ref a_w, .int isImage, .ref a_tape, .int taped, .ref a_lane, .ref a_size, .ref a_items, .ref a_up, .ref a_down, .int above, .int below, .ref a_fell, .int fallen, .int torn, .int at_, .int start, .int number, .ref a_read, .ref a_comesUp, .ref a_comesDown, .ref a_held])), (a_lane, .inl (X.E 1, 4, .inl lane)), (a_size, .inl (X.E 1, 4, .inl size)), (a_items, .inl (X.E 2, 96, .inr (.inl items)))]) (isC := []) (isR := [0, 1, 2, 3]) h hR (ct_X8_cut (x0 := x2) (x1 := x4) hv) (lw_S q1577 q1578 q80 q1579) (by decide +kernel) rfl ⟨rfl, rfl, rfl, rfl, by decide⟩ ⟨fle rfl, fle rfl, fle rfl, fle rfl, fle rfl⟩ rfl dX8_item_47 (pin (perm := [0, 1, 2, 3]) (ws' := [(a, .inr (8, [.ref a_w, .int isImage, .ref a_tape, .int taped, .ref a_lane, .ref a_size, .ref a_items, .ref a_up, .ref a_down, .int above, .int below, .ref a_fell, .int fallen, .int torn, .int at_, .int start, .int number, .ref a_read, .ref a_comesUp, .ref a_comesDown, .ref a_held])), (a_lane, .inl (X.E 1, 4, .inl lane)), (a_size, .inl (X.E 1, 4, .inl size)), (a_items, .inl (X.E 2, 96, .inr (.inl items)))]) (stk := [.long r_7, .int ((24 * x1) + x3), .ref a_items]) rfl rfl rfl ?_)
        clear hv
        obtain ⟨g8, hf⟩ := gn hf
        refine g_lastore (ws' := [(a, .inr (8, [.ref a_w, .int isImage, .ref a_tape, .int taped, .ref a_lane, .ref a_size, .ref a_items, .ref a_up, .ref a_down, .int above, .int below, .ref a_fell, .int fallen, .int torn, .int at_, .int start, .int number, .ref a_read, .ref a_comesUp, .ref a_comesDown, .ref a_held])), (a_lane, .inl (X.E 1, 4, .inl lane)), (a_size, .inl (X.E 1, 4, .inl size)), (a_items, .inl (X.E 2, 96, .inr (.inl (vp_updL items ((24 * x1) + x3).toNatClampNeg r_7))))]) h 3 rfl g8 rfl dX8_item_50 ?_
        refine g_iconst (v := 1) h dX8_item_51 kiconst_1 ?_
        obtain ⟨rfl, rfl⟩ := sj2 hf
        exact g_iret h hF [0, 1, 2, 3] rfl rfl ⟨rfl, rfl⟩ (fle rfl) (fle rfl) dX8_item_52
      · refine g_iload h 0 dX8_item_31 rfl ?_
        obtain ⟨rfl, rfl⟩ := sj2 hf
        exact g_iret h hF [0, 1, 2, 3] rfl rfl ⟨rfl, rfl⟩ (fle rfl) (fle rfl) dX8_item_33
set_option maxHeartbeats 4000000 in
set_option maxRecDepth 100000 in
theorem w_X8_copy_L96 {X : Cx} {a a_comesDown a_comesUp a_down a_fell a_held a_items a_lane a_read a_size a_tape a_up a_w : Nat} {x1 : Int32} {x2 : Int32} {x3 : Int32} {x4 : Int32} {x5 : Int32} {isImage : Int32} {taped : Int32} {above : Int32} {below : Int32} {fallen : Int32} {torn : Int32} {at_ : Int32} {start : Int32} {number : Int32} {lane : Nat → Int32} {size : Nat → Int32} {items : Nat → Int64} {ce sl : Nat} (h : Ok X cX8_copy RX8) (hR : Rm X 2 45 0 0) (hL : ∀ i, i < 7 → i < X.nL) (hce : ce ≤ 0) (hsl : sl ≤ 0) : ∀ (n0 : Nat) (x6 : Int32) (held : Nat → Int64) {o_held : Nat → Int64}, f_X8_copy_L96 x1 x2 x5 items n0 x6 held = some o_held → (G X [(a, .inr (8, [.ref a_w, .int isImage, .ref a_tape, .int taped, .ref a_lane, .ref a_size, .ref a_items, .ref a_up, .ref a_down, .int above, .int below, .ref a_fell, .int fallen, .int torn, .int at_, .int start, .int number, .ref a_read, .ref a_comesUp, .ref a_comesDown, .ref a_held])), (a_lane, .inl (X.E 1, 4, .inl lane)), (a_size, .inl (X.E 1, 4, .inl size)), (a_items, .inl (X.E 2, 96, .inr (.inl items))), (a_held, .inl (X.E 2, 24, .inr (.inl o_held)))] [(0, .ref a), (3, .int x3), (4, .int x4), (5, .int x5)] ce sl 130 []) → G X [(a, .inr (8, [.ref a_w, .int isImage, .ref a_tape, .int taped, .ref a_lane, .ref a_size, .ref a_items, .ref a_up, .ref a_down, .int above, .int below, .ref a_fell, .int fallen, .int torn, .int at_, .int start, .int number, .ref a_read, .ref a_comesUp, .ref a_comesDown, .ref a_held])), (a_lane, .inl (X.E 1, 4, .inl lane)), (a_size, .inl (X.E 1, 4, .inl size)), (a_items, .inl (X.E 2, 96, .inr (.inl items))), (a_held, .inl (X.E 2, 24, .inr (.inl held)))] [(0, .ref a), (1, .int x1), (2, .int x2), (3, .int x3), (4, .int x4), (5, .int x5), (6, .int x6)] ce sl 96 [] := by
  intro n0
  induction n0 with
  | zero => intro x6 held o_held hf; exact nomatch (show (none : Option _) = some _ from hf)
  | succ n0 ih =>
    intro x6 held o_held hf k0
    replace hf : t_X8_copy_L96 x1 x2 x5 items (f_X8_copy_L96 x1 x2 x5 items n0) x6 held = some o_held := hf
    unfold t_X8_copy_L96 at hf
    refine g_iload h 6 dX8_copy_96 rfl ?_
    refine g_iload h 5 dX8_copy_98 rfl ?_
    refine g_icmp_ge (tgt := 130) h dX8_copy_100 rfl hf (fun c14 hf => ?_) (fun c14 hf => ?_)
    · obtain rfl := sj1 hf
      exact G.lsub [0, 3, 4, 5] rfl k0
    · refine g_aload_n h 0 dX8_copy_103 rfl rfl ?_
      refine g_get (ci := 8) (v := .ref a_held) h in_X8 0 20 rfl rfl (fle rfl) rfl q1186 rfl dX8_copy_104 ?_
      refine g_iload h 6 dX8_copy_107 rfl ?_
      refine g_aload_n h 0 dX8_copy_109 rfl rfl ?_
      refine g_get (ci := 8) (v := .ref a_items) h in_X8 0 6 rfl rfl (fle rfl) rfl q1172 rfl dX8_copy_110 ?_
      refine g_bipush (v := 24) h dX8_copy_113 kbipush_24 ?_
      refine g_iload_n h 1 dX8_copy_115 rfl rfl ?_
      refine g_imul h dX8_copy_116 ?_
      refine g_iload_n h 2 dX8_copy_117 rfl rfl ?_
      refine g_iadd h dX8_copy_118 ?_
      refine g_iload h 6 dX8_copy_119 rfl ?_
      refine g_iadd h dX8_copy_121 ?_
      obtain ⟨g15, hf⟩ := gn hf
      refine g_laload h 3 rfl g15 dX8_copy_122 ?_
      obtain ⟨g16, hf⟩ := gn hf
      refine g_lastore (ws' := [(a, .inr (8, [.ref a_w, .int isImage, .ref a_tape, .int taped, .ref a_lane, .ref a_size, .ref a_items, .ref a_up, .ref a_down, .int above, .int below, .ref a_fell, .int fallen, .int torn, .int at_, .int start, .int number, .ref a_read, .ref a_comesUp, .ref a_comesDown, .ref a_held])), (a_lane, .inl (X.E 1, 4, .inl lane)), (a_size, .inl (X.E 1, 4, .inl size)), (a_items, .inl (X.E 2, 96, .inr (.inl items))), (a_held, .inl (X.E 2, 24, .inr (.inl (vp_updL held x6.toNatClampNeg (items (((24 * x1) + x2) + x6).toNatClampNeg)))))]) h 4 rfl g16 rfl dX8_copy_123 ?_
      refine g_iinc (j := 6) (v := (x6 + 1)) (lv' := [(6, .int (x6 + 1)), (0, .ref a), (1, .int x1), (2, .int x2), (3, .int x3), (4, .int x4), (5, .int x5)]) h dX8_copy_124 rfl (kinc_1 _) (hL 6 (fle rfl)) rfl ?_
      refine g_goto (tgt := 96) h dX8_copy_127 rfl ?_
      exact G.lsub [1, 2, 3, 4, 5, 6, 0] rfl (ih _ _ hf k0)
set_option maxHeartbeats 4000000 in
set_option maxRecDepth 100000 in
theorem w_X8_copy_L133 {X : Cx} {a a_comesDown a_comesUp a_down a_fell a_held a_items a_lane a_read a_size a_tape a_up a_w : Nat} {x3 : Int32} {x4 : Int32} {x5 : Int32} {isImage : Int32} {taped : Int32} {above : Int32} {below : Int32} {fallen : Int32} {torn : Int32} {at_ : Int32} {start : Int32} {number : Int32} {lane : Nat → Int32} {size : Nat → Int32} {held : Nat → Int64} {ce sl : Nat} (h : Ok X cX8_copy RX8) (hR : Rm X 2 45 0 0) (hL : ∀ i, i < 7 → i < X.nL) (hce : ce ≤ 0) (hsl : sl ≤ 0) : ∀ (n0 : Nat) (x6 : Int32) (items : Nat → Int64) {o_items : Nat → Int64}, f_X8_copy_L133 x3 x4 x5 held n0 x6 items = some o_items → (G X [(a, .inr (8, [.ref a_w, .int isImage, .ref a_tape, .int taped, .ref a_lane, .ref a_size, .ref a_items, .ref a_up, .ref a_down, .int above, .int below, .ref a_fell, .int fallen, .int torn, .int at_, .int start, .int number, .ref a_read, .ref a_comesUp, .ref a_comesDown, .ref a_held])), (a_lane, .inl (X.E 1, 4, .inl lane)), (a_size, .inl (X.E 1, 4, .inl size)), (a_items, .inl (X.E 2, 96, .inr (.inl o_items))), (a_held, .inl (X.E 2, 24, .inr (.inl held)))] [(5, .int x5)] ce sl 168 []) → G X [(a, .inr (8, [.ref a_w, .int isImage, .ref a_tape, .int taped, .ref a_lane, .ref a_size, .ref a_items, .ref a_up, .ref a_down, .int above, .int below, .ref a_fell, .int fallen, .int torn, .int at_, .int start, .int number, .ref a_read, .ref a_comesUp, .ref a_comesDown, .ref a_held])), (a_lane, .inl (X.E 1, 4, .inl lane)), (a_size, .inl (X.E 1, 4, .inl size)), (a_items, .inl (X.E 2, 96, .inr (.inl items))), (a_held, .inl (X.E 2, 24, .inr (.inl held)))] [(0, .ref a), (3, .int x3), (4, .int x4), (5, .int x5), (6, .int x6)] ce sl 133 [] := by
  intro n0
  induction n0 with
  | zero => intro x6 items o_items hf; exact nomatch (show (none : Option _) = some _ from hf)
  | succ n0 ih =>
    intro x6 items o_items hf k0
    replace hf : t_X8_copy_L133 x3 x4 x5 held (f_X8_copy_L133 x3 x4 x5 held n0) x6 items = some o_items := hf
    unfold t_X8_copy_L133 at hf
    refine g_iload h 4 dX8_copy_133 rfl ?_
    refine g_iload h 3 dX8_copy_135 rfl ?_
    refine g_icmp_ge (tgt := 168) h dX8_copy_137 rfl hf (fun c18 hf => ?_) (fun c18 hf => ?_)
    · obtain rfl := sj1 hf
      exact G.lsub [3] rfl k0
    · refine g_aload_n h 0 dX8_copy_140 rfl rfl ?_
      refine g_get (ci := 8) (v := .ref a_items) h in_X8 0 6 rfl rfl (fle rfl) rfl q1172 rfl dX8_copy_141 ?_
      refine g_bipush (v := 24) h dX8_copy_144 kbipush_24 ?_
      refine g_iload_n h 1 dX8_copy_146 rfl rfl ?_
      refine g_imul h dX8_copy_147 ?_
      refine g_iload h 2 dX8_copy_148 rfl ?_
      refine g_iadd h dX8_copy_150 ?_
      refine g_iload h 4 dX8_copy_151 rfl ?_
      refine g_iadd h dX8_copy_153 ?_
      refine g_aload_n h 0 dX8_copy_154 rfl rfl ?_
      refine g_get (ci := 8) (v := .ref a_held) h in_X8 0 20 rfl rfl (fle rfl) rfl q1186 rfl dX8_copy_155 ?_
      refine g_iload h 4 dX8_copy_158 rfl ?_
      obtain ⟨g19, hf⟩ := gn hf
      refine g_laload h 4 rfl g19 dX8_copy_160 ?_
      obtain ⟨g20, hf⟩ := gn hf
      refine g_lastore (ws' := [(a, .inr (8, [.ref a_w, .int isImage, .ref a_tape, .int taped, .ref a_lane, .ref a_size, .ref a_items, .ref a_up, .ref a_down, .int above, .int below, .ref a_fell, .int fallen, .int torn, .int at_, .int start, .int number, .ref a_read, .ref a_comesUp, .ref a_comesDown, .ref a_held])), (a_lane, .inl (X.E 1, 4, .inl lane)), (a_size, .inl (X.E 1, 4, .inl size)), (a_items, .inl (X.E 2, 96, .inr (.inl (vp_updL items (((24 * x3) + x4) + x6).toNatClampNeg (held x6.toNatClampNeg))))), (a_held, .inl (X.E 2, 24, .inr (.inl held)))]) h 3 rfl g20 rfl dX8_copy_161 ?_
      refine g_iinc (j := 4) (v := (x6 + 1)) (lv' := [(6, .int (x6 + 1)), (0, .ref a), (3, .int x3), (4, .int x4), (5, .int x5)]) h dX8_copy_162 rfl (kinc_1 _) (hL 6 (fle rfl)) rfl ?_
      refine g_goto (tgt := 133) h dX8_copy_165 rfl ?_
      exact G.lsub [1, 2, 3, 4, 0] rfl (ih _ _ hf k0)
set_option maxHeartbeats 4000000 in
set_option maxRecDepth 100000 in
theorem ct_X8_copy {l : Launch} {D : va_G} {E : Ety} {a a_w a_tape a_lane a_size a_items a_up a_down a_fell a_read a_comesUp a_comesDown a_held : Nat} {x1 : Int32} {x2 : Int32} {x3 : Int32} {x4 : Int32} {x5 : Int32} {isImage : Int32} {taped : Int32} {above : Int32} {below : Int32} {fallen : Int32} {torn : Int32} {at_ : Int32} {start : Int32} {number : Int32} {lane : Nat → Int32} {size : Nat → Int32} {items : Nat → Int64} {held : Nat → Int64} {r_ : Int32} {o_items : Nat → Int64} {o_held : Nat → Int64} (hf : f_X8_copy x1 x2 x3 x4 x5 lane size items held = some (r_, o_items, o_held)) : Ct l yX8_copy cX8_copy 7 (some .int) 2 45 0 0 D E [.ref a, .int x1, .int x2, .int x3, .int x4, .int x5] [(a, .inr (8, [.ref a_w, .int isImage, .ref a_tape, .int taped, .ref a_lane, .ref a_size, .ref a_items, .ref a_up, .ref a_down, .int above, .int below, .ref a_fell, .int fallen, .int torn, .int at_, .int start, .int number, .ref a_read, .ref a_comesUp, .ref a_comesDown, .ref a_held])), (a_lane, .inl (E 1, 4, .inl lane)), (a_size, .inl (E 1, 4, .inl size)), (a_items, .inl (E 2, 96, .inr (.inl items))), (a_held, .inl (E 2, 24, .inr (.inl held)))] (Pn (some (.int r_)) [(a, .inr (8, [.ref a_w, .int isImage, .ref a_tape, .int taped, .ref a_lane, .ref a_size, .ref a_items, .ref a_up, .ref a_down, .int above, .int below, .ref a_fell, .int fallen, .int torn, .int at_, .int start, .int number, .ref a_read, .ref a_comesUp, .ref a_comesDown, .ref a_held])), (a_lane, .inl (E 1, 4, .inl lane)), (a_size, .inl (E 1, 4, .inl size)), (a_items, .inl (E 2, 96, .inr (.inl o_items))), (a_held, .inl (E 2, 24, .inr (.inl o_held)))]) := by
  refine ct_of (own := RX8) (plainFor_of_name (by decide)) rfl (fle rfl) rfl ?_
  intro X hl hD hE hnL hXF h hR hF hnm
  subst hl; subst hD; subst hE
  have hL : ∀ i, i < 7 → i < X.nL := fun i hi => by rw [hnL]; exact hi
  unfold f_X8_copy at hf
  refine g_iload_n h 1 dX8_copy_0 rfl rfl ?_
  obtain ⟨r_1, hv, hf⟩ := ob1 hf
  refine g_callS (n := 1) (As := [.int x1]) (st := []) (wr := [(a, .inr (8, [.ref a_w, .int isImage, .ref a_tape, .int taped, .ref a_lane, .ref a_size, .ref a_items, .ref a_up, .ref a_down, .int above, .int below, .ref a_fell, .int fallen, .int torn, .int at_, .int start, .int number, .ref a_read, .ref a_comesUp, .ref a_comesDown, .ref a_held])), (a_lane, .inl (X.E 1, 4, .inl lane)), (a_size, .inl (X.E 1, 4, .inl size)), (a_items, .inl (X.E 2, 96, .inr (.inl items))), (a_held, .inl (X.E 2, 24, .inr (.inl held)))]) (isC := []) (isR := [0, 1, 2, 3, 4]) h hR (ct_X8_isRegister (x0 := x1) hv) (lw_S q1534 q1535 q80 q1536) (by decide +kernel) rfl ⟨rfl, rfl, rfl, rfl, by decide⟩ ⟨fle rfl, fle rfl, fle rfl, fle rfl, fle rfl⟩ rfl dX8_copy_1 (pin (perm := [0, 1, 2, 3, 4]) (ws' := [(a, .inr (8, [.ref a_w, .int isImage, .ref a_tape, .int taped, .ref a_lane, .ref a_size, .ref a_items, .ref a_up, .ref a_down, .int above, .int below, .ref a_fell, .int fallen, .int torn, .int at_, .int start, .int number, .ref a_read, .ref a_comesUp, .ref a_comesDown, .ref a_held])), (a_lane, .inl (X.E 1, 4, .inl lane)), (a_size, .inl (X.E 1, 4, .inl size)), (a_items, .inl (X.E 2, 96, .inr (.inl items))), (a_held, .inl (X.E 2, 24, .inr (.inl held)))]) (stk := [.int r_1]) rfl rfl rfl ?_)
  clear hv
  refine g_if_eq (tgt := 14) h dX8_copy_4 rfl hf (fun c2 hf => ?_) (fun c2 hf => ?_)
  · refine g_iconst (v := (-1)) h dX8_copy_14 kiconst_m1 ?_
    obtain ⟨rfl, rfl, rfl⟩ := sj3 hf
    exact g_iret h hF [0, 1, 2, 3, 4] rfl rfl ⟨rfl, rfl⟩ (fle rfl) (fle rfl) dX8_copy_15
  · refine g_iload_n h 3 dX8_copy_7 rfl rfl ?_
    obtain ⟨r_3, hv, hf⟩ := ob1 hf
    refine g_callS (n := 1) (As := [.int x3]) (st := []) (wr := [(a, .inr (8, [.ref a_w, .int isImage, .ref a_tape, .int taped, .ref a_lane, .ref a_size, .ref a_items, .ref a_up, .ref a_down, .int above, .int below, .ref a_fell, .int fallen, .int torn, .int at_, .int start, .int number, .ref a_read, .ref a_comesUp, .ref a_comesDown, .ref a_held])), (a_lane, .inl (X.E 1, 4, .inl lane)), (a_size, .inl (X.E 1, 4, .inl size)), (a_items, .inl (X.E 2, 96, .inr (.inl items))), (a_held, .inl (X.E 2, 24, .inr (.inl held)))]) (isC := []) (isR := [0, 1, 2, 3, 4]) h hR (ct_X8_isRegister (x0 := x3) hv) (lw_S q1534 q1535 q80 q1536) (by decide +kernel) rfl ⟨rfl, rfl, rfl, rfl, by decide⟩ ⟨fle rfl, fle rfl, fle rfl, fle rfl, fle rfl⟩ rfl dX8_copy_8 (pin (perm := [0, 1, 2, 3, 4]) (ws' := [(a, .inr (8, [.ref a_w, .int isImage, .ref a_tape, .int taped, .ref a_lane, .ref a_size, .ref a_items, .ref a_up, .ref a_down, .int above, .int below, .ref a_fell, .int fallen, .int torn, .int at_, .int start, .int number, .ref a_read, .ref a_comesUp, .ref a_comesDown, .ref a_held])), (a_lane, .inl (X.E 1, 4, .inl lane)), (a_size, .inl (X.E 1, 4, .inl size)), (a_items, .inl (X.E 2, 96, .inr (.inl items))), (a_held, .inl (X.E 2, 24, .inr (.inl held)))]) (stk := [.int r_3]) rfl rfl rfl ?_)
    clear hv
    refine g_if_ne (tgt := 16) h dX8_copy_11 rfl hf (fun c4 hf => ?_) (fun c4 hf => ?_)
    · refine g_iconst (v := (-1)) h dX8_copy_14 kiconst_m1 ?_
      obtain ⟨rfl, rfl, rfl⟩ := sj3 hf
      exact g_iret h hF [0, 1, 2, 3, 4] rfl rfl ⟨rfl, rfl⟩ (fle rfl) (fle rfl) dX8_copy_15
    · refine g_aload_n h 0 dX8_copy_16 rfl rfl ?_
      refine g_get (ci := 8) (v := .ref a_lane) h in_X8 0 4 rfl rfl (fle rfl) rfl q1170 rfl dX8_copy_17 ?_
      refine g_iload_n h 1 dX8_copy_20 rfl rfl ?_
      obtain ⟨g5, hf⟩ := gn hf
      refine g_iaload h 1 rfl g5 dX8_copy_21 ?_
      refine g_if_lt (tgt := 34) h dX8_copy_22 rfl hf (fun c6 hf => ?_) (fun c6 hf => ?_)
      · refine g_bipush (v := (-11)) h dX8_copy_34 kbipush_m11 ?_
        obtain ⟨rfl, rfl, rfl⟩ := sj3 hf
        exact g_iret h hF [0, 1, 2, 3, 4] rfl rfl ⟨rfl, rfl⟩ (fle rfl) (fle rfl) dX8_copy_36
      · refine g_aload_n h 0 dX8_copy_25 rfl rfl ?_
        refine g_get (ci := 8) (v := .ref a_lane) h in_X8 0 4 rfl rfl (fle rfl) rfl q1170 rfl dX8_copy_26 ?_
        refine g_iload_n h 3 dX8_copy_29 rfl rfl ?_
        obtain ⟨g7, hf⟩ := gn hf
        refine g_iaload h 1 rfl g7 dX8_copy_30 ?_
        refine g_if_ge (tgt := 37) h dX8_copy_31 rfl hf (fun c8 hf => ?_) (fun c8 hf => ?_)
        · refine g_aload_n h 0 dX8_copy_37 rfl rfl ?_
          refine g_get (ci := 8) (v := .ref a_lane) h in_X8 0 4 rfl rfl (fle rfl) rfl q1170 rfl dX8_copy_38 ?_
          refine g_iload_n h 1 dX8_copy_41 rfl rfl ?_
          refine g_iaload h 1 rfl g5 dX8_copy_42 ?_
          refine g_aload_n h 0 dX8_copy_43 rfl rfl ?_
          refine g_get (ci := 8) (v := .ref a_lane) h in_X8 0 4 rfl rfl (fle rfl) rfl q1170 rfl dX8_copy_44 ?_
          refine g_iload_n h 3 dX8_copy_47 rfl rfl ?_
          refine g_iaload h 1 rfl g7 dX8_copy_48 ?_
          refine g_icmp_eq (tgt := 55) h dX8_copy_49 rfl hf (fun c9 hf => ?_) (fun c9 hf => ?_)
          · refine g_aload_n h 0 dX8_copy_55 rfl rfl ?_
            refine g_iload_n h 1 dX8_copy_56 rfl rfl ?_
            refine g_aload_n h 0 dX8_copy_57 rfl rfl ?_
            refine g_get (ci := 8) (v := .ref a_lane) h in_X8 0 4 rfl rfl (fle rfl) rfl q1170 rfl dX8_copy_58 ?_
            refine g_iload_n h 1 dX8_copy_61 rfl rfl ?_
            refine g_iaload h 1 rfl g5 dX8_copy_62 ?_
            refine g_iload_n h 2 dX8_copy_63 rfl rfl ?_
            refine g_iload h 5 dX8_copy_64 rfl ?_
            obtain ⟨r_10, hv, hf⟩ := ob1 hf
            refine g_callV (ci := 8) (q0 := 0) (n := 4) (As := [.int x1, .int (lane x1.toNatClampNeg), .int x2, .int x5]) (st := []) (wr := [(a_items, .inl (X.E 2, 96, .inr (.inl items))), (a_held, .inl (X.E 2, 24, .inr (.inl held)))]) (isC := [0, 1, 2]) (isR := [3, 4]) h hR (ct_X8_against (a := a) (a_w := a_w) (a_tape := a_tape) (a_lane := a_lane) (a_size := a_size) (a_items := a_items) (a_up := a_up) (a_down := a_down) (a_fell := a_fell) (a_read := a_read) (a_comesUp := a_comesUp) (a_comesDown := a_comesDown) (a_held := a_held) (x1 := x1) (x2 := (lane x1.toNatClampNeg)) (x3 := x2) (x4 := x5) (isImage := isImage) (taped := taped) (above := above) (below := below) (fallen := fallen) (torn := torn) (at_ := at_) (start := start) (number := number) (lane := lane) (size := size) hv) rfl rfl (lw_V q1545 q1547 qs66 q80 q1548) (by decide +kernel) rfl ⟨rfl, rfl, rfl, rfl, by decide⟩ ⟨fle rfl, fle rfl, fle rfl, fle rfl, fle rfl⟩ rfl dX8_copy_66 (pin (perm := [2, 3, 4, 0, 1]) (ws' := [(a, .inr (8, [.ref a_w, .int isImage, .ref a_tape, .int taped, .ref a_lane, .ref a_size, .ref a_items, .ref a_up, .ref a_down, .int above, .int below, .ref a_fell, .int fallen, .int torn, .int at_, .int start, .int number, .ref a_read, .ref a_comesUp, .ref a_comesDown, .ref a_held])), (a_lane, .inl (X.E 1, 4, .inl lane)), (a_size, .inl (X.E 1, 4, .inl size)), (a_items, .inl (X.E 2, 96, .inr (.inl items))), (a_held, .inl (X.E 2, 24, .inr (.inl held)))]) (stk := [.int r_10]) rfl rfl rfl ?_)
            clear hv
            refine g_if_lt (tgt := 90) h dX8_copy_69 rfl hf (fun c11 hf => ?_) (fun c11 hf => ?_)
            · refine g_bipush (v := (-13)) h dX8_copy_90 kbipush_m13 ?_
              obtain ⟨rfl, rfl, rfl⟩ := sj3 hf
              exact g_iret h hF [0, 1, 2, 3, 4] rfl rfl ⟨rfl, rfl⟩ (fle rfl) (fle rfl) dX8_copy_92
            · refine g_aload_n h 0 dX8_copy_72 rfl rfl ?_
              refine g_iload_n h 3 dX8_copy_73 rfl rfl ?_
              refine g_aload_n h 0 dX8_copy_74 rfl rfl ?_
              refine g_get (ci := 8) (v := .ref a_lane) h in_X8 0 4 rfl rfl (fle rfl) rfl q1170 rfl dX8_copy_75 ?_
              refine g_iload_n h 3 dX8_copy_78 rfl rfl ?_
              refine g_iaload h 1 rfl g7 dX8_copy_79 ?_
              refine g_iload h 4 dX8_copy_80 rfl ?_
              refine g_iload h 5 dX8_copy_82 rfl ?_
              obtain ⟨r_12, hv, hf⟩ := ob1 hf
              refine g_callV (ci := 8) (q0 := 0) (n := 4) (As := [.int x3, .int (lane x3.toNatClampNeg), .int x4, .int x5]) (st := []) (wr := [(a_items, .inl (X.E 2, 96, .inr (.inl items))), (a_held, .inl (X.E 2, 24, .inr (.inl held)))]) (isC := [0, 1, 2]) (isR := [3, 4]) h hR (ct_X8_against (a := a) (a_w := a_w) (a_tape := a_tape) (a_lane := a_lane) (a_size := a_size) (a_items := a_items) (a_up := a_up) (a_down := a_down) (a_fell := a_fell) (a_read := a_read) (a_comesUp := a_comesUp) (a_comesDown := a_comesDown) (a_held := a_held) (x1 := x3) (x2 := (lane x3.toNatClampNeg)) (x3 := x4) (x4 := x5) (isImage := isImage) (taped := taped) (above := above) (below := below) (fallen := fallen) (torn := torn) (at_ := at_) (start := start) (number := number) (lane := lane) (size := size) hv) rfl rfl (lw_V q1545 q1547 qs66 q80 q1548) (by decide +kernel) rfl ⟨rfl, rfl, rfl, rfl, by decide⟩ ⟨fle rfl, fle rfl, fle rfl, fle rfl, fle rfl⟩ rfl dX8_copy_84 (pin (perm := [2, 3, 4, 0, 1]) (ws' := [(a, .inr (8, [.ref a_w, .int isImage, .ref a_tape, .int taped, .ref a_lane, .ref a_size, .ref a_items, .ref a_up, .ref a_down, .int above, .int below, .ref a_fell, .int fallen, .int torn, .int at_, .int start, .int number, .ref a_read, .ref a_comesUp, .ref a_comesDown, .ref a_held])), (a_lane, .inl (X.E 1, 4, .inl lane)), (a_size, .inl (X.E 1, 4, .inl size)), (a_items, .inl (X.E 2, 96, .inr (.inl items))), (a_held, .inl (X.E 2, 24, .inr (.inl held)))]) (stk := [.int r_12]) rfl rfl rfl ?_)
              clear hv
              refine g_if_ge (tgt := 93) h dX8_copy_87 rfl hf (fun c13 hf => ?_) (fun c13 hf => ?_)
              · refine g_iconst (v := 0) h dX8_copy_93 kiconst_0 ?_
                refine g_istore (lv' := [(6, .int 0), (0, .ref a), (1, .int x1), (2, .int x2), (3, .int x3), (4, .int x4), (5, .int x5)]) h dX8_copy_94 (hL 6 (fle rfl)) rfl ?_
                refine G.lsub (lv' := [(0, .ref a), (1, .int x1), (2, .int x2), (3, .int x3), (4, .int x4), (5, .int x5), (6, .int 0)]) [1, 2, 3, 4, 5, 6, 0] rfl ?_
                obtain ⟨held_17, hv, hf⟩ := ob1 hf
                refine w_X8_copy_L96 (x1 := x1) (x2 := x2) (x3 := x3) (x4 := x4) (x5 := x5) (isImage := isImage) (taped := taped) (above := above) (below := below) (fallen := fallen) (torn := torn) (at_ := at_) (start := start) (number := number) (lane := lane) (size := size) (items := items) h hR hL (fle rfl) (fle rfl) FU _ _ hv ?_
                · clear hv
                  refine g_iconst (v := 0) h dX8_copy_130 kiconst_0 ?_
                  refine g_istore (lv' := [(6, .int 0), (0, .ref a), (3, .int x3), (4, .int x4), (5, .int x5)]) h dX8_copy_131 (hL 6 (fle rfl)) rfl ?_
                  refine G.lsub (lv' := [(0, .ref a), (3, .int x3), (4, .int x4), (5, .int x5), (6, .int 0)]) [1, 2, 3, 4, 0] rfl ?_
                  obtain ⟨items_21, hv, hf⟩ := ob1 hf
                  refine w_X8_copy_L133 (x3 := x3) (x4 := x4) (x5 := x5) (isImage := isImage) (taped := taped) (above := above) (below := below) (fallen := fallen) (torn := torn) (at_ := at_) (start := start) (number := number) (lane := lane) (size := size) (held := held_17) h hR hL (fle rfl) (fle rfl) FU _ _ hv ?_
                  · clear hv
                    refine g_iload h 0 dX8_copy_168 rfl ?_
                    obtain ⟨rfl, rfl, rfl⟩ := sj3 hf
                    exact g_iret h hF [0, 1, 2, 3, 4] rfl rfl ⟨rfl, rfl⟩ (fle rfl) (fle rfl) dX8_copy_170
              · refine g_bipush (v := (-13)) h dX8_copy_90 kbipush_m13 ?_
                obtain ⟨rfl, rfl, rfl⟩ := sj3 hf
                exact g_iret h hF [0, 1, 2, 3, 4] rfl rfl ⟨rfl, rfl⟩ (fle rfl) (fle rfl) dX8_copy_92
          · refine g_bipush (v := (-12)) h dX8_copy_52 kbipush_m12 ?_
            obtain ⟨rfl, rfl, rfl⟩ := sj3 hf
            exact g_iret h hF [0, 1, 2, 3, 4] rfl rfl ⟨rfl, rfl⟩ (fle rfl) (fle rfl) dX8_copy_54
        · refine g_bipush (v := (-11)) h dX8_copy_34 kbipush_m11 ?_
          obtain ⟨rfl, rfl, rfl⟩ := sj3 hf
          exact g_iret h hF [0, 1, 2, 3, 4] rfl rfl ⟨rfl, rfl⟩ (fle rfl) (fle rfl) dX8_copy_36
