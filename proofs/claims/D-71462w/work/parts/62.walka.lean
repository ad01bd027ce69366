set_option maxHeartbeats 4000000 in
set_option maxRecDepth 100000 in
theorem ct_X1_out {l : Launch} {D : va_G} {E : Ety} {a : Nat} {x1 : Int32} {x2 : Int32} {x3 : Int32} {r_ : Int32} (hf : f_X1_out x1 = some r_) : Ct l yX1_out cX1_out 4 (some .int) 0 0 0 0 D E [.ref a, .int x1, .int x2, .int x3] [] (Pn (some (.int r_)) []) := by
  refine ct_of (own := RX1) (plainFor_of_name (by decide)) rfl (fle rfl) rfl ?_
  intro X hl hD hE hnL hXF h hR hF hnm
  subst hl; subst hD; subst hE
  have hL : ∀ i, i < 4 → i < X.nL := fun i hi => by rw [hnL]; exact hi
  unfold f_X1_out at hf
  refine g_iload_n h 1 dX1_out_0 rfl rfl ?_
  obtain rfl := sj1 hf
  exact g_iret h hF [] rfl rfl ⟨rfl, rfl⟩ (fle rfl) (fle rfl) dX1_out_1
set_option maxHeartbeats 4000000 in
set_option maxRecDepth 100000 in
theorem ct_X2_out {l : Launch} {D : va_G} {E : Ety} {a : Nat} {x1 : Int32} {x2 : Int32} {x3 : Int32} {r_ : Int32} {ci0 : Nat} {r0 : vw_C} (hc0 : vwCl[ci0]? = some r0) (hf : f_X2_out x1 x2 = some r_) : Ct l yX2_out cX2_out 5 (some .int) 1 23 0 0 D E [.ref a, .int x1, .int x2, .int x3] [(a, .inr (ci0, []))] (Pn (some (.int r_)) [(a, .inr (ci0, []))]) := by
  refine ct_of (own := RX2) (plainFor_of_name (by decide)) rfl (fle rfl) rfl ?_
  intro X hl hD hE hnL hXF h hR hF hnm
  subst hl; subst hD; subst hE
  have hL : ∀ i, i < 5 → i < X.nL := fun i hi => by rw [hnL]; exact hi
  unfold f_X2_out at hf
  refine g_aload_n h 0 dX2_out_0 rfl rfl ?_
  refine g_iload_n h 1 dX2_out_1 rfl rfl ?_
  refine g_iload_n h 2 dX2_out_2 rfl rfl ?_
  refine g_iload_n h 3 dX2_out_3 rfl rfl ?_
  obtain ⟨r_1, hv, hf⟩ := ob1 hf
  refine g_callSU (ci := ci0) (q0 := 0) (n := 3) (As := [.int x1, .int x2, .int x3]) (st := []) (wr := [(a, .inr (ci0, []))]) (isC := []) (isR := [0]) h hR (ct_X1_out (a := a) (x1 := x1) (x2 := x2) (x3 := x3) hv) hc0 rfl q185 q1586 q186 q187 q71 q188 (by decide +kernel) rfl ⟨rfl, rfl, rfl, rfl, by decide⟩ ⟨fle rfl, fle rfl, fle rfl, fle rfl, fle rfl⟩ rfl dX2_out_4 (pin (perm := [0]) (ws' := [(a, .inr (ci0, []))]) (stk := [.int r_1]) rfl rfl rfl ?_)
  clear hv
  refine g_istore (lv' := [(4, .int r_1), (0, .ref a), (1, .int x1), (2, .int x2), (3, .int x3)]) h dX2_out_7 (hL 4 (fle rfl)) rfl ?_
  refine g_iload_n h 3 dX2_out_9 rfl rfl ?_
  refine g_bipush (v := 7) h dX2_out_10 kbipush_7 ?_
  refine g_icmp_eq (tgt := 21) h dX2_out_12 rfl hf (fun c2 hf => ?_) (fun c2 hf => ?_)
  · refine g_iload h 0 dX2_out_21 rfl ?_
    refine g_goto (tgt := 31) h dX2_out_23 rfl ?_
    obtain rfl := sj1 hf
    exact g_iret h hF [0] rfl rfl ⟨rfl, rfl⟩ (fle rfl) (fle rfl) dX2_out_31
  · refine g_iload_n h 3 dX2_out_15 rfl rfl ?_
    refine g_bipush (v := 8) h dX2_out_16 kbipush_8 ?_
    refine g_icmp_ne (tgt := 26) h dX2_out_18 rfl hf (fun c3 hf => ?_) (fun c3 hf => ?_)
    · refine g_iload h 0 dX2_out_21 rfl ?_
      refine g_goto (tgt := 31) h dX2_out_23 rfl ?_
      obtain rfl := sj1 hf
      exact g_iret h hF [0] rfl rfl ⟨rfl, rfl⟩ (fle rfl) (fle rfl) dX2_out_31
    · refine g_iload h 0 dX2_out_26 rfl ?_
      refine g_iload h 0 dX2_out_28 rfl ?_
      refine g_iadd h dX2_out_30 ?_
      obtain rfl := sj1 hf
      exact g_iret h hF [0] rfl rfl ⟨rfl, rfl⟩ (fle rfl) (fle rfl) dX2_out_31
set_option maxHeartbeats 4000000 in
set_option maxRecDepth 100000 in
theorem ct_X0_in {l : Launch} {D : va_G} {E : Ety}  {x0 : Int64} {x2 : Int64} {x4 : Int64} {r_ : Int32} (hf : f_X0_in x0 x2 x4 = some r_) : Ct l yX0_in cX0_in 6 (some .boolean) 0 0 0 0 D E [.long x0, .long x2, .long x4] [] (Pn (some (.int r_)) []) := by
  refine ct_of (own := RX0) (plainFor_of_name (by decide)) rfl (fle rfl) rfl ?_
  intro X hl hD hE hnL hXF h hR hF hnm
  subst hl; subst hD; subst hE
  have hL : ∀ i, i < 6 → i < X.nL := fun i hi => by rw [hnL]; exact hi
  unfold f_X0_in at hf
  refine g_lload_n h 0 dX0_in_0 rfl rfl ?_
  refine g_lload_n h 1 dX0_in_1 rfl rfl ?_
  refine g_lcmp h dX0_in_2 ?_
  refine g_if_lt (tgt := 17) h dX0_in_3 rfl hf (fun c1 hf => ?_) (fun c1 hf => ?_)
  · refine g_iconst (v := 0) h dX0_in_17 kiconst_0 ?_
    obtain rfl := sj1 hf
    exact g_zret h hF rfl [] rfl rfl ⟨rfl, rfl⟩ (fle rfl) (fle rfl) dX0_in_18
  · refine g_lload_n h 0 dX0_in_6 rfl rfl ?_
    refine g_lload h 2 dX0_in_7 rfl ?_
    refine g_lcmp h dX0_in_9 ?_
    refine g_if_gt (tgt := 17) h dX0_in_10 rfl hf (fun c2 hf => ?_) (fun c2 hf => ?_)
    · refine g_iconst (v := 0) h dX0_in_17 kiconst_0 ?_
      obtain rfl := sj1 hf
      exact g_zret h hF rfl [] rfl rfl ⟨rfl, rfl⟩ (fle rfl) (fle rfl) dX0_in_18
    · refine g_iconst (v := 1) h dX0_in_13 kiconst_1 ?_
      refine g_goto (tgt := 18) h dX0_in_14 rfl ?_
      obtain rfl := sj1 hf
      exact g_zret h hF rfl [] rfl rfl ⟨rfl, rfl⟩ (fle rfl) (fle rfl) dX0_in_18
set_option maxHeartbeats 4000000 in
set_option maxRecDepth 100000 in
theorem ct_J2_max {l : Launch} {D : va_G} {E : Ety}  {x0 : Int32} {x1 : Int32} {r_ : Int32} (hf : f_J2_max x0 x1 = some r_) : Ct l yJ2_max cJ2_max 2 (some .int) 0 0 0 0 D E [.int x0, .int x1] [] (Pn (some (.int r_)) []) := by
  refine ct_of (own := RJ2) (by decide +kernel) rfl (fle rfl) rfl ?_
  intro X hl hD hE hnL hXF h hR hF hnm
  subst hl; subst hD; subst hE
  have hL : ∀ i, i < 2 → i < X.nL := fun i hi => by rw [hnL]; exact hi
  unfold f_J2_max at hf
  refine g_iload_n h 0 dJ2_max_0 rfl rfl ?_
  refine g_iload_n h 1 dJ2_max_1 rfl rfl ?_
  refine g_icmp_lt (tgt := 9) h dJ2_max_2 rfl hf (fun c1 hf => ?_) (fun c1 hf => ?_)
  · refine g_iload_n h 1 dJ2_max_9 rfl rfl ?_
    obtain rfl := sj1 hf
    exact g_iret h hF [] rfl rfl ⟨rfl, rfl⟩ (fle rfl) (fle rfl) dJ2_max_10
  · refine g_iload_n h 0 dJ2_max_5 rfl rfl ?_
    refine g_goto (tgt := 10) h dJ2_max_6 rfl ?_
    obtain rfl := sj1 hf
    exact g_iret h hF [] rfl rfl ⟨rfl, rfl⟩ (fle rfl) (fle rfl) dJ2_max_10
set_option maxHeartbeats 4000000 in
set_option maxRecDepth 100000 in
theorem ct_X3_out {l : Launch} {D : va_G} {E : Ety} {a : Nat} {x1 : Int32} {x2 : Int32} {x3 : Int32} {r_ : Int32} {ci0 : Nat} {r0 : vw_C} (hc0 : vwCl[ci0]? = some r0) (hf : f_X3_out x1 x2 = some r_) : Ct l yX3_out cX3_out 5 (some .int) 2 47 0 0 D E [.ref a, .int x1, .int x2, .int x3] [(a, .inr (ci0, []))] (Pn (some (.int r_)) [(a, .inr (ci0, []))]) := by
  refine ct_of (own := RX3) (plainFor_of_name (by decide)) rfl (fle rfl) rfl ?_
  intro X hl hD hE hnL hXF h hR hF hnm
  subst hl; subst hD; subst hE
  have hL : ∀ i, i < 5 → i < X.nL := fun i hi => by rw [hnL]; exact hi
  unfold f_X3_out at hf
  refine g_aload_n h 0 dX3_out_0 rfl rfl ?_
  refine g_iload_n h 1 dX3_out_1 rfl rfl ?_
  refine g_iload_n h 2 dX3_out_2 rfl rfl ?_
  refine g_iload_n h 3 dX3_out_3 rfl rfl ?_
  obtain ⟨r_1, hv, hf⟩ := ob1 hf
  refine g_callSU (ci := ci0) (q0 := 0) (n := 3) (As := [.int x1, .int x2, .int x3]) (st := []) (wr := []) (isC := [0]) (isR := []) h hR (ct_X2_out (ci0 := ci0) (a := a) (x1 := x1) (x2 := x2) (x3 := x3) hc0 hv) hc0 rfl q181 q1585 q182 q183 q72 q184 (by decide +kernel) rfl ⟨rfl, rfl, rfl, rfl, by decide⟩ ⟨fle rfl, fle rfl, fle rfl, fle rfl, fle rfl⟩ rfl dX3_out_4 (pin (perm := [0]) (ws' := [(a, .inr (ci0, []))]) (stk := [.int r_1]) rfl rfl rfl ?_)
  clear hv
  refine g_istore (lv' := [(4, .int r_1), (0, .ref a), (1, .int x1), (2, .int x2), (3, .int x3)]) h dX3_out_7 (hL 4 (fle rfl)) rfl ?_
  refine g_iload_n h 3 dX3_out_9 rfl rfl ?_
  refine g_i2l h dX3_out_10 ?_
  refine g_ldc2 h q189 dX3_out_11 ?_
  refine g_ldc2 h q190 dX3_out_14 ?_
  obtain ⟨r_2, hv, hf⟩ := ob1 hf
  refine g_callSN (n := 3) (As := [.long x2.toInt64, .long 9, .long 11]) (st := []) (wr := [(a, .inr (ci0, []))]) (isC := []) (isR := [0]) h hR (ct_X0_in (x0 := x2.toInt64) (x2 := 9) (x4 := 11) hv) q109 q70 q191 q108 (by decide +kernel) rfl ⟨rfl, rfl, rfl, rfl, by decide⟩ ⟨fle rfl, fle rfl, fle rfl, fle rfl, fle rfl⟩ rfl dX3_out_17 (pin (perm := [0]) (ws' := [(a, .inr (ci0, []))]) (stk := [.int r_2]) rfl rfl rfl ?_)
  clear hv
  refine g_if_eq (tgt := 34) h dX3_out_20 rfl hf (fun c3 hf => ?_) (fun c3 hf => ?_)
  · refine g_iload h 0 dX3_out_34 rfl ?_
    obtain rfl := sj1 hf
    exact g_iret h hF [0] rfl rfl ⟨rfl, rfl⟩ (fle rfl) (fle rfl) dX3_out_36
  · refine g_iconst (v := 0) h dX3_out_23 kiconst_0 ?_
    refine g_iload h 0 dX3_out_24 rfl ?_
    refine g_iconst (v := 2) h dX3_out_26 kiconst_2 ?_
    refine g_isub h dX3_out_27 ?_
    obtain ⟨r_4, hv, hf⟩ := ob1 hf
    refine g_callS (n := 2) (As := [.int 0, .int (r_1 - 2)]) (st := []) (wr := [(a, .inr (ci0, []))]) (isC := []) (isR := [0]) h hR (ct_J2_max (x0 := 0) (x1 := (r_1 - 2)) hv) (lw_S q192 q193 q81 q194) (by decide +kernel) rfl ⟨rfl, rfl, rfl, rfl, by decide⟩ ⟨fle rfl, fle rfl, fle rfl, fle rfl, fle rfl⟩ rfl dX3_out_28 (pin (perm := [0]) (ws' := [(a, .inr (ci0, []))]) (stk := [.int r_4]) rfl rfl rfl ?_)
    clear hv
    refine g_goto (tgt := 36) h dX3_out_31 rfl ?_
    obtain rfl := sj1 hf
    exact g_iret h hF [0] rfl rfl ⟨rfl, rfl⟩ (fle rfl) (fle rfl) dX3_out_36
set_option maxHeartbeats 4000000 in
set_option maxRecDepth 100000 in
theorem ct_X4_out {l : Launch} {D : va_G} {E : Ety} {a : Nat} {x1 : Int32} {x2 : Int32} {x3 : Int32} {r_ : Int32} {ci0 : Nat} {r0 : vw_C} (hc0 : vwCl[ci0]? = some r0) (hf : f_X4_out x1 x2 = some r_) : Ct l yX4_out cX4_out 4 (some .int) 3 71 0 0 D E [.ref a, .int x1, .int x2, .int x3] [(a, .inr (ci0, []))] (Pn (some (.int r_)) [(a, .inr (ci0, []))]) := by
  refine ct_of (own := RX4) (plainFor_of_name (by decide)) rfl (fle rfl) rfl ?_
  intro X hl hD hE hnL hXF h hR hF hnm
  subst hl; subst hD; subst hE
  have hL : ∀ i, i < 4 → i < X.nL := fun i hi => by rw [hnL]; exact hi
  unfold f_X4_out at hf
  refine g_iload_n h 2 dX4_out_0 rfl rfl ?_
  refine g_i2l h dX4_out_1 ?_
  refine g_ldc2 h q205 dX4_out_2 ?_
  refine g_ldc2 h q206 dX4_out_5 ?_
  obtain ⟨r_1, hv, hf⟩ := ob1 hf
  refine g_callSN (n := 3) (As := [.long x2.toInt64, .long 15, .long 16]) (st := []) (wr := [(a, .inr (ci0, []))]) (isC := []) (isR := [0]) h hR (ct_X0_in (x0 := x2.toInt64) (x2 := 15) (x4 := 16) hv) q109 q70 q207 q108 (by decide +kernel) rfl ⟨rfl, rfl, rfl, rfl, by decide⟩ ⟨fle rfl, fle rfl, fle rfl, fle rfl, fle rfl⟩ rfl dX4_out_8 (pin (perm := [0]) (ws' := [(a, .inr (ci0, []))]) (stk := [.int r_1]) rfl rfl rfl ?_)
  clear hv
  refine g_if_eq (tgt := 18) h dX4_out_11 rfl hf (fun c2 hf => ?_) (fun c2 hf => ?_)
  · refine g_aload_n h 0 dX4_out_18 rfl rfl ?_
    refine g_iload_n h 1 dX4_out_19 rfl rfl ?_
    refine g_iload_n h 2 dX4_out_20 rfl rfl ?_
    refine g_iload_n h 3 dX4_out_21 rfl rfl ?_
    obtain ⟨r_3, hv, hf⟩ := ob1 hf
    refine g_callSU (ci := ci0) (q0 := 0) (n := 3) (As := [.int x1, .int x2, .int x3]) (st := []) (wr := []) (isC := [0]) (isR := []) h hR (ct_X3_out (ci0 := ci0) (a := a) (x1 := x1) (x2 := x2) (x3 := x3) hc0 hv) hc0 rfl q208 q1587 q209 q178 q73 q180 (by decide +kernel) rfl ⟨rfl, rfl, rfl, rfl, by decide⟩ ⟨fle rfl, fle rfl, fle rfl, fle rfl, fle rfl⟩ rfl dX4_out_22 (pin (perm := [0]) (ws' := [(a, .inr (ci0, []))]) (stk := [.int r_3]) rfl rfl rfl ?_)
    clear hv
    obtain rfl := sj1 hf
    exact g_iret h hF [0] rfl rfl ⟨rfl, rfl⟩ (fle rfl) (fle rfl) dX4_out_25
  · refine g_iconst (v := 0) h dX4_out_14 kiconst_0 ?_
    refine g_goto (tgt := 25) h dX4_out_15 rfl ?_
    obtain rfl := sj1 hf
    exact g_iret h hF [0] rfl rfl ⟨rfl, rfl⟩ (fle rfl) (fle rfl) dX4_out_25
set_option maxHeartbeats 4000000 in
set_option maxRecDepth 100000 in
theorem ct_X5_out {l : Launch} {D : va_G} {E : Ety} {a : Nat} {x1 : Int32} {x2 : Int32} {x3 : Int32} {r_ : Int32} (hf : f_X5_out x1 x3 = some r_) : Ct l yX5_out cX5_out 4 (some .int) 1 23 0 0 D E [.ref a, .int x1, .int x2, .int x3] [(a, .inr (5, []))] (Pn (some (.int r_)) [(a, .inr (5, []))]) := by
  refine ct_of (own := RX5) (plainFor_of_name (by decide)) rfl (fle rfl) rfl ?_
  intro X hl hD hE hnL hXF h hR hF hnm
  subst hl; subst hD; subst hE
  have hL : ∀ i, i < 4 → i < X.nL := fun i hi => by rw [hnL]; exact hi
  unfold f_X5_out at hf
  refine g_aload_n h 0 dX5_out_0 rfl rfl ?_
  refine g_iload_n h 1 dX5_out_1 rfl rfl ?_
  refine g_iload_n h 2 dX5_out_2 rfl rfl ?_
  refine g_iload_n h 3 dX5_out_3 rfl rfl ?_
  obtain ⟨r_1, hv, hf⟩ := ob1 hf
  refine g_callSU (ci := 5) (q0 := 0) (n := 3) (As := [.int x1, .int x2, .int x3]) (st := []) (wr := [(a, .inr (5, []))]) (isC := []) (isR := [0]) h hR (ct_X1_out (a := a) (x1 := x1) (x2 := x2) (x3 := x3) hv) rfl rfl q220 q1586 q221 q187 q71 q188 (by decide +kernel) rfl ⟨rfl, rfl, rfl, rfl, by decide⟩ ⟨fle rfl, fle rfl, fle rfl, fle rfl, fle rfl⟩ rfl dX5_out_4 (pin (perm := [0]) (ws' := [(a, .inr (5, []))]) (stk := [.int r_1]) rfl rfl rfl ?_)
  clear hv
  refine g_iload_n h 3 dX5_out_7 rfl rfl ?_
  refine g_iadd h dX5_out_8 ?_
  obtain rfl := sj1 hf
  exact g_iret h hF [0] rfl rfl ⟨rfl, rfl⟩ (fle rfl) (fle rfl) dX5_out_9
set_option maxHeartbeats 4000000 in
set_option maxRecDepth 100000 in
theorem ct_J0_init {l : Launch} {D : va_G} {E : Ety} {a : Nat}   (hf : f_J0_init  = some ()) : Ct l yJ0_init cJ0_init 1 none 1 20 0 0 D E [.ref a] [] (Pn none []) := by
  refine ct_of (own := RJ0) (plainFor_of_name (by decide)) rfl (fle rfl) rfl ?_
  intro X hl hD hE hnL hXF h hR hF hnm
  subst hl; subst hD; subst hE
  have hL : ∀ i, i < 1 → i < X.nL := fun i hi => by rw [hnL]; exact hi
  unfold f_J0_init at hf
  refine g_aload_n h 0 dJ0_init_0 rfl rfl ?_
  refine g_objInit h hR q1085 q255 q256 (fle rfl) (fle rfl) dJ0_init_1 ?_
  clear hf
  exact g_vret h hF [] rfl rfl ⟨rfl, rfl⟩ (fle rfl) (fle rfl) dJ0_init_4
set_option maxHeartbeats 4000000 in
set_option maxRecDepth 100000 in
theorem w_J1_circularClear_L12 {X : Cx} {a_t0 : Nat} {x2 : Int32} {ce sl : Nat} (h : Ok X cJ1_circularClear RJ1) (hR : Rm X 0 0 0 0) (hL : ∀ i, i < 4 → i < X.nL) (hce : ce ≤ 0) (hsl : sl ≤ 0) : ∀ (n0 : Nat) (x1 : Int32) (x3 : Int32) (t0 : Nat → Option Nat) {o_t0 : Nat → Option Nat}, f_J1_circularClear_L12 x2 n0 x1 x3 t0 = some o_t0 → (G X [(a_t0, .inl (X.E 4, 17, .inr (.inr (.inr (.inr o_t0)))))] [] ce sl 32 []) → G X [(a_t0, .inl (X.E 4, 17, .inr (.inr (.inr (.inr t0)))))] [(0, .ref a_t0), (1, .int x1), (2, .int x2), (3, .int x3)] ce sl 12 [] := by
  intro n0
  induction n0 with
  | zero => intro x1 x3 t0 o_t0 hf; exact nomatch (show (none : Option _) = some _ from hf)
  | succ n0 ih =>
    intro x1 x3 t0 o_t0 hf k0
    replace hf : t_J1_circularClear_L12 x2 (f_J1_circularClear_L12 x2 n0) x1 x3 t0 = some o_t0 := hf
    unfold t_J1_circularClear_L12 at hf
    refine g_iload_n h 1 dJ1_circularClear_12 rfl rfl ?_
    refine g_iload_n h 3 dJ1_circularClear_13 rfl rfl ?_
    refine g_icmp_ge (tgt := 27) h dJ1_circularClear_14 rfl hf (fun c3 hf => ?_) (fun c3 hf => ?_)
    · refine g_iload_n h 3 dJ1_circularClear_27 rfl rfl ?_
      refine g_iload_n h 2 dJ1_circularClear_28 rfl rfl ?_
      refine g_icmp_ne (tgt := 35) h dJ1_circularClear_29 rfl hf (fun c5 hf => ?_) (fun c5 hf => ?_)
      · obtain rfl := sj1 hf
        exact G.lsub [] rfl k0
      · refine g_iconst (v := 0) h dJ1_circularClear_35 kiconst_0 ?_
        refine g_istore_n (lv' := [(1, .int 0), (0, .ref a_t0), (2, .int x2), (3, .int x3)]) h dJ1_circularClear_36 rfl (hL 1 (fle rfl)) rfl ?_
        refine g_iload_n h 2 dJ1_circularClear_37 rfl rfl ?_
        refine g_istore_n (lv' := [(3, .int x2), (1, .int 0), (0, .ref a_t0), (2, .int x2)]) h dJ1_circularClear_38 rfl (hL 3 (fle rfl)) rfl ?_
        refine g_goto (tgt := 12) h dJ1_circularClear_39 rfl ?_
        exact G.lsub [2, 1, 3, 0] rfl (ih _ _ _ hf k0)
    · refine g_aload_n h 0 dJ1_circularClear_17 rfl rfl ?_
      refine g_iload_n h 1 dJ1_circularClear_18 rfl rfl ?_
      refine g_null h dJ1_circularClear_19 ?_
      obtain ⟨g6, hf⟩ := gn hf
      refine g_aastN (t0 := 4) (ws' := [(a_t0, .inl (X.E 4, 17, .inr (.inr (.inr (.inr (va_up t0 x1.toNatClampNeg none))))))]) h 0 rfl rfl g6 rfl dJ1_circularClear_20 ?_
      refine g_iinc (j := 1) (v := (x1 + 1)) (lv' := [(1, .int (x1 + 1)), (0, .ref a_t0), (2, .int x2), (3, .int x3)]) h dJ1_circularClear_21 rfl (kinc_1 _) (hL 1 (fle rfl)) rfl ?_
      refine g_goto (tgt := 12) h dJ1_circularClear_24 rfl ?_
      exact G.lsub [1, 0, 2, 3] rfl (ih _ _ _ hf k0)
set_option maxHeartbeats 4000000 in
set_option maxRecDepth 100000 in
theorem ct_J1_circularClear {l : Launch} {D : va_G} {E : Ety} {a_t0 : Nat} {x1 : Int32} {x2 : Int32} {t0 : Nat → Option Nat} {o_t0 : Nat → Option Nat} (hf : f_J1_circularClear x1 x2 t0 = some o_t0) : Ct l yJ1_circularClear cJ1_circularClear 4 none 0 0 0 0 D E [.ref a_t0, .int x1, .int x2] [(a_t0, .inl (E 4, 17, .inr (.inr (.inr (.inr t0)))))] (Pn none [(a_t0, .inl (E 4, 17, .inr (.inr (.inr (.inr o_t0)))))]) := by
  refine ct_of (own := RJ1) (plainFor_of_name (by decide)) rfl (fle rfl) rfl ?_
  intro X hl hD hE hnL hXF h hR hF hnm
  subst hl; subst hD; subst hE
  have hL : ∀ i, i < 4 → i < X.nL := fun i hi => by rw [hnL]; exact hi
  unfold f_J1_circularClear at hf
  refine g_iload_n h 1 dJ1_circularClear_0 rfl rfl ?_
  refine g_iload_n h 2 dJ1_circularClear_1 rfl rfl ?_
  obtain ⟨z_2, hw, hf⟩ := ob1 hf
  have K2 : G X [(a_t0, .inl (X.E 4, 17, .inr (.inr (.inr (.inr t0)))))] [(0, .ref a_t0), (1, .int x1), (2, .int x2)] 0 0 11 [.int z_2] := by
    clear hw
    refine g_istore_n (lv' := [(3, .int z_2), (0, .ref a_t0), (1, .int x1), (2, .int x2)]) h dJ1_circularClear_11 rfl (hL 3 (fle rfl)) rfl ?_
    refine G.lsub (lv' := [(0, .ref a_t0), (1, .int x1), (2, .int x2), (3, .int z_2)]) [1, 2, 3, 0] rfl ?_
    obtain ⟨t0_7, hv, hf⟩ := ob1 hf
    refine w_J1_circularClear_L12 (x2 := x2) h hR hL (fle rfl) (fle rfl) FU _ _ _ hv ?_
    · clear hv
      refine g_goto (tgt := 42) h dJ1_circularClear_32 rfl ?_
      obtain rfl := sj1 hf
      exact g_vret h hF [0] rfl rfl ⟨rfl, rfl⟩ (fle rfl) (fle rfl) dJ1_circularClear_42
  clear hf
  have hf := hw
  clear hw
  refine g_icmp_gt (tgt := 9) h dJ1_circularClear_2 rfl hf (fun c1 hf => ?_) (fun c1 hf => ?_)
  · refine g_aload_n h 0 dJ1_circularClear_9 rfl rfl ?_
    refine g_alen (t0 := 4) (v := 17) h 0 rfl rfl rfl dJ1_circularClear_10 ?_
    obtain rfl := sj1 hf
    exact G.lsub [0, 1, 2] rfl K2
  · refine g_iload_n h 2 dJ1_circularClear_5 rfl rfl ?_
    refine g_goto (tgt := 11) h dJ1_circularClear_6 rfl ?_
    obtain rfl := sj1 hf
    exact G.lsub [0, 1, 2] rfl K2
set_option maxHeartbeats 4000000 in
set_option maxRecDepth 100000 in
theorem ct_J1_clear {l : Launch} {D : va_G} {E : Ety} {a a_elements : Nat} {head : Int32} {tail : Int32} {elements : Nat → Option Nat} {o_head : Int32} {o_tail : Int32} {o_elements : Nat → Option Nat} (hf : f_J1_clear head tail elements = some (o_head, o_tail, o_elements)) : Ct l yJ1_clear cJ1_clear 1 none 1 23 0 0 D E [.ref a] [(a, .inr (11, [.ref a_elements, .int head, .int tail])), (a_elements, .inl (E 4, 17, .inr (.inr (.inr (.inr elements)))))] (Pn none [(a, .inr (11, [.ref a_elements, .int o_head, .int o_tail])), (a_elements, .inl (E 4, 17, .inr (.inr (.inr (.inr o_elements)))))]) := by
  refine ct_of (own := RJ1) (plainFor_of_name (by decide)) rfl (fle rfl) rfl ?_
  intro X hl hD hE hnL hXF h hR hF hnm
  subst hl; subst hD; subst hE
  have hL : ∀ i, i < 1 → i < X.nL := fun i hi => by rw [hnL]; exact hi
  unfold f_J1_clear at hf
  refine g_aload_n h 0 dJ1_clear_0 rfl rfl ?_
  refine g_get (ci := 11) (v := .ref a_elements) h in_J1 0 0 rfl rfl (fle rfl) rfl q1087 rfl dJ1_clear_1 ?_
  refine g_aload_n h 0 dJ1_clear_4 rfl rfl ?_
  refine g_get (ci := 11) (v := .int head) h in_J1 0 1 rfl rfl (fle rfl) rfl q1090 rfl dJ1_clear_5 ?_
  refine g_aload_n h 0 dJ1_clear_8 rfl rfl ?_
  refine g_get (ci := 11) (v := .int tail) h in_J1 0 2 rfl rfl (fle rfl) rfl q1091 rfl dJ1_clear_9 ?_
  obtain ⟨elements_1, hv, hf⟩ := ob1 hf
  refine g_callS (n := 3) (As := [.ref a_elements, .int head, .int tail]) (st := []) (wr := [(a, .inr (11, [.ref a_elements, .int head, .int tail]))]) (isC := [1]) (isR := [0]) h hR (ct_J1_circularClear (a_t0 := a_elements) (x1 := head) (x2 := tail) (t0 := elements) hv) (lw_S q127 q128 q78 q129) (by decide +kernel) rfl ⟨rfl, rfl, rfl, rfl, by decide⟩ ⟨fle rfl, fle rfl, fle rfl, fle rfl, fle rfl⟩ rfl dJ1_clear_12 (pin (perm := [0, 1]) (ws' := [(a, .inr (11, [.ref a_elements, .int head, .int tail])), (a_elements, .inl (X.E 4, 17, .inr (.inr (.inr (.inr elements_1)))))]) (stk := []) rfl rfl rfl ?_)
  clear hv
  refine g_aload_n h 0 dJ1_clear_15 rfl rfl ?_
  refine g_aload_n h 0 dJ1_clear_16 rfl rfl ?_
  refine g_iconst (v := 0) h dJ1_clear_17 kiconst_0 ?_
  refine g_dup_x1 h dJ1_clear_18 rfl rfl ?_
  refine g_put (ci := 11) (ty := tyJ1 2) (ws' := [(a, .inr (11, [.ref a_elements, .int head, .int 0])), (a_elements, .inl (X.E 4, 17, .inr (.inr (.inr (.inr elements_1)))))]) h in_J1 tyJ1 tyJ1_ok nmJ1 0 2 rfl rfl (fle rfl) ⟨rfl, rfl⟩ q1091 rfl rfl rfl (fle rfl) rfl dJ1_clear_19 ?_
  refine g_put (ci := 11) (ty := tyJ1 1) (ws' := [(a, .inr (11, [.ref a_elements, .int 0, .int 0])), (a_elements, .inl (X.E 4, 17, .inr (.inr (.inr (.inr elements_1)))))]) h in_J1 tyJ1 tyJ1_ok nmJ1 0 1 rfl rfl (fle rfl) ⟨rfl, rfl⟩ q1090 rfl rfl rfl (fle rfl) rfl dJ1_clear_22 ?_
  obtain ⟨rfl, rfl, rfl⟩ := sj3 hf
  exact g_vret h hF [0, 1] rfl rfl ⟨rfl, rfl⟩ (fle rfl) (fle rfl) dJ1_clear_25
set_option maxHeartbeats 4000000 in
set_option maxRecDepth 100000 in
theorem ct_J1_sub {l : Launch} {D : va_G} {E : Ety}  {x0 : Int32} {x1 : Int32} {x2 : Int32} {r_ : Int32} (hf : f_J1_sub x0 x1 x2 = some r_) : Ct l yJ1_sub cJ1_sub 3 (some .int) 0 0 0 0 D E [.int x0, .int x1, .int x2] [] (Pn (some (.int r_)) []) := by
  refine ct_of (own := RJ1) (plainFor_of_name (by decide)) rfl (fle rfl) rfl ?_
  intro X hl hD hE hnL hXF h hR hF hnm
  subst hl; subst hD; subst hE
  have hL : ∀ i, i < 3 → i < X.nL := fun i hi => by rw [hnL]; exact hi
  unfold f_J1_sub at hf
  refine g_iload_n h 0 dJ1_sub_0 rfl rfl ?_
  refine g_iload_n h 1 dJ1_sub_1 rfl rfl ?_
  refine g_isub h dJ1_sub_2 ?_
  refine g_dup h dJ1_sub_3 rfl ?_
  refine g_istore_n (lv' := [(0, .int (x0 - x1)), (1, .int x1), (2, .int x2)]) h dJ1_sub_4 rfl (hL 0 (fle rfl)) rfl ?_
  refine g_if_ge (tgt := 12) h dJ1_sub_5 rfl hf (fun c1 hf => ?_) (fun c1 hf => ?_)
  · refine g_iload_n h 0 dJ1_sub_12 rfl rfl ?_
    obtain rfl := sj1 hf
    exact g_iret h hF [] rfl rfl ⟨rfl, rfl⟩ (fle rfl) (fle rfl) dJ1_sub_13
  · refine g_iload_n h 0 dJ1_sub_8 rfl rfl ?_
    refine g_iload_n h 2 dJ1_sub_9 rfl rfl ?_
    refine g_iadd h dJ1_sub_10 ?_
    refine g_istore_n (lv' := [(0, .int ((x0 - x1) + x2)), (1, .int x1), (2, .int x2)]) h dJ1_sub_11 rfl (hL 0 (fle rfl)) rfl ?_
    refine g_iload_n h 0 dJ1_sub_12 rfl rfl ?_
    obtain rfl := sj1 hf
    exact g_iret h hF [] rfl rfl ⟨rfl, rfl⟩ (fle rfl) (fle rfl) dJ1_sub_13
set_option maxHeartbeats 4000000 in
set_option maxRecDepth 100000 in
theorem ct_J1_size {l : Launch} {D : va_G} {E : Ety} {a a_elements : Nat} {head : Int32} {tail : Int32} {elements : Nat → Option Nat} {r_ : Int32} (hf : f_J1_size head tail = some r_) : Ct l yJ1_size cJ1_size 1 (some .int) 1 22 0 0 D E [.ref a] [(a, .inr (11, [.ref a_elements, .int head, .int tail])), (a_elements, .inl (E 4, 17, .inr (.inr (.inr (.inr elements)))))] (Pn (some (.int r_)) [(a, .inr (11, [.ref a_elements, .int head, .int tail])), (a_elements, .inl (E 4, 17, .inr (.inr (.inr (.inr elements)))))]) := by
  refine ct_of (own := RJ1) (plainFor_of_name (by decide)) rfl (fle rfl) rfl ?_
  intro X hl hD hE hnL hXF h hR hF hnm
  subst hl; subst hD; subst hE
  have hL : ∀ i, i < 1 → i < X.nL := fun i hi => by rw [hnL]; exact hi
  unfold f_J1_size at hf
  refine g_aload_n h 0 dJ1_size_0 rfl rfl ?_
  refine g_get (ci := 11) (v := .int tail) h in_J1 0 2 rfl rfl (fle rfl) rfl q1091 rfl dJ1_size_1 ?_
  refine g_aload_n h 0 dJ1_size_4 rfl rfl ?_
  refine g_get (ci := 11) (v := .int head) h in_J1 0 1 rfl rfl (fle rfl) rfl q1090 rfl dJ1_size_5 ?_
  refine g_aload_n h 0 dJ1_size_8 rfl rfl ?_
  refine g_get (ci := 11) (v := .ref a_elements) h in_J1 0 0 rfl rfl (fle rfl) rfl q1087 rfl dJ1_size_9 ?_
  refine g_alen (t0 := 4) (v := 17) h 1 rfl rfl rfl dJ1_size_12 ?_
  obtain ⟨r_1, hv, hf⟩ := ob1 hf
  refine g_callS (n := 3) (As := [.int tail, .int head, .int 17]) (st := []) (wr := [(a, .inr (11, [.ref a_elements, .int head, .int tail])), (a_elements, .inl (X.E 4, 17, .inr (.inr (.inr (.inr elements)))))]) (isC := []) (isR := [0, 1]) h hR (ct_J1_sub (x0 := tail) (x1 := head) (x2 := 17) hv) (lw_S q320 q321 q78 q322) (by decide +kernel) rfl ⟨rfl, rfl, rfl, rfl, by decide⟩ ⟨fle rfl, fle rfl, fle rfl, fle rfl, fle rfl⟩ rfl dJ1_size_13 (pin (perm := [0, 1]) (ws' := [(a, .inr (11, [.ref a_elements, .int head, .int tail])), (a_elements, .inl (X.E 4, 17, .inr (.inr (.inr (.inr elements)))))]) (stk := [.int r_1]) rfl rfl rfl ?_)
  clear hv
  obtain rfl := sj1 hf
  exact g_iret h hF [0, 1] rfl rfl ⟨rfl, rfl⟩ (fle rfl) (fle rfl) dJ1_size_16
set_option maxHeartbeats 4000000 in
set_option maxRecDepth 100000 in
theorem ct_J1_elementAt {l : Launch} {D : va_G} {E : Ety} {a_t0 : Nat} {x1 : Int32} {t0 : Nat → Option Nat} {p_ : Nat} (hf : f_J1_elementAt x1 t0 = some p_) : Ct l yJ1_elementAt cJ1_elementAt 2 (some (.object "java/lang/Object")) 0 0 0 0 D E [.ref a_t0, .int x1] [(a_t0, .inl (E 4, 17, .inr (.inr (.inr (.inr t0)))))] (Pn (some (.ref p_)) [(a_t0, .inl (E 4, 17, .inr (.inr (.inr (.inr t0)))))]) := by
  refine ct_of (own := RJ1) (plainFor_of_name (by decide)) rfl (fle rfl) rfl ?_
  intro X hl hD hE hnL hXF h hR hF hnm
  subst hl; subst hD; subst hE
  have hL : ∀ i, i < 2 → i < X.nL := fun i hi => by rw [hnL]; exact hi
  unfold f_J1_elementAt at hf
  refine g_aload_n h 0 dJ1_elementAt_0 rfl rfl ?_
  refine g_iload_n h 1 dJ1_elementAt_1 rfl rfl ?_
  obtain ⟨g1, hf⟩ := gn hf
  refine oc_at hf (fun ep2 hf => ?_) (fun p2 ep2 hf => ?_)
  · refine g_aaN (t0 := 4) h 0 rfl rfl g1 ep2 dJ1_elementAt_2 ?_
    exact nomatch hf
  · refine g_aaS (t0 := 4) (p := p2) h 0 rfl rfl g1 ep2 dJ1_elementAt_2 ?_
    obtain rfl := sj1 hf
    exact g_aret h hF (Or.inl ⟨_, rfl⟩) (Or.inr ⟨_, rfl⟩) [0] rfl rfl ⟨rfl, rfl⟩ (fle rfl) (fle rfl) dJ1_elementAt_3
set_option maxHeartbeats 4000000 in
set_option maxRecDepth 100000 in
theorem ct_J1_inc {l : Launch} {D : va_G} {E : Ety}  {x0 : Int32} {x1 : Int32} {r_ : Int32} (hf : f_J1_inc x0 x1 = some r_) : Ct l yJ1_inc cJ1_inc 2 (some .int) 0 0 0 0 D E [.int x0, .int x1] [] (Pn (some (.int r_)) []) := by
  refine ct_of (own := RJ1) (plainFor_of_name (by decide)) rfl (fle rfl) rfl ?_
  intro X hl hD hE hnL hXF h hR hF hnm
  subst hl; subst hD; subst hE
  have hL : ∀ i, i < 2 → i < X.nL := fun i hi => by rw [hnL]; exact hi
  unfold f_J1_inc at hf
  refine g_iinc (j := 0) (v := (x0 + 1)) (lv' := [(0, .int (x0 + 1)), (1, .int x1)]) h dJ1_inc_0 rfl (kinc_1 _) (hL 0 (fle rfl)) rfl ?_
  refine g_iload_n h 0 dJ1_inc_3 rfl rfl ?_
  refine g_iload_n h 1 dJ1_inc_4 rfl rfl ?_
  refine g_icmp_lt (tgt := 10) h dJ1_inc_5 rfl hf (fun c1 hf => ?_) (fun c1 hf => ?_)
  · refine g_iload_n h 0 dJ1_inc_10 rfl rfl ?_
    obtain rfl := sj1 hf
    exact g_iret h hF [] rfl rfl ⟨rfl, rfl⟩ (fle rfl) (fle rfl) dJ1_inc_11
  · refine g_iconst (v := 0) h dJ1_inc_8 kiconst_0 ?_
    refine g_istore_n (lv' := [(0, .int 0), (1, .int x1)]) h dJ1_inc_9 rfl (hL 0 (fle rfl)) rfl ?_
    refine g_iload_n h 0 dJ1_inc_10 rfl rfl ?_
    obtain rfl := sj1 hf
    exact g_iret h hF [] rfl rfl ⟨rfl, rfl⟩ (fle rfl) (fle rfl) dJ1_inc_11
set_option maxHeartbeats 4000000 in
set_option maxRecDepth 100000 in
theorem ct_J1_pollFirst {l : Launch} {D : va_G} {E : Ety} {a a_elements : Nat} {head : Int32} {tail : Int32} {elements : Nat → Option Nat} {p_ : Nat} {o_head : Int32} {o_elements : Nat → Option Nat} (hf : f_J1_pollFirst head elements = some (p_, o_head, o_elements)) : Ct l yJ1_pollFirst cJ1_pollFirst 4 (some (.object "java/lang/Object")) 1 21 0 0 D E [.ref a] [(a, .inr (11, [.ref a_elements, .int head, .int tail])), (a_elements, .inl (E 4, 17, .inr (.inr (.inr (.inr elements)))))] (Pn (some (.ref p_)) [(a, .inr (11, [.ref a_elements, .int o_head, .int tail])), (a_elements, .inl (E 4, 17, .inr (.inr (.inr (.inr o_elements)))))]) := by
  refine ct_of (own := RJ1) (plainFor_of_name (by decide)) rfl (fle rfl) rfl ?_
  intro X hl hD hE hnL hXF h hR hF hnm
  subst hl; subst hD; subst hE
  have hL : ∀ i, i < 4 → i < X.nL := fun i hi => by rw [hnL]; exact hi
  unfold f_J1_pollFirst at hf
  refine g_aload_n h 0 dJ1_pollFirst_0 rfl rfl ?_
  refine g_get (ci := 11) (v := .ref a_elements) h in_J1 0 0 rfl rfl (fle rfl) rfl q1087 rfl dJ1_pollFirst_1 ?_
  refine g_dup h dJ1_pollFirst_4 rfl ?_
  refine g_astore_n (lv' := [(1, .ref a_elements), (0, .ref a)]) h dJ1_pollFirst_5 rfl (hL 1 (fle rfl)) rfl ?_
  refine g_aload_n h 1 dJ1_pollFirst_6 rfl rfl ?_
  refine g_get (ci := 11) (v := .int head) h in_J1 0 1 rfl rfl (fle rfl) rfl q1090 rfl dJ1_pollFirst_7 ?_
  refine g_dup h dJ1_pollFirst_10 rfl ?_
  refine g_istore_n (lv' := [(2, .int head), (1, .ref a_elements), (0, .ref a)]) h dJ1_pollFirst_11 rfl (hL 2 (fle rfl)) rfl ?_
  obtain ⟨p_1, hv, hf⟩ := ob1 hf
  refine g_callS (n := 2) (As := [.ref a_elements, .int head]) (st := []) (wr := [(a, .inr (11, [.ref a_elements, .int head, .int tail]))]) (isC := [1]) (isR := [0]) h hR (ct_J1_elementAt (a_t0 := a_elements) (x1 := head) (t0 := elements) hv) (lw_S q538 q539 q78 q540) (by decide +kernel) rfl ⟨rfl, rfl, rfl, rfl, by decide⟩ ⟨fle rfl, fle rfl, fle rfl, fle rfl, fle rfl⟩ rfl dJ1_pollFirst_12 (pin (perm := [0, 1]) (ws' := [(a, .inr (11, [.ref a_elements, .int head, .int tail])), (a_elements, .inl (X.E 4, 17, .inr (.inr (.inr (.inr elements)))))]) (stk := [.ref p_1]) rfl rfl rfl ?_)
  clear hv
  refine g_astore_n (lv' := [(3, .ref p_1), (2, .int head), (1, .ref a_elements), (0, .ref a)]) h dJ1_pollFirst_15 rfl (hL 3 (fle rfl)) rfl ?_
  refine g_aload_n h 0 dJ1_pollFirst_16 rfl rfl ?_
  refine g_ifnull h dJ1_pollFirst_17 ?_
  refine g_aload_n h 2 dJ1_pollFirst_20 rfl rfl ?_
  refine g_iload_n h 1 dJ1_pollFirst_21 rfl rfl ?_
  refine g_null h dJ1_pollFirst_22 ?_
  obtain ⟨g2, hf⟩ := gn hf
  refine g_aastN (t0 := 4) (ws' := [(a, .inr (11, [.ref a_elements, .int head, .int tail])), (a_elements, .inl (X.E 4, 17, .inr (.inr (.inr (.inr (va_up elements head.toNatClampNeg none))))))]) h 1 rfl rfl g2 rfl dJ1_pollFirst_23 ?_
  refine g_aload_n h 3 dJ1_pollFirst_24 rfl rfl ?_
  refine g_iload_n h 1 dJ1_pollFirst_25 rfl rfl ?_
  refine g_aload_n h 2 dJ1_pollFirst_26 rfl rfl ?_
  refine g_alen (t0 := 4) (v := 17) h 1 rfl rfl rfl dJ1_pollFirst_27 ?_
  obtain ⟨r_3, hv, hf⟩ := ob1 hf
  refine g_callS (n := 2) (As := [.int head, .int 17]) (st := [.ref a]) (wr := [(a, .inr (11, [.ref a_elements, .int head, .int tail])), (a_elements, .inl (X.E 4, 17, .inr (.inr (.inr (.inr (va_up elements head.toNatClampNeg none))))))]) (isC := []) (isR := [0, 1]) h hR (ct_J1_inc (x0 := head) (x1 := 17) hv) (lw_S q541 q542 q78 q543) (by decide +kernel) rfl ⟨rfl, rfl, rfl, rfl, by decide⟩ ⟨fle rfl, fle rfl, fle rfl, fle rfl, fle rfl⟩ rfl dJ1_pollFirst_28 (pin (perm := [0, 1]) (ws' := [(a, .inr (11, [.ref a_elements, .int head, .int tail])), (a_elements, .inl (X.E 4, 17, .inr (.inr (.inr (.inr (va_up elements head.toNatClampNeg none))))))]) (stk := [.int r_3, .ref a]) rfl rfl rfl ?_)
  clear hv
  refine g_put (ci := 11) (ty := tyJ1 1) (ws' := [(a, .inr (11, [.ref a_elements, .int r_3, .int tail])), (a_elements, .inl (X.E 4, 17, .inr (.inr (.inr (.inr (va_up elements head.toNatClampNeg none))))))]) h in_J1 tyJ1 tyJ1_ok nmJ1 0 1 rfl rfl (fle rfl) ⟨rfl, rfl⟩ q1090 rfl rfl rfl (fle rfl) rfl dJ1_pollFirst_31 ?_
  refine g_aload_n h 0 dJ1_pollFirst_34 rfl rfl ?_
  obtain ⟨rfl, rfl, rfl⟩ := sj3 hf
  exact g_aret h hF (Or.inl ⟨_, rfl⟩) (Or.inr ⟨_, rfl⟩) [0, 1] rfl rfl ⟨rfl, rfl⟩ (fle rfl) (fle rfl) dJ1_pollFirst_35
set_option maxHeartbeats 4000000 in
set_option maxRecDepth 100000 in
theorem ct_J1_removeFirst {l : Launch} {D : va_G} {E : Ety} {a a_elements : Nat} {head : Int32} {tail : Int32} {elements : Nat → Option Nat} {p_ : Nat} {o_head : Int32} {o_elements : Nat → Option Nat} (hf : f_J1_removeFirst head elements = some (p_, o_head, o_elements)) : Ct l yJ1_removeFirst cJ1_removeFirst 2 (some (.object "java/lang/Object")) 2 44 0 0 D E [.ref a] [(a, .inr (11, [.ref a_elements, .int head, .int tail])), (a_elements, .inl (E 4, 17, .inr (.inr (.inr (.inr elements)))))] (Pn (some (.ref p_)) [(a, .inr (11, [.ref a_elements, .int o_head, .int tail])), (a_elements, .inl (E 4, 17, .inr (.inr (.inr (.inr o_elements)))))]) := by
  refine ct_of (own := RJ1) (plainFor_of_name (by decide)) rfl (fle rfl) rfl ?_
  intro X hl hD hE hnL hXF h hR hF hnm
  subst hl; subst hD; subst hE
  have hL : ∀ i, i < 2 → i < X.nL := fun i hi => by rw [hnL]; exact hi
  unfold f_J1_removeFirst at hf
  refine g_aload_n h 0 dJ1_removeFirst_0 rfl rfl ?_
  obtain ⟨p_1, head_2, elements_3, hv, hf⟩ := ob3 hf
  refine g_callV (ci := 11) (q0 := 0) (n := 0) (As := []) (st := []) (wr := []) (isC := [0, 1]) (isR := []) h hR (ct_J1_pollFirst (a := a) (a_elements := a_elements) (head := head) (tail := tail) (elements := elements) hv) rfl rfl (lw_V q534 q535 q536 q78 q537) (by decide +kernel) rfl ⟨rfl, rfl, rfl, rfl, by decide⟩ ⟨fle rfl, fle rfl, fle rfl, fle rfl, fle rfl⟩ rfl dJ1_removeFirst_1 (pin (perm := [0, 1]) (ws' := [(a, .inr (11, [.ref a_elements, .int head_2, .int tail])), (a_elements, .inl (X.E 4, 17, .inr (.inr (.inr (.inr elements_3)))))]) (stk := [.ref p_1]) rfl rfl rfl ?_)
  clear hv
  refine g_astore_n (lv' := [(1, .ref p_1), (0, .ref a)]) h dJ1_removeFirst_4 rfl (hL 1 (fle rfl)) rfl ?_
  refine g_aload_n h 0 dJ1_removeFirst_5 rfl rfl ?_
  refine g_ifnonnull (tgt := 17) h dJ1_removeFirst_6 rfl ?_
  refine g_aload_n h 0 dJ1_removeFirst_17 rfl rfl ?_
  obtain ⟨rfl, rfl, rfl⟩ := sj3 hf
  exact g_aret h hF (Or.inl ⟨_, rfl⟩) (Or.inr ⟨_, rfl⟩) [0, 1] rfl rfl ⟨rfl, rfl⟩ (fle rfl) (fle rfl) dJ1_removeFirst_18
set_option maxHeartbeats 4000000 in
set_option maxRecDepth 100000 in
theorem ct_J1_newCapacity {l : Launch} {D : va_G} {E : Ety} {a a_elements : Nat} {x1 : Int32} {x2 : Int32} {head : Int32} {tail : Int32} {elements : Nat → Option Nat} {r_ : Int32} (hf : f_J1_newCapacity x1 x2 = some r_) : Ct l yJ1_newCapacity cJ1_newCapacity 5 (some .int) 0 0 0 0 D E [.ref a, .int x1, .int x2] [(a, .inr (11, [.ref a_elements, .int head, .int tail])), (a_elements, .inl (E 4, 17, .inr (.inr (.inr (.inr elements)))))] (Pn (some (.int r_)) [(a, .inr (11, [.ref a_elements, .int head, .int tail])), (a_elements, .inl (E 4, 17, .inr (.inr (.inr (.inr elements)))))]) := by
  refine ct_of (own := RJ1) (plainFor_of_name (by decide)) rfl (fle rfl) rfl ?_
  intro X hl hD hE hnL hXF h hR hF hnm
  subst hl; subst hD; subst hE
  have hL : ∀ i, i < 5 → i < X.nL := fun i hi => by rw [hnL]; exact hi
  unfold f_J1_newCapacity at hf
  refine g_aload_n h 0 dJ1_newCapacity_0 rfl rfl ?_
  refine g_get (ci := 11) (v := .ref a_elements) h in_J1 0 0 rfl rfl (fle rfl) rfl q1087 rfl dJ1_newCapacity_1 ?_
  refine g_alen (t0 := 4) (v := 17) h 1 rfl rfl rfl dJ1_newCapacity_4 ?_
  refine g_istore_n (lv' := [(3, .int 17), (0, .ref a), (1, .int x1), (2, .int x2)]) h dJ1_newCapacity_5 rfl (hL 3 (fle rfl)) rfl ?_
  refine g_iload_n h 0 dJ1_newCapacity_6 rfl rfl ?_
  refine g_iload_n h 2 dJ1_newCapacity_7 rfl rfl ?_
  refine g_iadd h dJ1_newCapacity_8 ?_
  refine g_dup h dJ1_newCapacity_9 rfl ?_
  refine g_istore (lv' := [(4, .int (17 + x1)), (3, .int 17), (0, .ref a), (1, .int x1), (2, .int x2)]) h dJ1_newCapacity_10 (hL 4 (fle rfl)) rfl ?_
  refine g_ldc h q646 dJ1_newCapacity_12 ?_
  refine g_isub h dJ1_newCapacity_14 ?_
  refine g_if_le (tgt := 36) h dJ1_newCapacity_15 rfl hf (fun c1 hf => ?_) (fun c1 hf => ?_)
  · refine g_iload_n h 3 dJ1_newCapacity_36 rfl rfl ?_
    refine g_iload_n h 4 dJ1_newCapacity_37 rfl rfl ?_
    refine g_icmp_le (tgt := 44) h dJ1_newCapacity_38 rfl hf (fun c2 hf => ?_) (fun c2 hf => ?_)
    · refine g_iload_n h 1 dJ1_newCapacity_44 rfl rfl ?_
      refine g_iload_n h 4 dJ1_newCapacity_45 rfl rfl ?_
      refine g_iadd h dJ1_newCapacity_46 ?_
      refine g_ldc h q646 dJ1_newCapacity_47 ?_
      refine g_isub h dJ1_newCapacity_49 ?_
      refine g_if_ge (tgt := 59) h dJ1_newCapacity_50 rfl hf (fun c3 hf => ?_) (fun c3 hf => ?_)
      · refine g_ldc h q646 dJ1_newCapacity_59 ?_
        obtain rfl := sj1 hf
        exact g_iret h hF [0, 1] rfl rfl ⟨rfl, rfl⟩ (fle rfl) (fle rfl) dJ1_newCapacity_61
      · refine g_iload_n h 1 dJ1_newCapacity_53 rfl rfl ?_
        refine g_iload_n h 4 dJ1_newCapacity_54 rfl rfl ?_
        refine g_iadd h dJ1_newCapacity_55 ?_
        refine g_goto (tgt := 61) h dJ1_newCapacity_56 rfl ?_
        obtain rfl := sj1 hf
        exact g_iret h hF [0, 1] rfl rfl ⟨rfl, rfl⟩ (fle rfl) (fle rfl) dJ1_newCapacity_61
    · refine g_iload h 0 dJ1_newCapacity_41 rfl ?_
      obtain rfl := sj1 hf
      exact g_iret h hF [0, 1] rfl rfl ⟨rfl, rfl⟩ (fle rfl) (fle rfl) dJ1_newCapacity_43
  · refine g_iload h 0 dJ1_newCapacity_18 rfl ?_
    refine g_if_ge (tgt := 33) h dJ1_newCapacity_20 rfl hf (fun c4 hf => ?_) (fun c4 hf => ?_)
    · refine g_ldc h q651 dJ1_newCapacity_33 ?_
      obtain rfl := sj1 hf
      exact g_iret h hF [0, 1] rfl rfl ⟨rfl, rfl⟩ (fle rfl) (fle rfl) dJ1_newCapacity_35
    · exact nomatch hf
set_option maxHeartbeats 4000000 in
set_option maxRecDepth 100000 in
theorem ct_J1_addLast {l : Launch} {D : va_G} {E : Ety} {a a_t1 a_elements a_t1_kind a_t1_strength a_t1_place a_t1_length a_t1_gives a_t1_over a_t1_under a_t1_this0 : Nat} {head : Int32} {tail : Int32} {elements : Nat → Option Nat} {t1_n : Int32} {t1_holders : Int32} {t1_cuts : Int32} {t1_hour : Int32} {t1_bears : Int32} {t1_draw : Int32} {o_tail : Int32} {o_elements : Nat → Option Nat} (hf : f_J1_addLast a_t1 head tail elements = some (o_tail, o_elements)) : Ct l yJ1_addLast cJ1_addLast 3 none 1 21 0 0 D E [.ref a, .ref a_t1] [(a, .inr (11, [.ref a_elements, .int head, .int tail])), (a_elements, .inl (E 4, 17, .inr (.inr (.inr (.inr elements))))), (a_t1, .inr (6, [.ref a_t1_kind, .ref a_t1_strength, .ref a_t1_place, .ref a_t1_length, .ref a_t1_gives, .ref a_t1_over, .ref a_t1_under, .int t1_n, .int t1_holders, .int t1_cuts, .int t1_hour, .int t1_bears, .int t1_draw, .ref a_t1_this0]))] (Pn none [(a, .inr (11, [.ref a_elements, .int head, .int o_tail])), (a_elements, .inl (E 4, 17, .inr (.inr (.inr (.inr o_elements))))), (a_t1, .inr (6, [.ref a_t1_kind, .ref a_t1_strength, .ref a_t1_place, .ref a_t1_length, .ref a_t1_gives, .ref a_t1_over, .ref a_t1_under, .int t1_n, .int t1_holders, .int t1_cuts, .int t1_hour, .int t1_bears, .int t1_draw, .ref a_t1_this0]))]) := by
  refine ct_of (own := RJ1) (plainFor_of_name (by decide)) rfl (fle rfl) rfl ?_
  intro X hl hD hE hnL hXF h hR hF hnm
  subst hl; subst hD; subst hE
  have hL : ∀ i, i < 3 → i < X.nL := fun i hi => by rw [hnL]; exact hi
  unfold f_J1_addLast at hf
  refine g_aload_n h 1 dJ1_addLast_0 rfl rfl ?_
  refine g_ifnonnull (tgt := 12) h dJ1_addLast_1 rfl ?_
  refine g_aload_n h 0 dJ1_addLast_12 rfl rfl ?_
  refine g_get (ci := 11) (v := .ref a_elements) h in_J1 0 0 rfl rfl (fle rfl) rfl q1087 rfl dJ1_addLast_13 ?_
  refine g_astore_n (lv' := [(2, .ref a_elements), (0, .ref a), (1, .ref a_t1)]) h dJ1_addLast_16 rfl (hL 2 (fle rfl)) rfl ?_
  refine g_aload_n h 0 dJ1_addLast_17 rfl rfl ?_
  refine g_aload_n h 1 dJ1_addLast_18 rfl rfl ?_
  refine g_get (ci := 11) (v := .int tail) h in_J1 0 2 rfl rfl (fle rfl) rfl q1091 rfl dJ1_addLast_19 ?_
  refine g_aload_n h 2 dJ1_addLast_22 rfl rfl ?_
  obtain ⟨g1, hf⟩ := gn hf
  refine g_aastO (t0 := 4) (ci := 6) (ws' := [(a, .inr (11, [.ref a_elements, .int head, .int tail])), (a_elements, .inl (X.E 4, 17, .inr (.inr (.inr (.inr (va_up elements tail.toNatClampNeg (some a_t1))))))), (a_t1, .inr (6, [.ref a_t1_kind, .ref a_t1_strength, .ref a_t1_place, .ref a_t1_length, .ref a_t1_gives, .ref a_t1_over, .ref a_t1_under, .int t1_n, .int t1_holders, .int t1_cuts, .int t1_hour, .int t1_bears, .int t1_draw, .ref a_t1_this0]))]) h 1 2 rfl rfl q1598 rfl rfl g1 rfl dJ1_addLast_23 ?_
  refine g_aload_n h 1 dJ1_addLast_24 rfl rfl ?_
  refine g_get (ci := 11) (v := .int head) h in_J1 0 1 rfl rfl (fle rfl) rfl q1090 rfl dJ1_addLast_25 ?_
  refine g_aload_n h 1 dJ1_addLast_28 rfl rfl ?_
  refine g_aload_n h 1 dJ1_addLast_29 rfl rfl ?_
  refine g_get (ci := 11) (v := .int tail) h in_J1 0 2 rfl rfl (fle rfl) rfl q1091 rfl dJ1_addLast_30 ?_
  refine g_aload_n h 0 dJ1_addLast_33 rfl rfl ?_
  refine g_alen (t0 := 4) (v := 17) h 1 rfl rfl rfl dJ1_addLast_34 ?_
  obtain ⟨r_2, hv, hf⟩ := ob1 hf
  refine g_callS (n := 2) (As := [.int tail, .int 17]) (st := [.ref a, .int head]) (wr := [(a, .inr (11, [.ref a_elements, .int head, .int tail])), (a_elements, .inl (X.E 4, 17, .inr (.inr (.inr (.inr (va_up elements tail.toNatClampNeg (some a_t1))))))), (a_t1, .inr (6, [.ref a_t1_kind, .ref a_t1_strength, .ref a_t1_place, .ref a_t1_length, .ref a_t1_gives, .ref a_t1_over, .ref a_t1_under, .int t1_n, .int t1_holders, .int t1_cuts, .int t1_hour, .int t1_bears, .int t1_draw, .ref a_t1_this0]))]) (isC := []) (isR := [0, 1, 2]) h hR (ct_J1_inc (x0 := tail) (x1 := 17) hv) (lw_S q541 q542 q78 q543) (by decide +kernel) rfl ⟨rfl, rfl, rfl, rfl, by decide⟩ ⟨fle rfl, fle rfl, fle rfl, fle rfl, fle rfl⟩ rfl dJ1_addLast_35 (pin (perm := [0, 1, 2]) (ws' := [(a, .inr (11, [.ref a_elements, .int head, .int tail])), (a_elements, .inl (X.E 4, 17, .inr (.inr (.inr (.inr (va_up elements tail.toNatClampNeg (some a_t1))))))), (a_t1, .inr (6, [.ref a_t1_kind, .ref a_t1_strength, .ref a_t1_place, .ref a_t1_length, .ref a_t1_gives, .ref a_t1_over, .ref a_t1_under, .int t1_n, .int t1_holders, .int t1_cuts, .int t1_hour, .int t1_bears, .int t1_draw, .ref a_t1_this0]))]) (stk := [.int r_2, .ref a, .int head]) rfl rfl rfl ?_)
  clear hv
  refine g_dup_x1 h dJ1_addLast_38 rfl rfl ?_
  refine g_put (ci := 11) (ty := tyJ1 2) (ws' := [(a, .inr (11, [.ref a_elements, .int head, .int r_2])), (a_elements, .inl (X.E 4, 17, .inr (.inr (.inr (.inr (va_up elements tail.toNatClampNeg (some a_t1))))))), (a_t1, .inr (6, [.ref a_t1_kind, .ref a_t1_strength, .ref a_t1_place, .ref a_t1_length, .ref a_t1_gives, .ref a_t1_over, .ref a_t1_under, .int t1_n, .int t1_holders, .int t1_cuts, .int t1_hour, .int t1_bears, .int t1_draw, .ref a_t1_this0]))]) h in_J1 tyJ1 tyJ1_ok nmJ1 0 2 rfl rfl (fle rfl) ⟨rfl, rfl⟩ q1091 rfl rfl rfl (fle rfl) rfl dJ1_addLast_39 ?_
  refine g_icmp_ne (tgt := 50) h dJ1_addLast_42 rfl hf (fun c3 hf => ?_) (fun c3 hf => ?_)
  · refine g_aload_n h 1 dJ1_addLast_45 rfl rfl ?_
    refine g_iconst (v := 1) h dJ1_addLast_46 kiconst_1 ?_
    exact nomatch hf
  · obtain ⟨rfl, rfl⟩ := sj2 hf
    exact g_vret h hF [0, 1, 2] rfl rfl ⟨rfl, rfl⟩ (fle rfl) (fle rfl) dJ1_addLast_50
set_option maxHeartbeats 4000000 in
set_option maxRecDepth 100000 in
theorem ct_J1_isEmpty {l : Launch} {D : va_G} {E : Ety} {a a_elements : Nat} {head : Int32} {tail : Int32} {r_ : Int32} (hf : f_J1_isEmpty head tail = some r_) : Ct l yJ1_isEmpty cJ1_isEmpty 1 (some .boolean) 0 0 0 0 D E [.ref a] [(a, .inr (11, [.ref a_elements, .int head, .int tail]))] (Pn (some (.int r_)) [(a, .inr (11, [.ref a_elements, .int head, .int tail]))]) := by
  refine ct_of (own := RJ1) (plainFor_of_name (by decide)) rfl (fle rfl) rfl ?_
  intro X hl hD hE hnL hXF h hR hF hnm
  subst hl; subst hD; subst hE
  have hL : ∀ i, i < 1 → i < X.nL := fun i hi => by rw [hnL]; exact hi
  unfold f_J1_isEmpty at hf
  refine g_aload_n h 0 dJ1_isEmpty_0 rfl rfl ?_
  refine g_get (ci := 11) (v := .int head) h in_J1 0 1 rfl rfl (fle rfl) rfl q1090 rfl dJ1_isEmpty_1 ?_
  refine g_aload_n h 0 dJ1_isEmpty_4 rfl rfl ?_
  refine g_get (ci := 11) (v := .int tail) h in_J1 0 2 rfl rfl (fle rfl) rfl q1091 rfl dJ1_isEmpty_5 ?_
  refine g_icmp_ne (tgt := 15) h dJ1_isEmpty_8 rfl hf (fun c1 hf => ?_) (fun c1 hf => ?_)
  · refine g_iconst (v := 1) h dJ1_isEmpty_11 kiconst_1 ?_
    refine g_goto (tgt := 16) h dJ1_isEmpty_12 rfl ?_
    obtain rfl := sj1 hf
    exact g_zret h hF rfl [0] rfl rfl ⟨rfl, rfl⟩ (fle rfl) (fle rfl) dJ1_isEmpty_16
  · refine g_iconst (v := 0) h dJ1_isEmpty_15 kiconst_0 ?_
    obtain rfl := sj1 hf
    exact g_zret h hF rfl [0] rfl rfl ⟨rfl, rfl⟩ (fle rfl) (fle rfl) dJ1_isEmpty_16
set_option maxHeartbeats 4000000 in
set_option maxRecDepth 100000 in
theorem ct_J1_dec {l : Launch} {D : va_G} {E : Ety}  {x0 : Int32} {x1 : Int32} {r_ : Int32} (hf : f_J1_dec x0 x1 = some r_) : Ct l yJ1_dec cJ1_dec 2 (some .int) 0 0 0 0 D E [.int x0, .int x1] [] (Pn (some (.int r_)) []) := by
  refine ct_of (own := RJ1) (plainFor_of_name (by decide)) rfl (fle rfl) rfl ?_
  intro X hl hD hE hnL hXF h hR hF hnm
  subst hl; subst hD; subst hE
  have hL : ∀ i, i < 2 → i < X.nL := fun i hi => by rw [hnL]; exact hi
  unfold f_J1_dec at hf
  refine g_iinc (j := 0) (v := (x0 + (-1))) (lv' := [(0, .int (x0 + (-1))), (1, .int x1)]) h dJ1_dec_0 rfl (kinc_m1 _) (hL 0 (fle rfl)) rfl ?_
  refine g_iload_n h 0 dJ1_dec_3 rfl rfl ?_
  refine g_if_ge (tgt := 11) h dJ1_dec_4 rfl hf (fun c1 hf => ?_) (fun c1 hf => ?_)
  · refine g_iload_n h 0 dJ1_dec_11 rfl rfl ?_
    obtain rfl := sj1 hf
    exact g_iret h hF [] rfl rfl ⟨rfl, rfl⟩ (fle rfl) (fle rfl) dJ1_dec_12
  · refine g_iload_n h 1 dJ1_dec_7 rfl rfl ?_
    refine g_iconst (v := 1) h dJ1_dec_8 kiconst_1 ?_
    refine g_isub h dJ1_dec_9 ?_
    refine g_istore_n (lv' := [(0, .int (x1 - 1)), (1, .int x1)]) h dJ1_dec_10 rfl (hL 0 (fle rfl)) rfl ?_
    refine g_iload_n h 0 dJ1_dec_11 rfl rfl ?_
    obtain rfl := sj1 hf
    exact g_iret h hF [] rfl rfl ⟨rfl, rfl⟩ (fle rfl) (fle rfl) dJ1_dec_12
set_option maxHeartbeats 4000000 in
set_option maxRecDepth 100000 in
theorem ct_J1_pollLast {l : Launch} {D : va_G} {E : Ety} {a a_elements : Nat} {head : Int32} {tail : Int32} {elements : Nat → Option Nat} {p_ : Nat} {o_tail : Int32} {o_elements : Nat → Option Nat} (hf : f_J1_pollLast tail elements = some (p_, o_tail, o_elements)) : Ct l yJ1_pollLast cJ1_pollLast 4 (some (.object "java/lang/Object")) 1 21 0 0 D E [.ref a] [(a, .inr (11, [.ref a_elements, .int head, .int tail])), (a_elements, .inl (E 4, 17, .inr (.inr (.inr (.inr elements)))))] (Pn (some (.ref p_)) [(a, .inr (11, [.ref a_elements, .int head, .int o_tail])), (a_elements, .inl (E 4, 17, .inr (.inr (.inr (.inr o_elements)))))]) := by
  refine ct_of (own := RJ1) (plainFor_of_name (by decide)) rfl (fle rfl) rfl ?_
  intro X hl hD hE hnL hXF h hR hF hnm
  subst hl; subst hD; subst hE
  have hL : ∀ i, i < 4 → i < X.nL := fun i hi => by rw [hnL]; exact hi
  unfold f_J1_pollLast at hf
  refine g_aload_n h 0 dJ1_pollLast_0 rfl rfl ?_
  refine g_get (ci := 11) (v := .ref a_elements) h in_J1 0 0 rfl rfl (fle rfl) rfl q1087 rfl dJ1_pollLast_1 ?_
  refine g_dup h dJ1_pollLast_4 rfl ?_
  refine g_astore_n (lv' := [(1, .ref a_elements), (0, .ref a)]) h dJ1_pollLast_5 rfl (hL 1 (fle rfl)) rfl ?_
  refine g_aload_n h 1 dJ1_pollLast_6 rfl rfl ?_
  refine g_get (ci := 11) (v := .int tail) h in_J1 0 2 rfl rfl (fle rfl) rfl q1091 rfl dJ1_pollLast_7 ?_
  refine g_aload_n h 0 dJ1_pollLast_10 rfl rfl ?_
  refine g_alen (t0 := 4) (v := 17) h 1 rfl rfl rfl dJ1_pollLast_11 ?_
  obtain ⟨r_1, hv, hf⟩ := ob1 hf
  refine g_callS (n := 2) (As := [.int tail, .int 17]) (st := [.ref a_elements]) (wr := [(a, .inr (11, [.ref a_elements, .int head, .int tail])), (a_elements, .inl (X.E 4, 17, .inr (.inr (.inr (.inr elements)))))]) (isC := []) (isR := [0, 1]) h hR (ct_J1_dec (x0 := tail) (x1 := 17) hv) (lw_S q761 q762 q78 q763) (by decide +kernel) rfl ⟨rfl, rfl, rfl, rfl, by decide⟩ ⟨fle rfl, fle rfl, fle rfl, fle rfl, fle rfl⟩ rfl dJ1_pollLast_12 (pin (perm := [0, 1]) (ws' := [(a, .inr (11, [.ref a_elements, .int head, .int tail])), (a_elements, .inl (X.E 4, 17, .inr (.inr (.inr (.inr elements)))))]) (stk := [.int r_1, .ref a_elements]) rfl rfl rfl ?_)
  clear hv
  refine g_dup h dJ1_pollLast_15 rfl ?_
  refine g_istore_n (lv' := [(2, .int r_1), (1, .ref a_elements), (0, .ref a)]) h dJ1_pollLast_16 rfl (hL 2 (fle rfl)) rfl ?_
  obtain ⟨p_2, hv, hf⟩ := ob1 hf
  refine g_callS (n := 2) (As := [.ref a_elements, .int r_1]) (st := []) (wr := [(a, .inr (11, [.ref a_elements, .int head, .int tail]))]) (isC := [1]) (isR := [0]) h hR (ct_J1_elementAt (a_t0 := a_elements) (x1 := r_1) (t0 := elements) hv) (lw_S q538 q539 q78 q540) (by decide +kernel) rfl ⟨rfl, rfl, rfl, rfl, by decide⟩ ⟨fle rfl, fle rfl, fle rfl, fle rfl, fle rfl⟩ rfl dJ1_pollLast_17 (pin (perm := [0, 1]) (ws' := [(a, .inr (11, [.ref a_elements, .int head, .int tail])), (a_elements, .inl (X.E 4, 17, .inr (.inr (.inr (.inr elements)))))]) (stk := [.ref p_2]) rfl rfl rfl ?_)
  clear hv
  refine g_astore_n (lv' := [(3, .ref p_2), (2, .int r_1), (1, .ref a_elements), (0, .ref a)]) h dJ1_pollLast_20 rfl (hL 3 (fle rfl)) rfl ?_
  refine g_aload_n h 0 dJ1_pollLast_21 rfl rfl ?_
  refine g_ifnull h dJ1_pollLast_22 ?_
  refine g_aload_n h 2 dJ1_pollLast_25 rfl rfl ?_
  refine g_aload_n h 3 dJ1_pollLast_26 rfl rfl ?_
  refine g_iload_n h 1 dJ1_pollLast_27 rfl rfl ?_
  refine g_dup_x1 h dJ1_pollLast_28 rfl rfl ?_
  refine g_put (ci := 11) (ty := tyJ1 2) (ws' := [(a, .inr (11, [.ref a_elements, .int head, .int r_1])), (a_elements, .inl (X.E 4, 17, .inr (.inr (.inr (.inr elements)))))]) h in_J1 tyJ1 tyJ1_ok nmJ1 0 2 rfl rfl (fle rfl) ⟨rfl, rfl⟩ q1091 rfl rfl rfl (fle rfl) rfl dJ1_pollLast_29 ?_
  refine g_null h dJ1_pollLast_32 ?_
  obtain ⟨g3, hf⟩ := gn hf
  refine g_aastN (t0 := 4) (ws' := [(a, .inr (11, [.ref a_elements, .int head, .int r_1])), (a_elements, .inl (X.E 4, 17, .inr (.inr (.inr (.inr (va_up elements r_1.toNatClampNeg none))))))]) h 1 rfl rfl g3 rfl dJ1_pollLast_33 ?_
  refine g_aload_n h 0 dJ1_pollLast_34 rfl rfl ?_
  obtain ⟨rfl, rfl, rfl⟩ := sj3 hf
  exact g_aret h hF (Or.inl ⟨_, rfl⟩) (Or.inr ⟨_, rfl⟩) [0, 1] rfl rfl ⟨rfl, rfl⟩ (fle rfl) (fle rfl) dJ1_pollLast_35
set_option maxHeartbeats 4000000 in
set_option maxRecDepth 100000 in
theorem ct_J1_removeLast {l : Launch} {D : va_G} {E : Ety} {a a_elements : Nat} {head : Int32} {tail : Int32} {elements : Nat → Option Nat} {p_ : Nat} {o_tail : Int32} {o_elements : Nat → Option Nat} (hf : f_J1_removeLast tail elements = some (p_, o_tail, o_elements)) : Ct l yJ1_removeLast cJ1_removeLast 2 (some (.object "java/lang/Object")) 2 44 0 0 D E [.ref a] [(a, .inr (11, [.ref a_elements, .int head, .int tail])), (a_elements, .inl (E 4, 17, .inr (.inr (.inr (.inr elements)))))] (Pn (some (.ref p_)) [(a, .inr (11, [.ref a_elements, .int head, .int o_tail])), (a_elements, .inl (E 4, 17, .inr (.inr (.inr (.inr o_elements)))))]) := by
  refine ct_of (own := RJ1) (plainFor_of_name (by decide)) rfl (fle rfl) rfl ?_
  intro X hl hD hE hnL hXF h hR hF hnm
  subst hl; subst hD; subst hE
  have hL : ∀ i, i < 2 → i < X.nL := fun i hi => by rw [hnL]; exact hi
  unfold f_J1_removeLast at hf
  refine g_aload_n h 0 dJ1_removeLast_0 rfl rfl ?_
  obtain ⟨p_1, tail_2, elements_3, hv, hf⟩ := ob3 hf
  refine g_callV (ci := 11) (q0 := 0) (n := 0) (As := []) (st := []) (wr := []) (isC := [0, 1]) (isR := []) h hR (ct_J1_pollLast (a := a) (a_elements := a_elements) (head := head) (tail := tail) (elements := elements) hv) rfl rfl (lw_V q757 q758 q759 q78 q760) (by decide +kernel) rfl ⟨rfl, rfl, rfl, rfl, by decide⟩ ⟨fle rfl, fle rfl, fle rfl, fle rfl, fle rfl⟩ rfl dJ1_removeLast_1 (pin (perm := [0, 1]) (ws' := [(a, .inr (11, [.ref a_elements, .int head, .int tail_2])), (a_elements, .inl (X.E 4, 17, .inr (.inr (.inr (.inr elements_3)))))]) (stk := [.ref p_1]) rfl rfl rfl ?_)
  clear hv
  refine g_astore_n (lv' := [(1, .ref p_1), (0, .ref a)]) h dJ1_removeLast_4 rfl (hL 1 (fle rfl)) rfl ?_
  refine g_aload_n h 0 dJ1_removeLast_5 rfl rfl ?_
  refine g_ifnonnull (tgt := 17) h dJ1_removeLast_6 rfl ?_
  refine g_aload_n h 0 dJ1_removeLast_17 rfl rfl ?_
  obtain ⟨rfl, rfl, rfl⟩ := sj3 hf
  exact g_aret h hF (Or.inl ⟨_, rfl⟩) (Or.inr ⟨_, rfl⟩) [0, 1] rfl rfl ⟨rfl, rfl⟩ (fle rfl) (fle rfl) dJ1_removeLast_18
set_option maxHeartbeats 4000000 in
set_option maxRecDepth 100000 in
theorem ct_J14_init {l : Launch} {D : va_G} {E : Ety} {a a_t1 a_t1_elements : Nat} {cursor : Int32} {remaining : Int32} {lastRet : Int32} {t1_head : Int32} {t1_tail : Int32} {t1_elements : Nat → Option Nat} {o_cursor : Int32} {o_remaining : Int32} {o_lastRet : Int32} (hf : f_J14_init t1_head t1_tail = some (o_cursor, o_remaining, o_lastRet)) : Ct l yJ14_init cJ14_init 2 none 2 42 0 0 D E [.ref a, .ref a_t1] [(a, .inr (12, [.int cursor, .int remaining, .int lastRet, .null])), (a_t1, .inr (11, [.ref a_t1_elements, .int t1_head, .int t1_tail])), (a_t1_elements, .inl (E 4, 17, .inr (.inr (.inr (.inr t1_elements)))))] (Pn none [(a, .inr (12, [.int o_cursor, .int o_remaining, .int o_lastRet, .ref a_t1])), (a_t1, .inr (11, [.ref a_t1_elements, .int t1_head, .int t1_tail])), (a_t1_elements, .inl (E 4, 17, .inr (.inr (.inr (.inr t1_elements)))))]) := by
  refine ct_of (own := RJ14) (plainFor_of_name (by decide)) rfl (fle rfl) rfl ?_
  intro X hl hD hE hnL hXF h hR hF hnm
  subst hl; subst hD; subst hE
  have hL : ∀ i, i < 2 → i < X.nL := fun i hi => by rw [hnL]; exact hi
  unfold f_J14_init at hf
  refine g_aload_n h 0 dJ14_init_0 rfl rfl ?_
  refine g_aload_n h 1 dJ14_init_1 rfl rfl ?_
  refine g_putF (ci := 12) (ty := tyJ14 3) (ws' := [(a, .inr (12, [.int cursor, .int remaining, .int lastRet, .ref a_t1])), (a_t1, .inr (11, [.ref a_t1_elements, .int t1_head, .int t1_tail])), (a_t1_elements, .inl (X.E 4, 17, .inr (.inr (.inr (.inr t1_elements)))))]) h in_J14 tyJ14 tyJ14_ok nmJ14 hnm 0 3 rfl rfl (fle rfl) ⟨rfl, rfl, rfl⟩ q846 rfl rfl rfl (fle rfl) rfl dJ14_init_2 ?_
  refine g_aload_n h 0 dJ14_init_5 rfl rfl ?_
  refine g_objInit h hR q841 q255 q256 (fle rfl) (fle rfl) dJ14_init_6 ?_
  refine g_aload_n h 0 dJ14_init_9 rfl rfl ?_
  refine g_aload_n h 0 dJ14_init_10 rfl rfl ?_
  refine g_get (ci := 12) (v := .ref a_t1) h in_J14 0 3 rfl rfl (fle rfl) rfl q846 rfl dJ14_init_11 ?_
  obtain ⟨r_1, hv, hf⟩ := ob1 hf
  refine g_callV (ci := 11) (q0 := 1) (n := 0) (As := []) (st := [.ref a]) (wr := [(a, .inr (12, [.int cursor, .int remaining, .int lastRet, .ref a_t1]))]) (isC := [1, 2]) (isR := [0]) h hR (ct_J1_size (a := a_t1) (a_elements := a_t1_elements) (head := t1_head) (tail := t1_tail) (elements := t1_elements) hv) rfl rfl (lw_V q842 q317 q318 q78 q319) (by decide +kernel) rfl ⟨rfl, rfl, rfl, rfl, by decide⟩ ⟨fle rfl, fle rfl, fle rfl, fle rfl, fle rfl⟩ rfl dJ14_init_14 (pin (perm := [0, 1, 2]) (ws' := [(a, .inr (12, [.int cursor, .int remaining, .int lastRet, .ref a_t1])), (a_t1, .inr (11, [.ref a_t1_elements, .int t1_head, .int t1_tail])), (a_t1_elements, .inl (X.E 4, 17, .inr (.inr (.inr (.inr t1_elements)))))]) (stk := [.int r_1, .ref a]) rfl rfl rfl ?_)
  clear hv
  refine g_put (ci := 12) (ty := tyJ14 1) (ws' := [(a, .inr (12, [.int cursor, .int r_1, .int lastRet, .ref a_t1])), (a_t1, .inr (11, [.ref a_t1_elements, .int t1_head, .int t1_tail])), (a_t1_elements, .inl (X.E 4, 17, .inr (.inr (.inr (.inr t1_elements)))))]) h in_J14 tyJ14 tyJ14_ok nmJ14 0 1 rfl rfl (fle rfl) ⟨rfl, rfl⟩ q844 rfl rfl rfl (fle rfl) rfl dJ14_init_17 ?_
  refine g_aload_n h 0 dJ14_init_20 rfl rfl ?_
  refine g_iconst (v := (-1)) h dJ14_init_21 kiconst_m1 ?_
  refine g_put (ci := 12) (ty := tyJ14 2) (ws' := [(a, .inr (12, [.int cursor, .int r_1, .int (-1), .ref a_t1])), (a_t1, .inr (11, [.ref a_t1_elements, .int t1_head, .int t1_tail])), (a_t1_elements, .inl (X.E 4, 17, .inr (.inr (.inr (.inr t1_elements)))))]) h in_J14 tyJ14 tyJ14_ok nmJ14 0 2 rfl rfl (fle rfl) ⟨rfl, rfl⟩ q845 rfl rfl rfl (fle rfl) rfl dJ14_init_22 ?_
  refine g_aload_n h 0 dJ14_init_25 rfl rfl ?_
  refine g_aload_n h 1 dJ14_init_26 rfl rfl ?_
  refine g_get (ci := 11) (v := .int t1_head) h in_J1 1 1 rfl rfl (fle rfl) rfl q1089 rfl dJ14_init_27 ?_
  refine g_put (ci := 12) (ty := tyJ14 0) (ws' := [(a, .inr (12, [.int t1_head, .int r_1, .int (-1), .ref a_t1])), (a_t1, .inr (11, [.ref a_t1_elements, .int t1_head, .int t1_tail])), (a_t1_elements, .inl (X.E 4, 17, .inr (.inr (.inr (.inr t1_elements)))))]) h in_J14 tyJ14 tyJ14_ok nmJ14 0 0 rfl rfl (fle rfl) ⟨rfl, rfl⟩ q843 rfl rfl rfl (fle rfl) rfl dJ14_init_30 ?_
  obtain ⟨rfl, rfl, rfl⟩ := sj3 hf
  exact g_vret h hF [0, 1, 2] rfl rfl ⟨rfl, rfl⟩ (fle rfl) (fle rfl) dJ14_init_33
set_option maxHeartbeats 4000000 in
set_option maxRecDepth 100000 in
theorem ct_J1_iterator {l : Launch} {D : va_G} {E : Ety} {a a_elements : Nat} {head : Int32} {tail : Int32} {elements : Nat → Option Nat} {n_0 : Int32} {n_1 : Int32} {n_2 : Int32} (hf : f_J1_iterator head tail = some (n_0, n_1, n_2)) : Ct l yJ1_iterator cJ1_iterator 1 (some (.object "java/util/Iterator")) 3 63 1 4 D E [.ref a] [(a, .inr (11, [.ref a_elements, .int head, .int tail])), (a_elements, .inl (E 4, 17, .inr (.inr (.inr (.inr elements)))))] (Pr (fun q => [(a, .inr (11, [.ref a_elements, .int head, .int tail])), (a_elements, .inl (E 4, 17, .inr (.inr (.inr (.inr elements))))), (q, .inr (12, [.int n_0, .int n_1, .int n_2, .ref a]))])) := by
  refine ct_of (own := RJ1) (plainFor_of_name (by decide)) rfl (fle rfl) rfl ?_
  intro X hl hD hE hnL hXF h hR hF hnm
  subst hl; subst hD; subst hE
  have hL : ∀ i, i < 1 → i < X.nL := fun i hi => by rw [hnL]; exact hi
  unfold f_J1_iterator at hf
  refine g_new (ci := 12) (fs := [.int 0, .int 0, .int 0, .null]) h hR in_J14 tyJ14 tyJ14_ok q836 q837 q96 rfl df_J14 (fle rfl) (fle rfl) dJ1_iterator_0 (fun q1 => ?_)
  refine G.sub (ws' := [(a, .inr (11, [.ref a_elements, .int head, .int tail])), (a_elements, .inl (X.E 4, 17, .inr (.inr (.inr (.inr elements))))), (q1, .inr (12, [.int 0, .int 0, .int 0, .null]))]) [0, 1, 2] rfl rfl ?_
  refine g_dup h dJ1_iterator_3 rfl ?_
  refine g_aload_n h 0 dJ1_iterator_4 rfl rfl ?_
  obtain ⟨q1_f0_2, q1_f1_3, q1_f2_4, hv, hf⟩ := ob3 hf
  refine g_callI (n := 1) (As := [.ref a]) (st := [.ref q1]) (wr := []) (isC := [2, 0, 1]) (isR := []) h hR (ct_J14_init (a := q1) (a_t1 := a) (a_t1_elements := a_elements) (cursor := 0) (remaining := 0) (lastRet := 0) (t1_head := head) (t1_tail := tail) (t1_elements := elements) hv) q840 q96 q838 q839 rfl (by decide +kernel) rfl ⟨rfl, rfl, rfl, rfl, by decide⟩ ⟨fle rfl, fle rfl, fle rfl, fle rfl, fle rfl⟩ rfl dJ1_iterator_5 (pin (perm := [1, 2, 0]) (ws' := [(a, .inr (11, [.ref a_elements, .int head, .int tail])), (a_elements, .inl (X.E 4, 17, .inr (.inr (.inr (.inr elements))))), (q1, .inr (12, [.int q1_f0_2, .int q1_f1_3, .int q1_f2_4, .ref a]))]) (stk := [.ref q1]) rfl rfl rfl ?_)
  clear hv
  obtain ⟨rfl, rfl, rfl⟩ := sj3 hf
  exact g_aret h hF (Or.inl ⟨_, rfl⟩) (Or.inr ⟨_, rfl⟩) [0, 1, 2] rfl rfl ⟨_, rfl, rfl⟩ (fle rfl) (fle rfl) dJ1_iterator_8
set_option maxHeartbeats 4000000 in
set_option maxRecDepth 100000 in
theorem ct_J1_nonNullElementAt {l : Launch} {D : va_G} {E : Ety} {a_t0 : Nat} {x1 : Int32} {t0 : Nat → Option Nat} {p_ : Nat} (hf : f_J1_nonNullElementAt x1 t0 = some p_) : Ct l yJ1_nonNullElementAt cJ1_nonNullElementAt 3 (some (.object "java/lang/Object")) 0 0 0 0 D E [.ref a_t0, .int x1] [(a_t0, .inl (E 4, 17, .inr (.inr (.inr (.inr t0)))))] (Pn (some (.ref p_)) [(a_t0, .inl (E 4, 17, .inr (.inr (.inr (.inr t0)))))]) := by
  refine ct_of (own := RJ1) (plainFor_of_name (by decide)) rfl (fle rfl) rfl ?_
  intro X hl hD hE hnL hXF h hR hF hnm
  subst hl; subst hD; subst hE
  have hL : ∀ i, i < 3 → i < X.nL := fun i hi => by rw [hnL]; exact hi
  unfold f_J1_nonNullElementAt at hf
  refine g_aload_n h 0 dJ1_nonNullElementAt_0 rfl rfl ?_
  refine g_iload_n h 1 dJ1_nonNullElementAt_1 rfl rfl ?_
  obtain ⟨g1, hf⟩ := gn hf
  refine oc_at hf (fun ep2 hf => ?_) (fun p2 ep2 hf => ?_)
  · refine g_aaN (t0 := 4) h 0 rfl rfl g1 ep2 dJ1_nonNullElementAt_2 ?_
    refine g_astore_nN (lv' := [(2, .null), (0, .ref a_t0), (1, .int x1)]) h dJ1_nonNullElementAt_3 rfl (hL 2 (fle rfl)) rfl ?_
    refine g_aload_nN h 0 dJ1_nonNullElementAt_4 rfl rfl ?_
    refine g_ifnonnullN h dJ1_nonNullElementAt_5 ?_
    exact nomatch hf
  · refine g_aaS (t0 := 4) (p := p2) h 0 rfl rfl g1 ep2 dJ1_nonNullElementAt_2 ?_
    refine g_astore_n (lv' := [(2, .ref p2), (0, .ref a_t0), (1, .int x1)]) h dJ1_nonNullElementAt_3 rfl (hL 2 (fle rfl)) rfl ?_
    refine g_aload_n h 0 dJ1_nonNullElementAt_4 rfl rfl ?_
    refine g_ifnonnull (tgt := 16) h dJ1_nonNullElementAt_5 rfl ?_
    refine g_aload_n h 0 dJ1_nonNullElementAt_16 rfl rfl ?_
    obtain rfl := sj1 hf
    exact g_aret h hF (Or.inl ⟨_, rfl⟩) (Or.inr ⟨_, rfl⟩) [0] rfl rfl ⟨rfl, rfl⟩ (fle rfl) (fle rfl) dJ1_nonNullElementAt_17
set_option maxHeartbeats 4000000 in
set_option maxRecDepth 100000 in
theorem ct_J1_init {l : Launch} {D : va_G} {E : Ety} {a : Nat} {head : Int32} {tail : Int32}  (hf : f_J1_init  = some ()) : Ct l yJ1_init cJ1_init 1 none 2 40 1 17 D E [.ref a] [(a, .inr (11, [.null, .int head, .int tail]))] (fun v w => ∃ q2 : Nat, v = none ∧ w = [(a, .inr (11, [.ref q2, .int head, .int tail])), (q2, .inl (E 4, 17, .inr (.inr (.inr (.inr (fun _ => none))))))]) := by
  refine ct_of (own := RJ1) (plainFor_of_name (by decide)) rfl (fle rfl) rfl ?_
  intro X hl hD hE hnL hXF h hR hF hnm
  subst hl; subst hD; subst hE
  have hL : ∀ i, i < 1 → i < X.nL := fun i hi => by rw [hnL]; exact hi
  unfold f_J1_init at hf
  refine g_aload_n h 0 dJ1_init_0 rfl rfl ?_
  obtain ⟨u_1, hv, hf⟩ := ob1 hf
  refine g_callI (n := 0) (As := []) (st := []) (wr := [(a, .inr (11, [.null, .int head, .int tail]))]) (isC := []) (isR := [0]) h hR (ct_J0_init (a := a) hv) q1084 q77 q1082 q1083 rfl (by decide +kernel) rfl ⟨rfl, rfl, rfl, rfl, by decide⟩ ⟨fle rfl, fle rfl, fle rfl, fle rfl, fle rfl⟩ rfl dJ1_init_1 (pin (perm := [0]) (ws' := [(a, .inr (11, [.null, .int head, .int tail]))]) (stk := []) rfl rfl rfl ?_)
  clear hv
  refine g_aload_n h 0 dJ1_init_4 rfl rfl ?_
  refine g_bipush (v := 17) h dJ1_init_5 kbipush_17 ?_
  refine g_newq (n := 17) (N := 17) (t0 := 4) h hR q1086 h.nw.2.1.1 rfl (by decide) (by decide) (by decide) (fle rfl) (fle rfl) dJ1_init_7 (fun q2 => ?_)
  refine G.sub (ws' := [(a, .inr (11, [.null, .int head, .int tail])), (q2, .inl (X.E 4, 17, .inr (.inr (.inr (.inr (fun _ => none))))))]) [0, 1] rfl rfl ?_
  refine g_put (ci := 11) (ty := tyJ1 0) (ws' := [(a, .inr (11, [.ref q2, .int head, .int tail])), (q2, .inl (X.E 4, 17, .inr (.inr (.inr (.inr (fun _ => none))))))]) h in_J1 tyJ1 tyJ1_ok nmJ1 0 0 rfl rfl (fle rfl) ⟨rfl, rfl⟩ q1087 rfl rfl rfl (fle rfl) rfl dJ1_init_10 ?_
  exact g_vret h hF [0, 1] rfl rfl ⟨_, rfl, rfl⟩ (fle rfl) (fle rfl) dJ1_init_13
set_option maxHeartbeats 4000000 in
set_option maxRecDepth 100000 in
theorem ct_J13_bitCount {l : Launch} {D : va_G} {E : Ety}  {x0 : Int32} {r_ : Int32} (hf : f_J13_bitCount x0 = some r_) : Ct l yJ13_bitCount cJ13_bitCount 1 (some .int) 0 0 0 0 D E [.int x0] [] (Pn (some (.int r_)) []) := by
  refine ct_of (own := RJ13) (plainFor_of_name (by decide)) rfl (fle rfl) rfl ?_
  intro X hl hD hE hnL hXF h hR hF hnm
  subst hl; subst hD; subst hE
  have hL : ∀ i, i < 1 → i < X.nL := fun i hi => by rw [hnL]; exact hi
  unfold f_J13_bitCount at hf
  refine g_iload_n h 0 dJ13_bitCount_0 rfl rfl ?_
  refine g_iload_n h 0 dJ13_bitCount_1 rfl rfl ?_
  refine g_iconst (v := 1) h dJ13_bitCount_2 kiconst_1 ?_
  refine g_iushr h dJ13_bitCount_3 ?_
  refine g_ldcw h q742 dJ13_bitCount_4 ?_
  refine g_iand h dJ13_bitCount_7 ?_
  refine g_isub h dJ13_bitCount_8 ?_
  refine nm_i (fun y_1 ey_1 => ?_)
  have hf := nm_at hf y_1 ey_1
  refine g_istore_n (lv' := [(0, .int y_1)]) h dJ13_bitCount_9 rfl (hL 0 (fle rfl)) rfl ?_
  refine g_iload_n h 0 dJ13_bitCount_10 rfl rfl ?_
  refine g_ldcw h q743 dJ13_bitCount_11 ?_
  refine g_iand h dJ13_bitCount_14 ?_
  refine g_iload_n h 0 dJ13_bitCount_15 rfl rfl ?_
  refine g_iconst (v := 2) h dJ13_bitCount_16 kiconst_2 ?_
  refine g_iushr h dJ13_bitCount_17 ?_
  refine g_ldcw h q743 dJ13_bitCount_18 ?_
  refine g_iand h dJ13_bitCount_21 ?_
  refine g_iadd h dJ13_bitCount_22 ?_
  refine nm_i (fun y_2 ey_2 => ?_)
  have hf := nm_at hf y_2 ey_2
  refine g_istore_n (lv' := [(0, .int y_2)]) h dJ13_bitCount_23 rfl (hL 0 (fle rfl)) rfl ?_
  refine g_iload_n h 0 dJ13_bitCount_24 rfl rfl ?_
  refine g_iload_n h 0 dJ13_bitCount_25 rfl rfl ?_
  refine g_iconst (v := 4) h dJ13_bitCount_26 kiconst_4 ?_
  refine g_iushr h dJ13_bitCount_27 ?_
  refine g_iadd h dJ13_bitCount_28 ?_
  refine g_ldcw h q744 dJ13_bitCount_29 ?_
  refine g_iand h dJ13_bitCount_32 ?_
  refine nm_i (fun y_3 ey_3 => ?_)
  have hf := nm_at hf y_3 ey_3
  refine g_istore_n (lv' := [(0, .int y_3)]) h dJ13_bitCount_33 rfl (hL 0 (fle rfl)) rfl ?_
  refine g_iload_n h 0 dJ13_bitCount_34 rfl rfl ?_
  refine g_iload_n h 0 dJ13_bitCount_35 rfl rfl ?_
  refine g_bipush (v := 8) h dJ13_bitCount_36 kbipush_8 ?_
  refine g_iushr h dJ13_bitCount_38 ?_
  refine g_iadd h dJ13_bitCount_39 ?_
  refine nm_i (fun y_4 ey_4 => ?_)
  have hf := nm_at hf y_4 ey_4
  refine g_istore_n (lv' := [(0, .int y_4)]) h dJ13_bitCount_40 rfl (hL 0 (fle rfl)) rfl ?_
  refine g_iload_n h 0 dJ13_bitCount_41 rfl rfl ?_
  refine g_iload_n h 0 dJ13_bitCount_42 rfl rfl ?_
  refine g_bipush (v := 16) h dJ13_bitCount_43 kbipush_16 ?_
  refine g_iushr h dJ13_bitCount_45 ?_
  refine g_iadd h dJ13_bitCount_46 ?_
  refine nm_i (fun y_5 ey_5 => ?_)
  have hf := nm_at hf y_5 ey_5
  refine g_istore_n (lv' := [(0, .int y_5)]) h dJ13_bitCount_47 rfl (hL 0 (fle rfl)) rfl ?_
  refine g_iload_n h 0 dJ13_bitCount_48 rfl rfl ?_
  refine g_bipush (v := 63) h dJ13_bitCount_49 kbipush_63 ?_
  refine g_iand h dJ13_bitCount_51 ?_
  obtain rfl := sj1 hf
  exact g_iret h hF [] rfl rfl ⟨rfl, rfl⟩ (fle rfl) (fle rfl) dJ13_bitCount_52
set_option maxHeartbeats 4000000 in
set_option maxRecDepth 100000 in
theorem ct_J13_numberOfTrailingZeros {l : Launch} {D : va_G} {E : Ety}  {x0 : Int32} {r_ : Int32} (hf : f_J13_numberOfTrailingZeros x0 = some r_) : Ct l yJ13_numberOfTrailingZeros cJ13_numberOfTrailingZeros 2 (some .int) 0 0 0 0 D E [.int x0] [] (Pn (some (.int r_)) []) := by
  refine ct_of (own := RJ13) (plainFor_of_name (by decide)) rfl (fle rfl) rfl ?_
  intro X hl hD hE hnL hXF h hR hF hnm
  subst hl; subst hD; subst hE
  have hL : ∀ i, i < 2 → i < X.nL := fun i hi => by rw [hnL]; exact hi
  unfold f_J13_numberOfTrailingZeros at hf
  refine g_iload_n h 0 dJ13_numberOfTrailingZeros_0 rfl rfl ?_
  refine g_iconst (v := (-1)) h dJ13_numberOfTrailingZeros_1 kiconst_m1 ?_
  refine g_ixor h dJ13_numberOfTrailingZeros_2 ?_
  refine g_iload_n h 0 dJ13_numberOfTrailingZeros_3 rfl rfl ?_
  refine g_iconst (v := 1) h dJ13_numberOfTrailingZeros_4 kiconst_1 ?_
  refine g_isub h dJ13_numberOfTrailingZeros_5 ?_
  refine g_iand h dJ13_numberOfTrailingZeros_6 ?_
  refine g_istore_n (lv' := [(0, .int ((x0 ^^^ (-1)) &&& (x0 - 1)))]) h dJ13_numberOfTrailingZeros_7 rfl (hL 0 (fle rfl)) rfl ?_
  refine g_iload_n h 0 dJ13_numberOfTrailingZeros_8 rfl rfl ?_
  refine g_if_gt (tgt := 17) h dJ13_numberOfTrailingZeros_9 rfl hf (fun c1 hf => ?_) (fun c1 hf => ?_)
  · refine g_iconst (v := 1) h dJ13_numberOfTrailingZeros_17 kiconst_1 ?_
    refine g_istore_n (lv' := [(1, .int 1), (0, .int ((x0 ^^^ (-1)) &&& (x0 - 1)))]) h dJ13_numberOfTrailingZeros_18 rfl (hL 1 (fle rfl)) rfl ?_
    refine g_iload_n h 1 dJ13_numberOfTrailingZeros_19 rfl rfl ?_
    refine g_ldcw h q820 dJ13_numberOfTrailingZeros_20 ?_
    obtain ⟨x0_4, x1_5, hw, hf⟩ := ob2 hf
    have K23 : G X [] [(0, .int x0_4), (1, .int x1_5)] 0 0 34 [] := by
      clear hw
      refine g_iload_n h 0 dJ13_numberOfTrailingZeros_34 rfl rfl ?_
      refine g_sipush (v := 256) h dJ13_numberOfTrailingZeros_35 ksipush_256 ?_
      obtain ⟨x0_9, x1_10, hw, hf⟩ := ob2 hf
      have K38 : G X [] [(0, .int x0_9), (1, .int x1_10)] 0 0 49 [] := by
        clear hw
        refine g_iload_n h 0 dJ13_numberOfTrailingZeros_49 rfl rfl ?_
        refine g_bipush (v := 16) h dJ13_numberOfTrailingZeros_50 kbipush_16 ?_
        obtain ⟨x0_14, x1_15, hw, hf⟩ := ob2 hf
        have K52 : G X [] [(0, .int x0_14), (1, .int x1_15)] 0 0 62 [] := by
          clear hw
          refine g_iload_n h 0 dJ13_numberOfTrailingZeros_62 rfl rfl ?_
          refine g_iconst (v := 4) h dJ13_numberOfTrailingZeros_63 kiconst_4 ?_
          refine g_icmp_le (tgt := 74) h dJ13_numberOfTrailingZeros_64 rfl hf (fun c17 hf => ?_) (fun c17 hf => ?_)
          · refine g_iload_n h 1 dJ13_numberOfTrailingZeros_74 rfl rfl ?_
            refine g_iload_n h 0 dJ13_numberOfTrailingZeros_75 rfl rfl ?_
            refine g_iconst (v := 1) h dJ13_numberOfTrailingZeros_76 kiconst_1 ?_
            refine g_iushr h dJ13_numberOfTrailingZeros_77 ?_
            refine g_iadd h dJ13_numberOfTrailingZeros_78 ?_
            obtain rfl := sj1 hf
            exact g_iret h hF [] rfl rfl ⟨rfl, rfl⟩ (fle rfl) (fle rfl) dJ13_numberOfTrailingZeros_79
          · refine g_iinc (j := 1) (v := (x1_15 + 2)) (lv' := [(1, .int (x1_15 + 2)), (0, .int x0_14)]) h dJ13_numberOfTrailingZeros_67 rfl (kinc_2 _) (hL 1 (fle rfl)) rfl ?_
            refine g_iload_n h 1 dJ13_numberOfTrailingZeros_70 rfl rfl ?_
            refine g_iconst (v := 2) h dJ13_numberOfTrailingZeros_71 kiconst_2 ?_
            refine g_iushr h dJ13_numberOfTrailingZeros_72 ?_
            refine nm_i (fun y_18 ey_18 => ?_)
            have hf := nm_at hf y_18 ey_18
            refine g_istore_n (lv' := [(0, .int y_18), (1, .int (x1_15 + 2))]) h dJ13_numberOfTrailingZeros_73 rfl (hL 0 (fle rfl)) rfl ?_
            refine g_iload_n h 1 dJ13_numberOfTrailingZeros_74 rfl rfl ?_
            refine g_iload_n h 0 dJ13_numberOfTrailingZeros_75 rfl rfl ?_
            refine g_iconst (v := 1) h dJ13_numberOfTrailingZeros_76 kiconst_1 ?_
            refine g_iushr h dJ13_numberOfTrailingZeros_77 ?_
            refine g_iadd h dJ13_numberOfTrailingZeros_78 ?_
            obtain rfl := sj1 hf
            exact g_iret h hF [] rfl rfl ⟨rfl, rfl⟩ (fle rfl) (fle rfl) dJ13_numberOfTrailingZeros_79
        clear hf
        have hf := hw
        clear hw
        refine g_icmp_le (tgt := 62) h dJ13_numberOfTrailingZeros_52 rfl hf (fun c12 hf => ?_) (fun c12 hf => ?_)
        · obtain ⟨rfl, rfl⟩ := sj2 hf
          exact G.lsub [0, 1] rfl K52
        · refine g_iinc (j := 1) (v := (x1_10 + 4)) (lv' := [(1, .int (x1_10 + 4)), (0, .int x0_9)]) h dJ13_numberOfTrailingZeros_55 rfl (kinc_4 _) (hL 1 (fle rfl)) rfl ?_
          refine g_iload_n h 1 dJ13_numberOfTrailingZeros_58 rfl rfl ?_
          refine g_iconst (v := 4) h dJ13_numberOfTrailingZeros_59 kiconst_4 ?_
          refine g_iushr h dJ13_numberOfTrailingZeros_60 ?_
          refine nm_i (fun y_16 ey_16 => ?_)
          have hf := nm_at hf y_16 ey_16
          refine g_istore_n (lv' := [(0, .int y_16), (1, .int (x1_10 + 4))]) h dJ13_numberOfTrailingZeros_61 rfl (hL 0 (fle rfl)) rfl ?_
          obtain ⟨rfl, rfl⟩ := sj2 hf
          exact G.lsub [0, 1] rfl K52
      clear hf
      have hf := hw
      clear hw
      refine g_icmp_le (tgt := 49) h dJ13_numberOfTrailingZeros_38 rfl hf (fun c7 hf => ?_) (fun c7 hf => ?_)
      · obtain ⟨rfl, rfl⟩ := sj2 hf
        exact G.lsub [0, 1] rfl K38
      · refine g_iinc (j := 1) (v := (x1_5 + 8)) (lv' := [(1, .int (x1_5 + 8)), (0, .int x0_4)]) h dJ13_numberOfTrailingZeros_41 rfl (kinc_8 _) (hL 1 (fle rfl)) rfl ?_
        refine g_iload_n h 1 dJ13_numberOfTrailingZeros_44 rfl rfl ?_
        refine g_bipush (v := 8) h dJ13_numberOfTrailingZeros_45 kbipush_8 ?_
        refine g_iushr h dJ13_numberOfTrailingZeros_47 ?_
        refine nm_i (fun y_11 ey_11 => ?_)
        have hf := nm_at hf y_11 ey_11
        refine g_istore_n (lv' := [(0, .int y_11), (1, .int (x1_5 + 8))]) h dJ13_numberOfTrailingZeros_48 rfl (hL 0 (fle rfl)) rfl ?_
        obtain ⟨rfl, rfl⟩ := sj2 hf
        exact G.lsub [0, 1] rfl K38
    clear hf
    have hf := hw
    clear hw
    refine g_icmp_le (tgt := 34) h dJ13_numberOfTrailingZeros_23 rfl hf (fun c2 hf => ?_) (fun c2 hf => ?_)
    · obtain ⟨rfl, rfl⟩ := sj2 hf
      exact G.lsub [1, 0] rfl K23
    · refine g_iinc (j := 0) (v := (1 + 16)) (lv' := [(1, .int (1 + 16)), (0, .int ((x0 ^^^ (-1)) &&& (x0 - 1)))]) h dJ13_numberOfTrailingZeros_26 rfl (kinc_16 _) (hL 1 (fle rfl)) rfl ?_
      refine g_iload_n h 1 dJ13_numberOfTrailingZeros_29 rfl rfl ?_
      refine g_bipush (v := 16) h dJ13_numberOfTrailingZeros_30 kbipush_16 ?_
      refine g_iushr h dJ13_numberOfTrailingZeros_32 ?_
      refine nm_i (fun y_6 ey_6 => ?_)
      have hf := nm_at hf y_6 ey_6
      refine g_istore_n (lv' := [(0, .int y_6), (1, .int (1 + 16))]) h dJ13_numberOfTrailingZeros_33 rfl (hL 0 (fle rfl)) rfl ?_
      obtain ⟨rfl, rfl⟩ := sj2 hf
      exact G.lsub [0, 1] rfl K23
  · refine g_iload_n h 0 dJ13_numberOfTrailingZeros_12 rfl rfl ?_
    refine g_bipush (v := 32) h dJ13_numberOfTrailingZeros_13 kbipush_32 ?_
    refine g_iand h dJ13_numberOfTrailingZeros_15 ?_
    obtain rfl := sj1 hf
    exact g_iret h hF [] rfl rfl ⟨rfl, rfl⟩ (fle rfl) (fle rfl) dJ13_numberOfTrailingZeros_16
set_option maxHeartbeats 4000000 in
set_option maxRecDepth 100000 in
theorem ct_J13_numberOfLeadingZeros {l : Launch} {D : va_G} {E : Ety}  {x0 : Int32} {r_ : Int32} (hf : f_J13_numberOfLeadingZeros x0 = some r_) : Ct l yJ13_numberOfLeadingZeros cJ13_numberOfLeadingZeros 2 (some .int) 0 0 0 0 D E [.int x0] [] (Pn (some (.int r_)) []) := by
  refine ct_of (own := RJ13) (plainFor_of_name (by decide)) rfl (fle rfl) rfl ?_
  intro X hl hD hE hnL hXF h hR hF hnm
  subst hl; subst hD; subst hE
  have hL : ∀ i, i < 2 → i < X.nL := fun i hi => by rw [hnL]; exact hi
  unfold f_J13_numberOfLeadingZeros at hf
  refine g_iload_n h 0 dJ13_numberOfLeadingZeros_0 rfl rfl ?_
  refine g_if_gt (tgt := 15) h dJ13_numberOfLeadingZeros_1 rfl hf (fun c1 hf => ?_) (fun c1 hf => ?_)
  · refine g_bipush (v := 31) h dJ13_numberOfLeadingZeros_15 kbipush_31 ?_
    refine g_istore_n (lv' := [(1, .int 31), (0, .int x0)]) h dJ13_numberOfLeadingZeros_17 rfl (hL 1 (fle rfl)) rfl ?_
    refine g_iload_n h 1 dJ13_numberOfLeadingZeros_18 rfl rfl ?_
    refine g_ldcw h q820 dJ13_numberOfLeadingZeros_19 ?_
    obtain ⟨x0_4, x1_5, hw, hf⟩ := ob2 hf
    have K22 : G X [] [(0, .int x0_4), (1, .int x1_5)] 0 0 33 [] := by
      clear hw
      refine g_iload_n h 0 dJ13_numberOfLeadingZeros_33 rfl rfl ?_
      refine g_sipush (v := 256) h dJ13_numberOfLeadingZeros_34 ksipush_256 ?_
      obtain ⟨x0_9, x1_10, hw, hf⟩ := ob2 hf
      have K37 : G X [] [(0, .int x0_9), (1, .int x1_10)] 0 0 48 [] := by
        clear hw
        refine g_iload_n h 0 dJ13_numberOfLeadingZeros_48 rfl rfl ?_
        refine g_bipush (v := 16) h dJ13_numberOfLeadingZeros_49 kbipush_16 ?_
        obtain ⟨x0_14, x1_15, hw, hf⟩ := ob2 hf
        have K51 : G X [] [(0, .int x0_14), (1, .int x1_15)] 0 0 61 [] := by
          clear hw
          refine g_iload_n h 0 dJ13_numberOfLeadingZeros_61 rfl rfl ?_
          refine g_iconst (v := 4) h dJ13_numberOfLeadingZeros_62 kiconst_4 ?_
          refine g_icmp_lt (tgt := 73) h dJ13_numberOfLeadingZeros_63 rfl hf (fun c17 hf => ?_) (fun c17 hf => ?_)
          · refine g_iload_n h 1 dJ13_numberOfLeadingZeros_73 rfl rfl ?_
            refine g_iload_n h 0 dJ13_numberOfLeadingZeros_74 rfl rfl ?_
            refine g_iconst (v := 1) h dJ13_numberOfLeadingZeros_75 kiconst_1 ?_
            refine g_iushr h dJ13_numberOfLeadingZeros_76 ?_
            refine g_isub h dJ13_numberOfLeadingZeros_77 ?_
            obtain rfl := sj1 hf
            exact g_iret h hF [] rfl rfl ⟨rfl, rfl⟩ (fle rfl) (fle rfl) dJ13_numberOfLeadingZeros_78
          · refine g_iinc (j := 1) (v := (x1_15 + (-2))) (lv' := [(1, .int (x1_15 + (-2))), (0, .int x0_14)]) h dJ13_numberOfLeadingZeros_66 rfl (kinc_m2 _) (hL 1 (fle rfl)) rfl ?_
            refine g_iload_n h 1 dJ13_numberOfLeadingZeros_69 rfl rfl ?_
            refine g_iconst (v := 2) h dJ13_numberOfLeadingZeros_70 kiconst_2 ?_
            refine g_iushr h dJ13_numberOfLeadingZeros_71 ?_
            refine nm_i (fun y_18 ey_18 => ?_)
            have hf := nm_at hf y_18 ey_18
            refine g_istore_n (lv' := [(0, .int y_18), (1, .int (x1_15 + (-2)))]) h dJ13_numberOfLeadingZeros_72 rfl (hL 0 (fle rfl)) rfl ?_
            refine g_iload_n h 1 dJ13_numberOfLeadingZeros_73 rfl rfl ?_
            refine g_iload_n h 0 dJ13_numberOfLeadingZeros_74 rfl rfl ?_
            refine g_iconst (v := 1) h dJ13_numberOfLeadingZeros_75 kiconst_1 ?_
            refine g_iushr h dJ13_numberOfLeadingZeros_76 ?_
            refine g_isub h dJ13_numberOfLeadingZeros_77 ?_
            obtain rfl := sj1 hf
            exact g_iret h hF [] rfl rfl ⟨rfl, rfl⟩ (fle rfl) (fle rfl) dJ13_numberOfLeadingZeros_78
        clear hf
        have hf := hw
        clear hw
        refine g_icmp_lt (tgt := 61) h dJ13_numberOfLeadingZeros_51 rfl hf (fun c12 hf => ?_) (fun c12 hf => ?_)
        · obtain ⟨rfl, rfl⟩ := sj2 hf
          exact G.lsub [0, 1] rfl K51
        · refine g_iinc (j := 1) (v := (x1_10 + (-4))) (lv' := [(1, .int (x1_10 + (-4))), (0, .int x0_9)]) h dJ13_numberOfLeadingZeros_54 rfl (kinc_m4 _) (hL 1 (fle rfl)) rfl ?_
          refine g_iload_n h 1 dJ13_numberOfLeadingZeros_57 rfl rfl ?_
          refine g_iconst (v := 4) h dJ13_numberOfLeadingZeros_58 kiconst_4 ?_
          refine g_iushr h dJ13_numberOfLeadingZeros_59 ?_
          refine nm_i (fun y_16 ey_16 => ?_)
          have hf := nm_at hf y_16 ey_16
          refine g_istore_n (lv' := [(0, .int y_16), (1, .int (x1_10 + (-4)))]) h dJ13_numberOfLeadingZeros_60 rfl (hL 0 (fle rfl)) rfl ?_
          obtain ⟨rfl, rfl⟩ := sj2 hf
          exact G.lsub [0, 1] rfl K51
      clear hf
      have hf := hw
      clear hw
      refine g_icmp_lt (tgt := 48) h dJ13_numberOfLeadingZeros_37 rfl hf (fun c7 hf => ?_) (fun c7 hf => ?_)
      · obtain ⟨rfl, rfl⟩ := sj2 hf
        exact G.lsub [0, 1] rfl K37
      · refine g_iinc (j := 1) (v := (x1_5 + (-8))) (lv' := [(1, .int (x1_5 + (-8))), (0, .int x0_4)]) h dJ13_numberOfLeadingZeros_40 rfl (kinc_m8 _) (hL 1 (fle rfl)) rfl ?_
        refine g_iload_n h 1 dJ13_numberOfLeadingZeros_43 rfl rfl ?_
        refine g_bipush (v := 8) h dJ13_numberOfLeadingZeros_44 kbipush_8 ?_
        refine g_iushr h dJ13_numberOfLeadingZeros_46 ?_
        refine nm_i (fun y_11 ey_11 => ?_)
        have hf := nm_at hf y_11 ey_11
        refine g_istore_n (lv' := [(0, .int y_11), (1, .int (x1_5 + (-8)))]) h dJ13_numberOfLeadingZeros_47 rfl (hL 0 (fle rfl)) rfl ?_
        obtain ⟨rfl, rfl⟩ := sj2 hf
        exact G.lsub [0, 1] rfl K37
    clear hf
    have hf := hw
    clear hw
    refine g_icmp_lt (tgt := 33) h dJ13_numberOfLeadingZeros_22 rfl hf (fun c2 hf => ?_) (fun c2 hf => ?_)
    · obtain ⟨rfl, rfl⟩ := sj2 hf
      exact G.lsub [1, 0] rfl K22
    · refine g_iinc (j := 0) (v := (31 + (-16))) (lv' := [(1, .int (31 + (-16))), (0, .int x0)]) h dJ13_numberOfLeadingZeros_25 rfl (kinc_m16 _) (hL 1 (fle rfl)) rfl ?_
      refine g_iload_n h 1 dJ13_numberOfLeadingZeros_28 rfl rfl ?_
      refine g_bipush (v := 16) h dJ13_numberOfLeadingZeros_29 kbipush_16 ?_
      refine g_iushr h dJ13_numberOfLeadingZeros_31 ?_
      refine nm_i (fun y_6 ey_6 => ?_)
      have hf := nm_at hf y_6 ey_6
      refine g_istore_n (lv' := [(0, .int y_6), (1, .int (31 + (-16)))]) h dJ13_numberOfLeadingZeros_32 rfl (hL 0 (fle rfl)) rfl ?_
      obtain ⟨rfl, rfl⟩ := sj2 hf
      exact G.lsub [0, 1] rfl K22
  · refine g_iload_n h 0 dJ13_numberOfLeadingZeros_4 rfl rfl ?_
    refine g_if_ne (tgt := 13) h dJ13_numberOfLeadingZeros_5 rfl hf (fun c19 hf => ?_) (fun c19 hf => ?_)
    · refine g_bipush (v := 32) h dJ13_numberOfLeadingZeros_8 kbipush_32 ?_
      refine g_goto (tgt := 14) h dJ13_numberOfLeadingZeros_10 rfl ?_
      obtain rfl := sj1 hf
      exact g_iret h hF [] rfl rfl ⟨rfl, rfl⟩ (fle rfl) (fle rfl) dJ13_numberOfLeadingZeros_14
    · refine g_iconst (v := 0) h dJ13_numberOfLeadingZeros_13 kiconst_0 ?_
      obtain rfl := sj1 hf
      exact g_iret h hF [] rfl rfl ⟨rfl, rfl⟩ (fle rfl) (fle rfl) dJ13_numberOfLeadingZeros_14
set_option maxHeartbeats 4000000 in
set_option maxRecDepth 100000 in
theorem ct_J14_hasNext {l : Launch} {D : va_G} {E : Ety} {a a_this0 : Nat} {cursor : Int32} {remaining : Int32} {lastRet : Int32} {r_ : Int32} (hf : f_J14_hasNext remaining = some r_) : Ct l yJ14_hasNext cJ14_hasNext 1 (some .boolean) 0 0 0 0 D E [.ref a] [(a, .inr (12, [.int cursor, .int remaining, .int lastRet, .ref a_this0]))] (Pn (some (.int r_)) [(a, .inr (12, [.int cursor, .int remaining, .int lastRet, .ref a_this0]))]) := by
  refine ct_of (own := RJ14) (plainFor_of_name (by decide)) rfl (fle rfl) rfl ?_
  intro X hl hD hE hnL hXF h hR hF hnm
  subst hl; subst hD; subst hE
  have hL : ∀ i, i < 1 → i < X.nL := fun i hi => by rw [hnL]; exact hi
  unfold f_J14_hasNext at hf
  refine g_aload_n h 0 dJ14_hasNext_0 rfl rfl ?_
  refine g_get (ci := 12) (v := .int remaining) h in_J14 0 1 rfl rfl (fle rfl) rfl q844 rfl dJ14_hasNext_1 ?_
  refine g_if_le (tgt := 11) h dJ14_hasNext_4 rfl hf (fun c1 hf => ?_) (fun c1 hf => ?_)
  · refine g_iconst (v := 0) h dJ14_hasNext_11 kiconst_0 ?_
    obtain rfl := sj1 hf
    exact g_zret h hF rfl [0] rfl rfl ⟨rfl, rfl⟩ (fle rfl) (fle rfl) dJ14_hasNext_12
  · refine g_iconst (v := 1) h dJ14_hasNext_7 kiconst_1 ?_
    refine g_goto (tgt := 12) h dJ14_hasNext_8 rfl ?_
    obtain rfl := sj1 hf
    exact g_zret h hF rfl [0] rfl rfl ⟨rfl, rfl⟩ (fle rfl) (fle rfl) dJ14_hasNext_12
set_option maxHeartbeats 4000000 in
set_option maxRecDepth 100000 in
theorem ct_J14_next {l : Launch} {D : va_G} {E : Ety} {a a_this0 a_this0_elements : Nat} {cursor : Int32} {remaining : Int32} {lastRet : Int32} {this0_head : Int32} {this0_tail : Int32} {this0_elements : Nat → Option Nat} {p_ : Nat} {o_cursor : Int32} {o_remaining : Int32} {o_lastRet : Int32} (hf : f_J14_next cursor remaining this0_elements = some (p_, o_cursor, o_remaining, o_lastRet)) : Ct l yJ14_next cJ14_next 3 (some (.object "java/lang/Object")) 1 22 0 0 D E [.ref a] [(a, .inr (12, [.int cursor, .int remaining, .int lastRet, .ref a_this0])), (a_this0, .inr (11, [.ref a_this0_elements, .int this0_head, .int this0_tail])), (a_this0_elements, .inl (E 4, 17, .inr (.inr (.inr (.inr this0_elements)))))] (Pn (some (.ref p_)) [(a, .inr (12, [.int o_cursor, .int o_remaining, .int o_lastRet, .ref a_this0])), (a_this0, .inr (11, [.ref a_this0_elements, .int this0_head, .int this0_tail])), (a_this0_elements, .inl (E 4, 17, .inr (.inr (.inr (.inr this0_elements)))))]) := by
  refine ct_of (own := RJ14) (plainFor_of_name (by decide)) rfl (fle rfl) rfl ?_
  intro X hl hD hE hnL hXF h hR hF hnm
  subst hl; subst hD; subst hE
  have hL : ∀ i, i < 3 → i < X.nL := fun i hi => by rw [hnL]; exact hi
  unfold f_J14_next at hf
  refine g_aload_n h 0 dJ14_next_0 rfl rfl ?_
  refine g_get (ci := 12) (v := .int remaining) h in_J14 0 1 rfl rfl (fle rfl) rfl q844 rfl dJ14_next_1 ?_
  refine g_if_gt (tgt := 15) h dJ14_next_4 rfl hf (fun c1 hf => ?_) (fun c1 hf => ?_)
  · refine g_aload_n h 0 dJ14_next_15 rfl rfl ?_
    refine g_get (ci := 12) (v := .ref a_this0) h in_J14 0 3 rfl rfl (fle rfl) rfl q846 rfl dJ14_next_16 ?_
    refine g_get (ci := 11) (v := .ref a_this0_elements) h in_J1 1 0 rfl rfl (fle rfl) rfl q1088 rfl dJ14_next_19 ?_
    refine g_astore_n (lv' := [(1, .ref a_this0_elements), (0, .ref a)]) h dJ14_next_22 rfl (hL 1 (fle rfl)) rfl ?_
    refine g_aload_n h 0 dJ14_next_23 rfl rfl ?_
    refine g_aload_n h 1 dJ14_next_24 rfl rfl ?_
    refine g_get (ci := 12) (v := .int cursor) h in_J14 0 0 rfl rfl (fle rfl) rfl q843 rfl dJ14_next_25 ?_
    obtain ⟨p_2, hv, hf⟩ := ob1 hf
    refine g_callS (n := 2) (As := [.ref a_this0_elements, .int cursor]) (st := []) (wr := [(a, .inr (12, [.int cursor, .int remaining, .int lastRet, .ref a_this0])), (a_this0, .inr (11, [.ref a_this0_elements, .int this0_head, .int this0_tail]))]) (isC := [2]) (isR := [0, 1]) h hR (ct_J1_nonNullElementAt (a_t0 := a_this0_elements) (x1 := cursor) (t0 := this0_elements) hv) (lw_S q875 q876 q78 q877) (by decide +kernel) rfl ⟨rfl, rfl, rfl, rfl, by decide⟩ ⟨fle rfl, fle rfl, fle rfl, fle rfl, fle rfl⟩ rfl dJ14_next_28 (pin (perm := [0, 1, 2]) (ws' := [(a, .inr (12, [.int cursor, .int remaining, .int lastRet, .ref a_this0])), (a_this0, .inr (11, [.ref a_this0_elements, .int this0_head, .int this0_tail])), (a_this0_elements, .inl (X.E 4, 17, .inr (.inr (.inr (.inr this0_elements)))))]) (stk := [.ref p_2]) rfl rfl rfl ?_)
    clear hv
    refine g_astore_n (lv' := [(2, .ref p_2), (1, .ref a_this0_elements), (0, .ref a)]) h dJ14_next_31 rfl (hL 2 (fle rfl)) rfl ?_
    refine g_aload_n h 2 dJ14_next_32 rfl rfl ?_
    refine g_aload_n h 2 dJ14_next_33 rfl rfl ?_
    refine g_aload_n h 2 dJ14_next_34 rfl rfl ?_
    refine g_get (ci := 12) (v := .int cursor) h in_J14 0 0 rfl rfl (fle rfl) rfl q843 rfl dJ14_next_35 ?_
    refine g_dup_x1 h dJ14_next_38 rfl rfl ?_
    refine g_put (ci := 12) (ty := tyJ14 2) (ws' := [(a, .inr (12, [.int cursor, .int remaining, .int cursor, .ref a_this0])), (a_this0, .inr (11, [.ref a_this0_elements, .int this0_head, .int this0_tail])), (a_this0_elements, .inl (X.E 4, 17, .inr (.inr (.inr (.inr this0_elements)))))]) h in_J14 tyJ14 tyJ14_ok nmJ14 0 2 rfl rfl (fle rfl) ⟨rfl, rfl⟩ q845 rfl rfl rfl (fle rfl) rfl dJ14_next_39 ?_
    refine g_aload_n h 1 dJ14_next_42 rfl rfl ?_
    refine g_alen (t0 := 4) (v := 17) h 2 rfl rfl rfl dJ14_next_43 ?_
    obtain ⟨r_3, hv, hf⟩ := ob1 hf
    refine g_callS (n := 2) (As := [.int cursor, .int 17]) (st := [.ref a]) (wr := [(a, .inr (12, [.int cursor, .int remaining, .int cursor, .ref a_this0])), (a_this0, .inr (11, [.ref a_this0_elements, .int this0_head, .int this0_tail])), (a_this0_elements, .inl (X.E 4, 17, .inr (.inr (.inr (.inr this0_elements)))))]) (isC := []) (isR := [0, 1, 2]) h hR (ct_J1_inc (x0 := cursor) (x1 := 17) hv) (lw_S q878 q542 q78 q543) (by decide +kernel) rfl ⟨rfl, rfl, rfl, rfl, by decide⟩ ⟨fle rfl, fle rfl, fle rfl, fle rfl, fle rfl⟩ rfl dJ14_next_44 (pin (perm := [0, 1, 2]) (ws' := [(a, .inr (12, [.int cursor, .int remaining, .int cursor, .ref a_this0])), (a_this0, .inr (11, [.ref a_this0_elements, .int this0_head, .int this0_tail])), (a_this0_elements, .inl (X.E 4, 17, .inr (.inr (.inr (.inr this0_elements)))))]) (stk := [.int r_3, .ref a]) rfl rfl rfl ?_)
    clear hv
    refine g_put (ci := 12) (ty := tyJ14 0) (ws' := [(a, .inr (12, [.int r_3, .int remaining, .int cursor, .ref a_this0])), (a_this0, .inr (11, [.ref a_this0_elements, .int this0_head, .int this0_tail])), (a_this0_elements, .inl (X.E 4, 17, .inr (.inr (.inr (.inr this0_elements)))))]) h in_J14 tyJ14 tyJ14_ok nmJ14 0 0 rfl rfl (fle rfl) ⟨rfl, rfl⟩ q843 rfl rfl rfl (fle rfl) rfl dJ14_next_47 ?_
    refine g_aload_n h 2 dJ14_next_50 rfl rfl ?_
    refine g_dup h dJ14_next_51 rfl ?_
    refine g_get (ci := 12) (v := .int remaining) h in_J14 0 1 rfl rfl (fle rfl) rfl q844 rfl dJ14_next_52 ?_
    refine g_iconst (v := 1) h dJ14_next_55 kiconst_1 ?_
    refine g_isub h dJ14_next_56 ?_
    refine g_put (ci := 12) (ty := tyJ14 1) (ws' := [(a, .inr (12, [.int r_3, .int (remaining - 1), .int cursor, .ref a_this0])), (a_this0, .inr (11, [.ref a_this0_elements, .int this0_head, .int this0_tail])), (a_this0_elements, .inl (X.E 4, 17, .inr (.inr (.inr (.inr this0_elements)))))]) h in_J14 tyJ14 tyJ14_ok nmJ14 0 1 rfl rfl (fle rfl) ⟨rfl, rfl⟩ q844 rfl rfl rfl (fle rfl) rfl dJ14_next_57 ?_
    refine g_aload_n h 0 dJ14_next_60 rfl rfl ?_
    obtain ⟨rfl, rfl, rfl, rfl⟩ := sj4 hf
    exact g_aret h hF (Or.inl ⟨_, rfl⟩) (Or.inr ⟨_, rfl⟩) [0, 1, 2] rfl rfl ⟨rfl, rfl⟩ (fle rfl) (fle rfl) dJ14_next_61
  · exact nomatch hf
set_option maxHeartbeats 4000000 in
set_option maxRecDepth 100000 in
theorem ct_J2_abs {l : Launch} {D : va_G} {E : Ety}  {x0 : Int64} {r_ : Int64} (hf : f_J2_abs x0 = some r_) : Ct l yJ2_abs cJ2_abs 2 (some .long) 0 0 0 0 D E [.long x0] [] (Pn (some (.long r_)) []) := by
  refine ct_of (own := RJ2) (by decide +kernel) rfl (fle rfl) rfl ?_
  intro X hl hD hE hnL hXF h hR hF hnm
  subst hl; subst hD; subst hE
  have hL : ∀ i, i < 2 → i < X.nL := fun i hi => by rw [hnL]; exact hi
  unfold f_J2_abs at hf
  refine g_lload_n h 0 dJ2_abs_0 rfl rfl ?_
  refine g_lconst (v := 0) h dJ2_abs_1 rfl ?_
  refine g_lcmp h dJ2_abs_2 ?_
  refine g_if_ge (tgt := 11) h dJ2_abs_3 rfl hf (fun c1 hf => ?_) (fun c1 hf => ?_)
  · refine g_lload_n h 0 dJ2_abs_11 rfl rfl ?_
    obtain rfl := sj1 hf
    exact g_lret h hF [] rfl rfl ⟨rfl, rfl⟩ (fle rfl) (fle rfl) dJ2_abs_12
  · refine g_lload_n h 0 dJ2_abs_6 rfl rfl ?_
    refine g_lneg h dJ2_abs_7 ?_
    refine g_goto (tgt := 12) h dJ2_abs_8 rfl ?_
    obtain rfl := sj1 hf
    exact g_lret h hF [] rfl rfl ⟨rfl, rfl⟩ (fle rfl) (fle rfl) dJ2_abs_12
set_option maxHeartbeats 4000000 in
set_option maxRecDepth 100000 in
theorem ct_J2_min {l : Launch} {D : va_G} {E : Ety}  {x0 : Int32} {x1 : Int32} {r_ : Int32} (hf : f_J2_min x0 x1 = some r_) : Ct l yJ2_min cJ2_min 2 (some .int) 0 0 0 0 D E [.int x0, .int x1] [] (Pn (some (.int r_)) []) := by
  refine ct_of (own := RJ2) (by decide +kernel) rfl (fle rfl) rfl ?_
  intro X hl hD hE hnL hXF h hR hF hnm
  subst hl; subst hD; subst hE
  have hL : ∀ i, i < 2 → i < X.nL := fun i hi => by rw [hnL]; exact hi
  unfold f_J2_min at hf
  refine g_iload_n h 0 dJ2_min_0 rfl rfl ?_
  refine g_iload_n h 1 dJ2_min_1 rfl rfl ?_
  refine g_icmp_gt (tgt := 9) h dJ2_min_2 rfl hf (fun c1 hf => ?_) (fun c1 hf => ?_)
  · refine g_iload_n h 1 dJ2_min_9 rfl rfl ?_
    obtain rfl := sj1 hf
    exact g_iret h hF [] rfl rfl ⟨rfl, rfl⟩ (fle rfl) (fle rfl) dJ2_min_10
  · refine g_iload_n h 0 dJ2_min_5 rfl rfl ?_
    refine g_goto (tgt := 10) h dJ2_min_6 rfl ?_
    obtain rfl := sj1 hf
    exact g_iret h hF [] rfl rfl ⟨rfl, rfl⟩ (fle rfl) (fle rfl) dJ2_min_10
set_option maxHeartbeats 4000000 in
set_option maxRecDepth 100000 in
theorem ct_J2_floorDiv {l : Launch} {D : va_G} {E : Ety}  {x0 : Int64} {x2 : Int64} {r_ : Int64} (hf : f_J2_floorDiv x0 x2 = some r_) : Ct l yJ2_floorDiv cJ2_floorDiv 6 (some .long) 0 0 0 0 D E [.long x0, .long x2] [] (Pn (some (.long r_)) []) := by
  refine ct_of (own := RJ2) (by decide +kernel) rfl (fle rfl) rfl ?_
  intro X hl hD hE hnL hXF h hR hF hnm
  subst hl; subst hD; subst hE
  have hL : ∀ i, i < 6 → i < X.nL := fun i hi => by rw [hnL]; exact hi
  unfold f_J2_floorDiv at hf
  refine g_lload_n h 0 dJ2_floorDiv_0 rfl rfl ?_
  refine g_lload_n h 1 dJ2_floorDiv_1 rfl rfl ?_
  obtain ⟨g1, hf⟩ := gn hf
  refine g_ldiv h dJ2_floorDiv_2 g1 ?_
  refine g_lstore (lv' := [(4, .long (x0 / x2)), (0, .long x0), (2, .long x2)]) h dJ2_floorDiv_3 (hL 5 (fle rfl)) rfl ?_
  refine g_lload_n h 1 dJ2_floorDiv_5 rfl rfl ?_
  refine g_lload_n h 2 dJ2_floorDiv_6 rfl rfl ?_
  refine g_lxor h dJ2_floorDiv_7 ?_
  refine g_lconst (v := 0) h dJ2_floorDiv_8 rfl ?_
  refine g_lcmp h dJ2_floorDiv_9 ?_
  refine g_if_ge (tgt := 27) h dJ2_floorDiv_10 rfl hf (fun c2 hf => ?_) (fun c2 hf => ?_)
  · refine g_lload h 0 dJ2_floorDiv_27 rfl ?_
    obtain rfl := sj1 hf
    exact g_lret h hF [] rfl rfl ⟨rfl, rfl⟩ (fle rfl) (fle rfl) dJ2_floorDiv_29
  · refine g_lload h 0 dJ2_floorDiv_13 rfl ?_
    refine g_lload_n h 2 dJ2_floorDiv_15 rfl rfl ?_
    refine g_lmul h dJ2_floorDiv_16 ?_
    refine g_lload_n h 1 dJ2_floorDiv_17 rfl rfl ?_
    refine g_lcmp h dJ2_floorDiv_18 ?_
    refine g_if_eq (tgt := 27) h dJ2_floorDiv_19 rfl hf (fun c3 hf => ?_) (fun c3 hf => ?_)
    · refine g_lload h 0 dJ2_floorDiv_27 rfl ?_
      obtain rfl := sj1 hf
      exact g_lret h hF [] rfl rfl ⟨rfl, rfl⟩ (fle rfl) (fle rfl) dJ2_floorDiv_29
    · refine g_lload h 0 dJ2_floorDiv_22 rfl ?_
      refine g_lconst (v := 1) h dJ2_floorDiv_24 rfl ?_
      refine g_lsub h dJ2_floorDiv_25 ?_
      obtain rfl := sj1 hf
      exact g_lret h hF [] rfl rfl ⟨rfl, rfl⟩ (fle rfl) (fle rfl) dJ2_floorDiv_26
set_option maxHeartbeats 4000000 in
set_option maxRecDepth 100000 in
theorem ct_J2_min_2 {l : Launch} {D : va_G} {E : Ety}  {x0 : Int64} {x2 : Int64} {r_ : Int64} (hf : f_J2_min_2 x0 x2 = some r_) : Ct l yJ2_min_2 cJ2_min_2 4 (some .long) 0 0 0 0 D E [.long x0, .long x2] [] (Pn (some (.long r_)) []) := by
  refine ct_of (own := RJ2) (by decide +kernel) rfl (fle rfl) rfl ?_
  intro X hl hD hE hnL hXF h hR hF hnm
  subst hl; subst hD; subst hE
  have hL : ∀ i, i < 4 → i < X.nL := fun i hi => by rw [hnL]; exact hi
  unfold f_J2_min_2 at hf
  refine g_lload_n h 0 dJ2_min_2_0 rfl rfl ?_
  refine g_lload_n h 1 dJ2_min_2_1 rfl rfl ?_
  refine g_lcmp h dJ2_min_2_2 ?_
  refine g_if_gt (tgt := 10) h dJ2_min_2_3 rfl hf (fun c1 hf => ?_) (fun c1 hf => ?_)
  · refine g_lload_n h 1 dJ2_min_2_10 rfl rfl ?_
    obtain rfl := sj1 hf
    exact g_lret h hF [] rfl rfl ⟨rfl, rfl⟩ (fle rfl) (fle rfl) dJ2_min_2_11
  · refine g_lload_n h 0 dJ2_min_2_6 rfl rfl ?_
    refine g_goto (tgt := 11) h dJ2_min_2_7 rfl ?_
    obtain rfl := sj1 hf
    exact g_lret h hF [] rfl rfl ⟨rfl, rfl⟩ (fle rfl) (fle rfl) dJ2_min_2_11
set_option maxHeartbeats 4000000 in
set_option maxRecDepth 100000 in
theorem ct_J2_max_2 {l : Launch} {D : va_G} {E : Ety}  {x0 : Int64} {x2 : Int64} {r_ : Int64} (hf : f_J2_max_2 x0 x2 = some r_) : Ct l yJ2_max_2 cJ2_max_2 4 (some .long) 0 0 0 0 D E [.long x0, .long x2] [] (Pn (some (.long r_)) []) := by
  refine ct_of (own := RJ2) (by decide +kernel) rfl (fle rfl) rfl ?_
  intro X hl hD hE hnL hXF h hR hF hnm
  subst hl; subst hD; subst hE
  have hL : ∀ i, i < 4 → i < X.nL := fun i hi => by rw [hnL]; exact hi
  unfold f_J2_max_2 at hf
  refine g_lload_n h 0 dJ2_max_2_0 rfl rfl ?_
  refine g_lload_n h 1 dJ2_max_2_1 rfl rfl ?_
  refine g_lcmp h dJ2_max_2_2 ?_
  refine g_if_lt (tgt := 10) h dJ2_max_2_3 rfl hf (fun c1 hf => ?_) (fun c1 hf => ?_)
  · refine g_lload_n h 1 dJ2_max_2_10 rfl rfl ?_
    obtain rfl := sj1 hf
    exact g_lret h hF [] rfl rfl ⟨rfl, rfl⟩ (fle rfl) (fle rfl) dJ2_max_2_11
  · refine g_lload_n h 0 dJ2_max_2_6 rfl rfl ?_
    refine g_goto (tgt := 11) h dJ2_max_2_7 rfl ?_
    obtain rfl := sj1 hf
    exact g_lret h hF [] rfl rfl ⟨rfl, rfl⟩ (fle rfl) (fle rfl) dJ2_max_2_11
set_option maxHeartbeats 4000000 in
set_option maxRecDepth 100000 in
theorem ct_X6_takesHold {l : Launch} {D : va_G} {E : Ety} {a a_kind a_strength a_place a_length a_gives a_over a_under a_this0 : Nat} {x1 : Int32} {x2 : Int64} {n : Int32} {holders : Int32} {cuts : Int32} {hour : Int32} {bears : Int32} {draw : Int32} {place : Nat → Int32} {o_holders : Int32} {o_place : Nat → Int32} (hf : f_X6_takesHold x1 x2 holders place = some (o_holders, o_place)) : Ct l yX6_takesHold cX6_takesHold 4 none 0 0 0 0 D E [.ref a, .int x1, .long x2] [(a, .inr (6, [.ref a_kind, .ref a_strength, .ref a_place, .ref a_length, .ref a_gives, .ref a_over, .ref a_under, .int n, .int holders, .int cuts, .int hour, .int bears, .int draw, .ref a_this0])), (a_place, .inl (E 0, 8, .inl place))] (Pn none [(a, .inr (6, [.ref a_kind, .ref a_strength, .ref a_place, .ref a_length, .ref a_gives, .ref a_over, .ref a_under, .int n, .int o_holders, .int cuts, .int hour, .int bears, .int draw, .ref a_this0])), (a_place, .inl (E 0, 8, .inl o_place))]) := by
  refine ct_of (own := RX6) (plainFor_of_name (by decide)) rfl (fle rfl) rfl ?_
  intro X hl hD hE hnL hXF h hR hF hnm
  subst hl; subst hD; subst hE
  have hL : ∀ i, i < 4 → i < X.nL := fun i hi => by rw [hnL]; exact hi
  unfold f_X6_takesHold at hf
  refine g_aload_n h 0 dX6_takesHold_0 rfl rfl ?_
  refine g_dup h dX6_takesHold_1 rfl ?_
  refine g_get (ci := 6) (v := .int holders) h in_X6 0 8 rfl rfl (fle rfl) rfl q565 rfl dX6_takesHold_2 ?_
  refine g_iconst (v := 1) h dX6_takesHold_5 kiconst_1 ?_
  refine g_iload_n h 1 dX6_takesHold_6 rfl rfl ?_
  refine g_ishl h dX6_takesHold_7 ?_
  refine g_ior h dX6_takesHold_8 ?_
  refine g_put (ci := 6) (ty := tyX6 8) (ws' := [(a, .inr (6, [.ref a_kind, .ref a_strength, .ref a_place, .ref a_length, .ref a_gives, .ref a_over, .ref a_under, .int n, .int (holders ||| (1 <<< (x1 &&& 31))), .int cuts, .int hour, .int bears, .int draw, .ref a_this0])), (a_place, .inl (X.E 0, 8, .inl place))]) h in_X6 tyX6 tyX6_ok nmX6 0 8 rfl rfl (fle rfl) ⟨rfl, rfl⟩ q565 rfl rfl rfl (fle rfl) rfl dX6_takesHold_9 ?_
  refine g_aload_n h 0 dX6_takesHold_12 rfl rfl ?_
  refine g_get (ci := 6) (v := .ref a_place) h in_X6 0 2 rfl rfl (fle rfl) rfl q553 rfl dX6_takesHold_13 ?_
  refine g_iload_n h 1 dX6_takesHold_16 rfl rfl ?_
  refine g_lload_n h 2 dX6_takesHold_17 rfl rfl ?_
  refine g_l2i h dX6_takesHold_18 ?_
  refine g_i2b h dX6_takesHold_19 ?_
  obtain ⟨g1, hf⟩ := gn hf
  refine g_bastore (ws' := [(a, .inr (6, [.ref a_kind, .ref a_strength, .ref a_place, .ref a_length, .ref a_gives, .ref a_over, .ref a_under, .int n, .int (holders ||| (1 <<< (x1 &&& 31))), .int cuts, .int hour, .int bears, .int draw, .ref a_this0])), (a_place, .inl (X.E 0, 8, .inl (upd place x1.toNatClampNeg (vp_nar .byte x2.toInt32.toInt8.toInt32))))]) h 1 rfl g1 rfl dX6_takesHold_20 ?_
  obtain ⟨rfl, rfl⟩ := sj2 hf
  exact g_vret h hF [0, 1] rfl rfl ⟨rfl, rfl⟩ (fle rfl) (fle rfl) dX6_takesHold_21
set_option maxHeartbeats 4000000 in
set_option maxRecDepth 100000 in
theorem ct_X0_comes {l : Launch} {D : va_G} {E : Ety} {a a_kinds a_town a_tried a_fell a_tape a_read a_undos a_kept a_keptUndos a_sheets a_taken a_town_kind a_town_strength a_town_place a_town_length a_town_gives a_town_over a_town_under : Nat} {x1 : Int32} {x2 : Int32} {x3 : Int32} {x4 : Int32} {x5 : Int32} {falls : Int32} {tears : Int32} {typed : Int32} {place : Int32} {isKept : Int32} {town_n : Int32} {town_holders : Int32} {town_cuts : Int32} {town_hour : Int32} {town_bears : Int32} {town_draw : Int32} {town_kind : Nat → Int32} {town_strength : Nat → Int32} {town_place : Nat → Int32} {town_length : Nat → Int32} {town_gives : Nat → Int32} {o_town_n : Int32} {o_town_holders : Int32} {o_town_kind : Nat → Int32} {o_town_strength : Nat → Int32} {o_town_place : Nat → Int32} {o_town_length : Nat → Int32} {o_town_gives : Nat → Int32} (hf : f_X0_comes x1 x2 x3 x4 x5 town_n town_holders town_kind town_strength town_place town_length town_gives = some (o_town_n, o_town_holders, o_town_kind, o_town_strength, o_town_place, o_town_length, o_town_gives)) : Ct l yX0_comes cX0_comes 7 none 1 23 0 0 D E [.ref a, .int x1, .int x2, .int x3, .int x4, .int x5] [(a, .inr (0, [.ref a_kinds, .ref a_town, .ref a_tried, .ref a_fell, .int falls, .int tears, .ref a_tape, .int typed, .int place, .ref a_read, .ref a_undos, .ref a_kept, .ref a_keptUndos, .int isKept, .ref a_sheets, .ref a_taken])), (a_town, .inr (6, [.ref a_town_kind, .ref a_town_strength, .ref a_town_place, .ref a_town_length, .ref a_town_gives, .ref a_town_over, .ref a_town_under, .int town_n, .int town_holders, .int town_cuts, .int town_hour, .int town_bears, .int town_draw, .ref a])), (a_town_kind, .inl (E 0, 8, .inl town_kind)), (a_town_strength, .inl (E 0, 8, .inl town_strength)), (a_town_place, .inl (E 0, 8, .inl town_place)), (a_town_length, .inl (E 0, 8, .inl town_length)), (a_town_gives, .inl (E 0, 8, .inl town_gives))] (Pn none [(a, .inr (0, [.ref a_kinds, .ref a_town, .ref a_tried, .ref a_fell, .int falls, .int tears, .ref a_tape, .int typed, .int place, .ref a_read, .ref a_undos, .ref a_kept, .ref a_keptUndos, .int isKept, .ref a_sheets, .ref a_taken])), (a_town, .inr (6, [.ref a_town_kind, .ref a_town_strength, .ref a_town_place, .ref a_town_length, .ref a_town_gives, .ref a_town_over, .ref a_town_under, .int o_town_n, .int o_town_holders, .int town_cuts, .int town_hour, .int town_bears, .int town_draw, .ref a])), (a_town_kind, .inl (E 0, 8, .inl o_town_kind)), (a_town_strength, .inl (E 0, 8, .inl o_town_strength)), (a_town_place, .inl (E 0, 8, .inl o_town_place)), (a_town_length, .inl (E 0, 8, .inl o_town_length)), (a_town_gives, .inl (E 0, 8, .inl o_town_gives))]) := by
  refine ct_of (own := RX0) (plainFor_of_name (by decide)) rfl (fle rfl) rfl ?_
  intro X hl hD hE hnL hXF h hR hF hnm
  subst hl; subst hD; subst hE
  have hL : ∀ i, i < 7 → i < X.nL := fun i hi => by rw [hnL]; exact hi
  unfold f_X0_comes at hf
  refine g_aload_n h 0 dX0_comes_0 rfl rfl ?_
  refine g_get (ci := 0) (v := .ref a_town) h in_X0 0 1 rfl rfl (fle rfl) rfl q1112 rfl dX0_comes_1 ?_
  refine g_dup h dX0_comes_4 rfl ?_
  refine g_getN (ci := 6) (v := .int town_n) h in_X6 1 7 rfl rfl (fle rfl) rfl q564 rfl dX0_comes_5 ?_
  refine g_dup_x1 h dX0_comes_8 rfl rfl ?_
  refine g_iconst (v := 1) h dX0_comes_9 kiconst_1 ?_
  refine g_iadd h dX0_comes_10 ?_
  refine g_putN (ci := 6) (ty := tyX6 7) (ws' := [(a, .inr (0, [.ref a_kinds, .ref a_town, .ref a_tried, .ref a_fell, .int falls, .int tears, .ref a_tape, .int typed, .int place, .ref a_read, .ref a_undos, .ref a_kept, .ref a_keptUndos, .int isKept, .ref a_sheets, .ref a_taken])), (a_town, .inr (6, [.ref a_town_kind, .ref a_town_strength, .ref a_town_place, .ref a_town_length, .ref a_town_gives, .ref a_town_over, .ref a_town_under, .int (town_n + 1), .int town_holders, .int town_cuts, .int town_hour, .int town_bears, .int town_draw, .ref a])), (a_town_kind, .inl (X.E 0, 8, .inl town_kind)), (a_town_strength, .inl (X.E 0, 8, .inl town_strength)), (a_town_place, .inl (X.E 0, 8, .inl town_place)), (a_town_length, .inl (X.E 0, 8, .inl town_length)), (a_town_gives, .inl (X.E 0, 8, .inl town_gives))]) h in_X6 tyX6 tyX6_ok nmX6 1 7 rfl rfl (fle rfl) ⟨rfl, rfl⟩ q564 rfl rfl rfl (fle rfl) rfl dX0_comes_11 ?_
  refine g_istore (lv' := [(6, .int town_n), (0, .ref a), (1, .int x1), (2, .int x2), (3, .int x3), (4, .int x4), (5, .int x5)]) h dX0_comes_14 (hL 6 (fle rfl)) rfl ?_
  refine g_aload_n h 1 dX0_comes_16 rfl rfl ?_
  refine g_get (ci := 0) (v := .ref a_town) h in_X0 0 1 rfl rfl (fle rfl) rfl q1112 rfl dX0_comes_17 ?_
  refine g_getN (ci := 6) (v := .ref a_town_kind) h in_X6 1 0 rfl rfl (fle rfl) rfl q550 rfl dX0_comes_20 ?_
  refine g_iload h 0 dX0_comes_23 rfl ?_
  refine g_iload_n h 2 dX0_comes_25 rfl rfl ?_
  refine g_i2b h dX0_comes_26 ?_
  obtain ⟨g1, hf⟩ := gn hf
  refine g_bastore (ws' := [(a, .inr (0, [.ref a_kinds, .ref a_town, .ref a_tried, .ref a_fell, .int falls, .int tears, .ref a_tape, .int typed, .int place, .ref a_read, .ref a_undos, .ref a_kept, .ref a_keptUndos, .int isKept, .ref a_sheets, .ref a_taken])), (a_town, .inr (6, [.ref a_town_kind, .ref a_town_strength, .ref a_town_place, .ref a_town_length, .ref a_town_gives, .ref a_town_over, .ref a_town_under, .int (town_n + 1), .int town_holders, .int town_cuts, .int town_hour, .int town_bears, .int town_draw, .ref a])), (a_town_kind, .inl (X.E 0, 8, .inl (upd town_kind town_n.toNatClampNeg (vp_nar .byte x1.toInt8.toInt32)))), (a_town_strength, .inl (X.E 0, 8, .inl town_strength)), (a_town_place, .inl (X.E 0, 8, .inl town_place)), (a_town_length, .inl (X.E 0, 8, .inl town_length)), (a_town_gives, .inl (X.E 0, 8, .inl town_gives))]) h 2 rfl g1 rfl dX0_comes_27 ?_
  refine g_aload_n h 1 dX0_comes_28 rfl rfl ?_
  refine g_get (ci := 0) (v := .ref a_town) h in_X0 0 1 rfl rfl (fle rfl) rfl q1112 rfl dX0_comes_29 ?_
  refine g_getN (ci := 6) (v := .ref a_town_strength) h in_X6 1 1 rfl rfl (fle rfl) rfl q552 rfl dX0_comes_32 ?_
  refine g_iload h 0 dX0_comes_35 rfl ?_
  refine g_iload_n h 3 dX0_comes_37 rfl rfl ?_
  refine g_i2b h dX0_comes_38 ?_
  refine g_bastore (ws' := [(a, .inr (0, [.ref a_kinds, .ref a_town, .ref a_tried, .ref a_fell, .int falls, .int tears, .ref a_tape, .int typed, .int place, .ref a_read, .ref a_undos, .ref a_kept, .ref a_keptUndos, .int isKept, .ref a_sheets, .ref a_taken])), (a_town, .inr (6, [.ref a_town_kind, .ref a_town_strength, .ref a_town_place, .ref a_town_length, .ref a_town_gives, .ref a_town_over, .ref a_town_under, .int (town_n + 1), .int town_holders, .int town_cuts, .int town_hour, .int town_bears, .int town_draw, .ref a])), (a_town_kind, .inl (X.E 0, 8, .inl (upd town_kind town_n.toNatClampNeg (vp_nar .byte x1.toInt8.toInt32)))), (a_town_strength, .inl (X.E 0, 8, .inl (upd town_strength town_n.toNatClampNeg (vp_nar .byte x2.toInt8.toInt32)))), (a_town_place, .inl (X.E 0, 8, .inl town_place)), (a_town_length, .inl (X.E 0, 8, .inl town_length)), (a_town_gives, .inl (X.E 0, 8, .inl town_gives))]) h 3 rfl g1 rfl dX0_comes_39 ?_
  refine g_aload_n h 1 dX0_comes_40 rfl rfl ?_
  refine g_get (ci := 0) (v := .ref a_town) h in_X0 0 1 rfl rfl (fle rfl) rfl q1112 rfl dX0_comes_41 ?_
  refine g_iload h 0 dX0_comes_44 rfl ?_
  refine g_iload_n h 4 dX0_comes_46 rfl rfl ?_
  refine g_i2l h dX0_comes_47 ?_
  obtain ⟨town_holders_2, town_place_3, hv, hf⟩ := ob2 hf
  refine g_callV (ci := 6) (q0 := 1) (n := 2) (As := [.int town_n, .long x3.toInt64]) (st := []) (wr := [(a, .inr (0, [.ref a_kinds, .ref a_town, .ref a_tried, .ref a_fell, .int falls, .int tears, .ref a_tape, .int typed, .int place, .ref a_read, .ref a_undos, .ref a_kept, .ref a_keptUndos, .int isKept, .ref a_sheets, .ref a_taken])), (a_town_kind, .inl (X.E 0, 8, .inl (upd town_kind town_n.toNatClampNeg (vp_nar .byte x1.toInt8.toInt32)))), (a_town_strength, .inl (X.E 0, 8, .inl (upd town_strength town_n.toNatClampNeg (vp_nar .byte x2.toInt8.toInt32)))), (a_town_length, .inl (X.E 0, 8, .inl town_length)), (a_town_gives, .inl (X.E 0, 8, .inl town_gives))]) (isC := [1, 4]) (isR := [0, 2, 3, 5, 6]) h hR (ct_X6_takesHold (a := a_town) (a_kind := a_town_kind) (a_strength := a_town_strength) (a_place := a_town_place) (a_length := a_town_length) (a_gives := a_town_gives) (a_over := a_town_over) (a_under := a_town_under) (a_this0 := a) (x1 := town_n) (x2 := x3.toInt64) (n := (town_n + 1)) (holders := town_holders) (cuts := town_cuts) (hour := town_hour) (bears := town_bears) (draw := town_draw) (place := town_place) hv) rfl rfl (lw_V q119 q120 q121 q76 q122) (by decide +kernel) rfl ⟨rfl, rfl, rfl, rfl, by decide⟩ ⟨fle rfl, fle rfl, fle rfl, fle rfl, fle rfl⟩ rfl dX0_comes_48 (pin (perm := [0, 5, 1, 2, 6, 3, 4]) (ws' := [(a, .inr (0, [.ref a_kinds, .ref a_town, .ref a_tried, .ref a_fell, .int falls, .int tears, .ref a_tape, .int typed, .int place, .ref a_read, .ref a_undos, .ref a_kept, .ref a_keptUndos, .int isKept, .ref a_sheets, .ref a_taken])), (a_town, .inr (6, [.ref a_town_kind, .ref a_town_strength, .ref a_town_place, .ref a_town_length, .ref a_town_gives, .ref a_town_over, .ref a_town_under, .int (town_n + 1), .int town_holders_2, .int town_cuts, .int town_hour, .int town_bears, .int town_draw, .ref a])), (a_town_kind, .inl (X.E 0, 8, .inl (upd town_kind town_n.toNatClampNeg (vp_nar .byte x1.toInt8.toInt32)))), (a_town_strength, .inl (X.E 0, 8, .inl (upd town_strength town_n.toNatClampNeg (vp_nar .byte x2.toInt8.toInt32)))), (a_town_place, .inl (X.E 0, 8, .inl town_place_3)), (a_town_length, .inl (X.E 0, 8, .inl town_length)), (a_town_gives, .inl (X.E 0, 8, .inl town_gives))]) (stk := []) rfl rfl rfl ?_)
  clear hv
  refine g_iload h 0 dX0_comes_51 rfl ?_
  refine g_if_ne (tgt := 57) h dX0_comes_53 rfl hf (fun c4 hf => ?_) (fun c4 hf => ?_)
  · obtain ⟨rfl, rfl, rfl, rfl, rfl, rfl, rfl⟩ := sj7 hf
    exact g_vret h hF [0, 1, 2, 3, 4, 5, 6] rfl rfl ⟨rfl, rfl⟩ (fle rfl) (fle rfl) dX0_comes_56
  · refine g_aload_n h 1 dX0_comes_57 rfl rfl ?_
    refine g_get (ci := 0) (v := .ref a_town) h in_X0 0 1 rfl rfl (fle rfl) rfl q1112 rfl dX0_comes_58 ?_
    refine g_getN (ci := 6) (v := .ref a_town_length) h in_X6 1 3 rfl rfl (fle rfl) rfl q556 rfl dX0_comes_61 ?_
    refine g_iload h 0 dX0_comes_64 rfl ?_
    refine g_iconst (v := 1) h dX0_comes_66 kiconst_1 ?_
    refine g_isub h dX0_comes_67 ?_
    refine g_iload h 5 dX0_comes_68 rfl ?_
    refine g_i2b h dX0_comes_70 ?_
    obtain ⟨g5, hf⟩ := gn hf
    refine g_bastore (ws' := [(a, .inr (0, [.ref a_kinds, .ref a_town, .ref a_tried, .ref a_fell, .int falls, .int tears, .ref a_tape, .int typed, .int place, .ref a_read, .ref a_undos, .ref a_kept, .ref a_keptUndos, .int isKept, .ref a_sheets, .ref a_taken])), (a_town, .inr (6, [.ref a_town_kind, .ref a_town_strength, .ref a_town_place, .ref a_town_length, .ref a_town_gives, .ref a_town_over, .ref a_town_under, .int (town_n + 1), .int town_holders_2, .int town_cuts, .int town_hour, .int town_bears, .int town_draw, .ref a])), (a_town_kind, .inl (X.E 0, 8, .inl (upd town_kind town_n.toNatClampNeg (vp_nar .byte x1.toInt8.toInt32)))), (a_town_strength, .inl (X.E 0, 8, .inl (upd town_strength town_n.toNatClampNeg (vp_nar .byte x2.toInt8.toInt32)))), (a_town_place, .inl (X.E 0, 8, .inl town_place_3)), (a_town_length, .inl (X.E 0, 8, .inl (upd town_length (town_n - 1).toNatClampNeg (vp_nar .byte x4.toInt8.toInt32)))), (a_town_gives, .inl (X.E 0, 8, .inl town_gives))]) h 5 rfl g5 rfl dX0_comes_71 ?_
    refine g_aload_n h 1 dX0_comes_72 rfl rfl ?_
    refine g_get (ci := 0) (v := .ref a_town) h in_X0 0 1 rfl rfl (fle rfl) rfl q1112 rfl dX0_comes_73 ?_
    refine g_getN (ci := 6) (v := .ref a_town_gives) h in_X6 1 4 rfl rfl (fle rfl) rfl q558 rfl dX0_comes_76 ?_
    refine g_iload h 0 dX0_comes_79 rfl ?_
    refine g_iconst (v := 1) h dX0_comes_81 kiconst_1 ?_
    refine g_isub h dX0_comes_82 ?_
    refine g_iload h 6 dX0_comes_83 rfl ?_
    refine g_i2b h dX0_comes_85 ?_
    refine g_bastore (ws' := [(a, .inr (0, [.ref a_kinds, .ref a_town, .ref a_tried, .ref a_fell, .int falls, .int tears, .ref a_tape, .int typed, .int place, .ref a_read, .ref a_undos, .ref a_kept, .ref a_keptUndos, .int isKept, .ref a_sheets, .ref a_taken])), (a_town, .inr (6, [.ref a_town_kind, .ref a_town_strength, .ref a_town_place, .ref a_town_length, .ref a_town_gives, .ref a_town_over, .ref a_town_under, .int (town_n + 1), .int town_holders_2, .int town_cuts, .int town_hour, .int town_bears, .int town_draw, .ref a])), (a_town_kind, .inl (X.E 0, 8, .inl (upd town_kind town_n.toNatClampNeg (vp_nar .byte x1.toInt8.toInt32)))), (a_town_strength, .inl (X.E 0, 8, .inl (upd town_strength town_n.toNatClampNeg (vp_nar .byte x2.toInt8.toInt32)))), (a_town_place, .inl (X.E 0, 8, .inl town_place_3)), (a_town_length, .inl (X.E 0, 8, .inl (upd town_length (town_n - 1).toNatClampNeg (vp_nar .byte x4.toInt8.toInt32)))), (a_town_gives, .inl (X.E 0, 8, .inl (upd town_gives (town_n - 1).toNatClampNeg (vp_nar .byte x5.toInt8.toInt32))))]) h 6 rfl g5 rfl dX0_comes_86 ?_
    obtain ⟨rfl, rfl, rfl, rfl, rfl, rfl, rfl⟩ := sj7 hf
    exact g_vret h hF [0, 1, 2, 3, 4, 5, 6] rfl rfl ⟨rfl, rfl⟩ (fle rfl) (fle rfl) dX0_comes_87
set_option maxHeartbeats 4000000 in
set_option maxRecDepth 100000 in
theorem ct_X6_isCut {l : Launch} {D : va_G} {E : Ety} {a a_kind a_strength a_place a_length a_gives a_over a_under a_this0 : Nat} {x1 : Int32} {n : Int32} {holders : Int32} {cuts : Int32} {hour : Int32} {bears : Int32} {draw : Int32} {r_ : Int32} (hf : f_X6_isCut x1 cuts = some r_) : Ct l yX6_isCut cX6_isCut 2 (some .boolean) 0 0 0 0 D E [.ref a, .int x1] [(a, .inr (6, [.ref a_kind, .ref a_strength, .ref a_place, .ref a_length, .ref a_gives, .ref a_over, .ref a_under, .int n, .int holders, .int cuts, .int hour, .int bears, .int draw, .ref a_this0]))] (Pn (some (.int r_)) [(a, .inr (6, [.ref a_kind, .ref a_strength, .ref a_place, .ref a_length, .ref a_gives, .ref a_over, .ref a_under, .int n, .int holders, .int cuts, .int hour, .int bears, .int draw, .ref a_this0]))]) := by
  refine ct_of (own := RX6) (plainFor_of_name (by decide)) rfl (fle rfl) rfl ?_
  intro X hl hD hE hnL hXF h hR hF hnm
  subst hl; subst hD; subst hE
  have hL : ∀ i, i < 2 → i < X.nL := fun i hi => by rw [hnL]; exact hi
  unfold f_X6_isCut at hf
  refine g_aload_n h 0 dX6_isCut_0 rfl rfl ?_
  refine g_get (ci := 6) (v := .int cuts) h in_X6 0 9 rfl rfl (fle rfl) rfl q567 rfl dX6_isCut_1 ?_
  refine g_iload_n h 1 dX6_isCut_4 rfl rfl ?_
  refine g_ishr h dX6_isCut_5 ?_
  refine g_iconst (v := 1) h dX6_isCut_6 kiconst_1 ?_
  refine g_iand h dX6_isCut_7 ?_
  refine g_iconst (v := 1) h dX6_isCut_8 kiconst_1 ?_
  refine g_icmp_ne (tgt := 16) h dX6_isCut_9 rfl hf (fun c1 hf => ?_) (fun c1 hf => ?_)
  · refine g_iconst (v := 1) h dX6_isCut_12 kiconst_1 ?_
    refine g_goto (tgt := 17) h dX6_isCut_13 rfl ?_
    obtain rfl := sj1 hf
    exact g_zret h hF rfl [0] rfl rfl ⟨rfl, rfl⟩ (fle rfl) (fle rfl) dX6_isCut_17
  · refine g_iconst (v := 0) h dX6_isCut_16 kiconst_0 ?_
    obtain rfl := sj1 hf
    exact g_zret h hF rfl [0] rfl rfl ⟨rfl, rfl⟩ (fle rfl) (fle rfl) dX6_isCut_17
set_option maxHeartbeats 4000000 in
set_option maxRecDepth 100000 in
theorem ct_X6_holds {l : Launch} {D : va_G} {E : Ety} {a a_kind a_strength a_place a_length a_gives a_over a_under a_this0 : Nat} {x1 : Int32} {n : Int32} {holders : Int32} {cuts : Int32} {hour : Int32} {bears : Int32} {draw : Int32} {r_ : Int32} (hf : f_X6_holds x1 holders = some r_) : Ct l yX6_holds cX6_holds 2 (some .boolean) 0 0 0 0 D E [.ref a, .int x1] [(a, .inr (6, [.ref a_kind, .ref a_strength, .ref a_place, .ref a_length, .ref a_gives, .ref a_over, .ref a_under, .int n, .int holders, .int cuts, .int hour, .int bears, .int draw, .ref a_this0]))] (Pn (some (.int r_)) [(a, .inr (6, [.ref a_kind, .ref a_strength, .ref a_place, .ref a_length, .ref a_gives, .ref a_over, .ref a_under, .int n, .int holders, .int cuts, .int hour, .int bears, .int draw, .ref a_this0]))]) := by
  refine ct_of (own := RX6) (plainFor_of_name (by decide)) rfl (fle rfl) rfl ?_
  intro X hl hD hE hnL hXF h hR hF hnm
  subst hl; subst hD; subst hE
  have hL : ∀ i, i < 2 → i < X.nL := fun i hi => by rw [hnL]; exact hi
  unfold f_X6_holds at hf
  refine g_aload_n h 0 dX6_holds_0 rfl rfl ?_
  refine g_get (ci := 6) (v := .int holders) h in_X6 0 8 rfl rfl (fle rfl) rfl q565 rfl dX6_holds_1 ?_
  refine g_iload_n h 1 dX6_holds_4 rfl rfl ?_
  refine g_ishr h dX6_holds_5 ?_
  refine g_iconst (v := 1) h dX6_holds_6 kiconst_1 ?_
  refine g_iand h dX6_holds_7 ?_
  refine g_iconst (v := 1) h dX6_holds_8 kiconst_1 ?_
  refine g_icmp_ne (tgt := 16) h dX6_holds_9 rfl hf (fun c1 hf => ?_) (fun c1 hf => ?_)
  · refine g_iconst (v := 1) h dX6_holds_12 kiconst_1 ?_
    refine g_goto (tgt := 17) h dX6_holds_13 rfl ?_
    obtain rfl := sj1 hf
    exact g_zret h hF rfl [0] rfl rfl ⟨rfl, rfl⟩ (fle rfl) (fle rfl) dX6_holds_17
  · refine g_iconst (v := 0) h dX6_holds_16 kiconst_0 ?_
    obtain rfl := sj1 hf
    exact g_zret h hF rfl [0] rfl rfl ⟨rfl, rfl⟩ (fle rfl) (fle rfl) dX6_holds_17
set_option maxHeartbeats 4000000 in
set_option maxRecDepth 100000 in
theorem w_X6_pulls_L20 {X : Cx} {a a_gives a_kind a_length a_over a_place a_strength a_this0 a_under : Nat} {x1 : Int32} {x2 : Int32} {n : Int32} {holders : Int32} {cuts : Int32} {hour : Int32} {bears : Int32} {draw : Int32} {place : Nat → Int32} {length : Nat → Int32} {gives : Nat → Int32} {over : Nat → Int32} {under : Nat → Int32} {ce sl : Nat} (h : Ok X cX6_pulls RX6) (hR : Rm X 0 0 0 0) (hL : ∀ i, i < 6 → i < X.nL) (hce : ce ≤ 0) (hsl : sl ≤ 0) : ∀ (n0 : Nat) (x3 : Int32) (x4 : Int32) (x5 : Int32) {o_x3 : Int32} {o_x4 : Int32}, f_X6_pulls_L20 x2 length gives n0 x3 x4 x5 = some (o_x3, o_x4) → (G X [(a, .inr (6, [.ref a_kind, .ref a_strength, .ref a_place, .ref a_length, .ref a_gives, .ref a_over, .ref a_under, .int n, .int holders, .int cuts, .int hour, .int bears, .int draw, .ref a_this0])), (a_place, .inl (X.E 0, 8, .inl place)), (a_length, .inl (X.E 0, 8, .inl length)), (a_gives, .inl (X.E 0, 8, .inl gives)), (a_over, .inl (X.E 1, 8, .inl over)), (a_under, .inl (X.E 1, 8, .inl under))] [(0, .ref a), (1, .int x1), (2, .int x2), (3, .int o_x3), (4, .int o_x4)] ce sl 54 []) → G X [(a, .inr (6, [.ref a_kind, .ref a_strength, .ref a_place, .ref a_length, .ref a_gives, .ref a_over, .ref a_under, .int n, .int holders, .int cuts, .int hour, .int bears, .int draw, .ref a_this0])), (a_place, .inl (X.E 0, 8, .inl place)), (a_length, .inl (X.E 0, 8, .inl length)), (a_gives, .inl (X.E 0, 8, .inl gives)), (a_over, .inl (X.E 1, 8, .inl over)), (a_under, .inl (X.E 1, 8, .inl under))] [(0, .ref a), (1, .int x1), (2, .int x2), (3, .int x3), (4, .int x4), (5, .int x5)] ce sl 20 [] := by
  intro n0
  induction n0 with
  | zero => intro x3 x4 x5 o_x3 o_x4 hf; exact nomatch (show (none : Option _) = some _ from hf)
  | succ n0 ih =>
    intro x3 x4 x5 o_x3 o_x4 hf k0
    replace hf : t_X6_pulls_L20 x2 length gives (f_X6_pulls_L20 x2 length gives n0) x3 x4 x5 = some (o_x3, o_x4) := hf
    unfold t_X6_pulls_L20 at hf
    refine g_iload h 5 dX6_pulls_20 rfl ?_
    refine g_iload_n h 2 dX6_pulls_22 rfl rfl ?_
    refine g_icmp_ge (tgt := 54) h dX6_pulls_23 rfl hf (fun c4 hf => ?_) (fun c4 hf => ?_)
    · obtain ⟨rfl, rfl⟩ := sj2 hf
      exact G.lsub [0, 1, 2, 3, 4] rfl k0
    · refine g_iload_n h 3 dX6_pulls_26 rfl rfl ?_
      refine g_aload_n h 0 dX6_pulls_27 rfl rfl ?_
      refine g_get (ci := 6) (v := .ref a_length) h in_X6 0 3 rfl rfl (fle rfl) rfl q555 rfl dX6_pulls_28 ?_
      refine g_iload h 5 dX6_pulls_31 rfl ?_
      obtain ⟨g5, hf⟩ := gn hf
      refine g_baload h 2 rfl g5 dX6_pulls_33 ?_
      refine g_isub h dX6_pulls_34 ?_
      refine g_istore_n (lv' := [(3, .int (x3 - (length x5.toNatClampNeg))), (0, .ref a), (1, .int x1), (2, .int x2), (4, .int x4), (5, .int x5)]) h dX6_pulls_35 rfl (hL 3 (fle rfl)) rfl ?_
      refine g_iload h 4 dX6_pulls_36 rfl ?_
      refine g_aload_n h 1 dX6_pulls_38 rfl rfl ?_
      refine g_get (ci := 6) (v := .ref a_gives) h in_X6 0 4 rfl rfl (fle rfl) rfl q557 rfl dX6_pulls_39 ?_
      refine g_iload h 5 dX6_pulls_42 rfl ?_
      refine g_baload h 3 rfl g5 dX6_pulls_44 ?_
      refine g_iadd h dX6_pulls_45 ?_
      refine g_istore (lv' := [(4, .int (x4 + (gives x5.toNatClampNeg))), (3, .int (x3 - (length x5.toNatClampNeg))), (0, .ref a), (1, .int x1), (2, .int x2), (5, .int x5)]) h dX6_pulls_46 (hL 4 (fle rfl)) rfl ?_
      refine g_iinc (j := 5) (v := (x5 + 1)) (lv' := [(5, .int (x5 + 1)), (4, .int (x4 + (gives x5.toNatClampNeg))), (3, .int (x3 - (length x5.toNatClampNeg))), (0, .ref a), (1, .int x1), (2, .int x2)]) h dX6_pulls_48 rfl (kinc_1 _) (hL 5 (fle rfl)) rfl ?_
      refine g_goto (tgt := 20) h dX6_pulls_51 rfl ?_
      exact G.lsub [3, 4, 5, 2, 1, 0] rfl (ih _ _ _ hf k0)
set_option maxHeartbeats 4000000 in
set_option maxRecDepth 100000 in
theorem w_X6_pulls_L62 {X : Cx} {a a_gives a_kind a_length a_over a_place a_strength a_this0 a_under : Nat} {x2 : Int32} {x3 : Int32} {x4 : Int32} {n : Int32} {holders : Int32} {cuts : Int32} {hour : Int32} {bears : Int32} {draw : Int32} {place : Nat → Int32} {length : Nat → Int32} {gives : Nat → Int32} {ce sl : Nat} (h : Ok X cX6_pulls RX6) (hR : Rm X 0 0 0 0) (hL : ∀ i, i < 6 → i < X.nL) (hce : ce ≤ 0) (hsl : sl ≤ 0) : ∀ (n0 : Nat) (x5 : Int32) (over : Nat → Int32) (under : Nat → Int32) {o_over : Nat → Int32} {o_under : Nat → Int32}, f_X6_pulls_L62 x2 x3 x4 n0 x5 over under = some (o_over, o_under) → (G X [(a, .inr (6, [.ref a_kind, .ref a_strength, .ref a_place, .ref a_length, .ref a_gives, .ref a_over, .ref a_under, .int n, .int holders, .int cuts, .int hour, .int bears, .int draw, .ref a_this0])), (a_place, .inl (X.E 0, 8, .inl place)), (a_length, .inl (X.E 0, 8, .inl length)), (a_gives, .inl (X.E 0, 8, .inl gives)), (a_over, .inl (X.E 1, 8, .inl o_over)), (a_under, .inl (X.E 1, 8, .inl o_under))] [] ce sl 91 []) → G X [(a, .inr (6, [.ref a_kind, .ref a_strength, .ref a_place, .ref a_length, .ref a_gives, .ref a_over, .ref a_under, .int n, .int holders, .int cuts, .int hour, .int bears, .int draw, .ref a_this0])), (a_place, .inl (X.E 0, 8, .inl place)), (a_length, .inl (X.E 0, 8, .inl length)), (a_gives, .inl (X.E 0, 8, .inl gives)), (a_over, .inl (X.E 1, 8, .inl over)), (a_under, .inl (X.E 1, 8, .inl under))] [(0, .ref a), (2, .int x2), (3, .int x3), (4, .int x4), (5, .int x5)] ce sl 62 [] := by
  intro n0
  induction n0 with
  | zero => intro x5 over under o_over o_under hf; exact nomatch (show (none : Option _) = some _ from hf)
  | succ n0 ih =>
    intro x5 over under o_over o_under hf k0
    replace hf : t_X6_pulls_L62 x2 x3 x4 (f_X6_pulls_L62 x2 x3 x4 n0) x5 over under = some (o_over, o_under) := hf
    unfold t_X6_pulls_L62 at hf
    refine g_iload h 4 dX6_pulls_62 rfl ?_
    refine g_iload_n h 1 dX6_pulls_64 rfl rfl ?_
    refine g_icmp_ge (tgt := 91) h dX6_pulls_65 rfl hf (fun c9 hf => ?_) (fun c9 hf => ?_)
    · obtain ⟨rfl, rfl⟩ := sj2 hf
      exact G.lsub [] rfl k0
    · refine g_aload_n h 0 dX6_pulls_68 rfl rfl ?_
      refine g_get (ci := 6) (v := .ref a_over) h in_X6 0 5 rfl rfl (fle rfl) rfl q559 rfl dX6_pulls_69 ?_
      refine g_iload h 4 dX6_pulls_72 rfl ?_
      refine g_iload_n h 2 dX6_pulls_74 rfl rfl ?_
      obtain ⟨g10, hf⟩ := gn hf
      refine g_iastore (ws' := [(a, .inr (6, [.ref a_kind, .ref a_strength, .ref a_place, .ref a_length, .ref a_gives, .ref a_over, .ref a_under, .int n, .int holders, .int cuts, .int hour, .int bears, .int draw, .ref a_this0])), (a_place, .inl (X.E 0, 8, .inl place)), (a_length, .inl (X.E 0, 8, .inl length)), (a_gives, .inl (X.E 0, 8, .inl gives)), (a_over, .inl (X.E 1, 8, .inl (upd over x5.toNatClampNeg x3))), (a_under, .inl (X.E 1, 8, .inl under))]) h 4 rfl g10 rfl dX6_pulls_75 ?_
      refine g_aload_n h 0 dX6_pulls_76 rfl rfl ?_
      refine g_get (ci := 6) (v := .ref a_under) h in_X6 0 6 rfl rfl (fle rfl) rfl q561 rfl dX6_pulls_77 ?_
      refine g_iload h 4 dX6_pulls_80 rfl ?_
      refine g_iload h 3 dX6_pulls_82 rfl ?_
      refine g_iastore (ws' := [(a, .inr (6, [.ref a_kind, .ref a_strength, .ref a_place, .ref a_length, .ref a_gives, .ref a_over, .ref a_under, .int n, .int holders, .int cuts, .int hour, .int bears, .int draw, .ref a_this0])), (a_place, .inl (X.E 0, 8, .inl place)), (a_length, .inl (X.E 0, 8, .inl length)), (a_gives, .inl (X.E 0, 8, .inl gives)), (a_over, .inl (X.E 1, 8, .inl (upd over x5.toNatClampNeg x3))), (a_under, .inl (X.E 1, 8, .inl (upd under x5.toNatClampNeg x4)))]) h 5 rfl g10 rfl dX6_pulls_84 ?_
      refine g_iinc (j := 4) (v := (x5 + 1)) (lv' := [(5, .int (x5 + 1)), (0, .ref a), (2, .int x2), (3, .int x3), (4, .int x4)]) h dX6_pulls_85 rfl (kinc_1 _) (hL 5 (fle rfl)) rfl ?_
      refine g_goto (tgt := 62) h dX6_pulls_88 rfl ?_
      exact G.lsub [1, 2, 3, 4, 0] rfl (ih _ _ _ hf k0)
set_option maxHeartbeats 4000000 in
set_option maxRecDepth 100000 in
theorem ct_X6_pulls {l : Launch} {D : va_G} {E : Ety} {a a_kind a_strength a_place a_length a_gives a_over a_under a_this0 : Nat} {x1 : Int32} {x2 : Int32} {n : Int32} {holders : Int32} {cuts : Int32} {hour : Int32} {bears : Int32} {draw : Int32} {place : Nat → Int32} {length : Nat → Int32} {gives : Nat → Int32} {over : Nat → Int32} {under : Nat → Int32} {o_over : Nat → Int32} {o_under : Nat → Int32} (hf : f_X6_pulls x1 x2 place length gives over under = some (o_over, o_under)) : Ct l yX6_pulls cX6_pulls 6 none 0 0 0 0 D E [.ref a, .int x1, .int x2] [(a, .inr (6, [.ref a_kind, .ref a_strength, .ref a_place, .ref a_length, .ref a_gives, .ref a_over, .ref a_under, .int n, .int holders, .int cuts, .int hour, .int bears, .int draw, .ref a_this0])), (a_place, .inl (E 0, 8, .inl place)), (a_length, .inl (E 0, 8, .inl length)), (a_gives, .inl (E 0, 8, .inl gives)), (a_over, .inl (E 1, 8, .inl over)), (a_under, .inl (E 1, 8, .inl under))] (Pn none [(a, .inr (6, [.ref a_kind, .ref a_strength, .ref a_place, .ref a_length, .ref a_gives, .ref a_over, .ref a_under, .int n, .int holders, .int cuts, .int hour, .int bears, .int draw, .ref a_this0])), (a_place, .inl (E 0, 8, .inl place)), (a_length, .inl (E 0, 8, .inl length)), (a_gives, .inl (E 0, 8, .inl gives)), (a_over, .inl (E 1, 8, .inl o_over)), (a_under, .inl (E 1, 8, .inl o_under))]) := by
  refine ct_of (own := RX6) (plainFor_of_name (by decide)) rfl (fle rfl) rfl ?_
  intro X hl hD hE hnL hXF h hR hF hnm
  subst hl; subst hD; subst hE
  have hL : ∀ i, i < 6 → i < X.nL := fun i hi => by rw [hnL]; exact hi
  unfold f_X6_pulls at hf
  refine g_aload_n h 0 dX6_pulls_0 rfl rfl ?_
  refine g_get (ci := 6) (v := .ref a_place) h in_X6 0 2 rfl rfl (fle rfl) rfl q553 rfl dX6_pulls_1 ?_
  refine g_iload_n h 2 dX6_pulls_4 rfl rfl ?_
  obtain ⟨g1, hf⟩ := gn hf
  refine g_baload h 1 rfl g1 dX6_pulls_5 ?_
  refine g_aload_n h 0 dX6_pulls_6 rfl rfl ?_
  refine g_get (ci := 6) (v := .ref a_place) h in_X6 0 2 rfl rfl (fle rfl) rfl q553 rfl dX6_pulls_7 ?_
  refine g_iload_n h 1 dX6_pulls_10 rfl rfl ?_
  obtain ⟨g2, hf⟩ := gn hf
  refine g_baload h 1 rfl g2 dX6_pulls_11 ?_
  refine g_isub h dX6_pulls_12 ?_
  refine nm_i (fun y_3 ey_3 => ?_)
  have hf := nm_at hf y_3 ey_3
  refine g_istore_n (lv' := [(3, .int y_3), (0, .ref a), (1, .int x1), (2, .int x2)]) h dX6_pulls_13 rfl (hL 3 (fle rfl)) rfl ?_
  refine g_iconst (v := 0) h dX6_pulls_14 kiconst_0 ?_
  refine g_istore (lv' := [(4, .int 0), (3, .int y_3), (0, .ref a), (1, .int x1), (2, .int x2)]) h dX6_pulls_15 (hL 4 (fle rfl)) rfl ?_
  refine g_iload_n h 3 dX6_pulls_17 rfl rfl ?_
  refine g_istore (lv' := [(5, .int x1), (4, .int 0), (3, .int y_3), (0, .ref a), (1, .int x1), (2, .int x2)]) h dX6_pulls_18 (hL 5 (fle rfl)) rfl ?_
  refine G.lsub (lv' := [(0, .ref a), (1, .int x1), (2, .int x2), (3, .int y_3), (4, .int 0), (5, .int x1)]) [3, 4, 5, 2, 1, 0] rfl ?_
  obtain ⟨x3_6, x4_7, hv, hf⟩ := ob2 hf
  refine w_X6_pulls_L20 (x1 := x1) (x2 := x2) (n := n) (holders := holders) (cuts := cuts) (hour := hour) (bears := bears) (draw := draw) (place := place) (length := length) (gives := gives) (over := over) (under := under) h hR hL (fle rfl) (fle rfl) FU _ _ _ hv ?_
  · clear hv
    refine g_iload_n h 3 dX6_pulls_54 rfl rfl ?_
    refine g_if_gt (tgt := 59) h dX6_pulls_55 rfl hf (fun c8 hf => ?_) (fun c8 hf => ?_)
    · refine g_iload_n h 1 dX6_pulls_59 rfl rfl ?_
      refine g_istore (lv' := [(5, .int x1), (0, .ref a), (1, .int x1), (2, .int x2), (3, .int x3_6), (4, .int x4_7)]) h dX6_pulls_60 (hL 5 (fle rfl)) rfl ?_
      refine G.lsub (lv' := [(0, .ref a), (2, .int x2), (3, .int x3_6), (4, .int x4_7), (5, .int x1)]) [1, 3, 4, 5, 0] rfl ?_
      obtain ⟨over_11, under_12, hv, hf⟩ := ob2 hf
      refine w_X6_pulls_L62 (x2 := x2) (x3 := x3_6) (x4 := x4_7) (n := n) (holders := holders) (cuts := cuts) (hour := hour) (bears := bears) (draw := draw) (place := place) (length := length) (gives := gives) h hR hL (fle rfl) (fle rfl) FU _ _ _ hv ?_
      · clear hv
        obtain ⟨rfl, rfl⟩ := sj2 hf
        exact g_vret h hF [0, 1, 2, 3, 4, 5] rfl rfl ⟨rfl, rfl⟩ (fle rfl) (fle rfl) dX6_pulls_91
    · obtain ⟨rfl, rfl⟩ := sj2 hf
      exact g_vret h hF [0, 1, 2, 3, 4, 5] rfl rfl ⟨rfl, rfl⟩ (fle rfl) (fle rfl) dX6_pulls_58
set_option maxHeartbeats 4000000 in
set_option maxRecDepth 100000 in
theorem w_X6_measured_L5 {X : Cx} {a a_gives a_kind a_length a_over a_place a_strength a_this0 a_under : Nat} {n : Int32} {holders : Int32} {cuts : Int32} {hour : Int32} {bears : Int32} {draw : Int32} {place : Nat → Int32} {length : Nat → Int32} {gives : Nat → Int32} {ce sl : Nat} (h : Ok X cX6_measured RX6) (hR : Rm X 1 25 0 0) (hL : ∀ i, i < 3 → i < X.nL) (hce : ce ≤ 0) (hsl : sl ≤ 0) : ∀ (n0 : Nat) (x1 : Int32) (x2 : Int32) (over : Nat → Int32) (under : Nat → Int32) {o_over : Nat → Int32} {o_under : Nat → Int32}, f_X6_measured_L5 n holders cuts place length gives n0 x1 x2 over under = some (o_over, o_under) → (G X [(a, .inr (6, [.ref a_kind, .ref a_strength, .ref a_place, .ref a_length, .ref a_gives, .ref a_over, .ref a_under, .int n, .int holders, .int cuts, .int hour, .int bears, .int draw, .ref a_this0])), (a_place, .inl (X.E 0, 8, .inl place)), (a_length, .inl (X.E 0, 8, .inl length)), (a_gives, .inl (X.E 0, 8, .inl gives)), (a_over, .inl (X.E 1, 8, .inl o_over)), (a_under, .inl (X.E 1, 8, .inl o_under))] [(0, .ref a)] ce sl 75 []) → G X [(a, .inr (6, [.ref a_kind, .ref a_strength, .ref a_place, .ref a_length, .ref a_gives, .ref a_over, .ref a_under, .int n, .int holders, .int cuts, .int hour, .int bears, .int draw, .ref a_this0])), (a_place, .inl (X.E 0, 8, .inl place)), (a_length, .inl (X.E 0, 8, .inl length)), (a_gives, .inl (X.E 0, 8, .inl gives)), (a_over, .inl (X.E 1, 8, .inl over)), (a_under, .inl (X.E 1, 8, .inl under))] [(0, .ref a), (1, .int x1), (2, .int x2)] ce sl 5 [] := by
  intro n0
  induction n0 with
  | zero => intro x1 x2 over under o_over o_under hf; exact nomatch (show (none : Option _) = some _ from hf)
  | succ n0 ih =>
    intro x1 x2 over under o_over o_under hf k0
    replace hf : t_X6_measured_L5 n holders cuts place length gives (f_X6_measured_L5 n holders cuts place length gives n0) x1 x2 over under = some (o_over, o_under) := hf
    unfold t_X6_measured_L5 at hf
    refine g_iload_n h 2 dX6_measured_5 rfl rfl ?_
    refine g_aload_n h 0 dX6_measured_6 rfl rfl ?_
    refine g_get (ci := 6) (v := .int n) h in_X6 0 7 rfl rfl (fle rfl) rfl q563 rfl dX6_measured_7 ?_
    refine g_icmp_ge (tgt := 75) h dX6_measured_10 rfl hf (fun c1 hf => ?_) (fun c1 hf => ?_)
    · obtain ⟨rfl, rfl⟩ := sj2 hf
      exact G.lsub [0] rfl k0
    · refine g_aload_n h 0 dX6_measured_13 rfl rfl ?_
      refine g_get (ci := 6) (v := .ref a_over) h in_X6 0 5 rfl rfl (fle rfl) rfl q559 rfl dX6_measured_14 ?_
      refine g_iload_n h 2 dX6_measured_17 rfl rfl ?_
      refine g_iconst (v := 0) h dX6_measured_18 kiconst_0 ?_
      obtain ⟨g2, hf⟩ := gn hf
      refine g_iastore (ws' := [(a, .inr (6, [.ref a_kind, .ref a_strength, .ref a_place, .ref a_length, .ref a_gives, .ref a_over, .ref a_under, .int n, .int holders, .int cuts, .int hour, .int bears, .int draw, .ref a_this0])), (a_place, .inl (X.E 0, 8, .inl place)), (a_length, .inl (X.E 0, 8, .inl length)), (a_gives, .inl (X.E 0, 8, .inl gives)), (a_over, .inl (X.E 1, 8, .inl (upd over x2.toNatClampNeg 0))), (a_under, .inl (X.E 1, 8, .inl under))]) h 4 rfl g2 rfl dX6_measured_19 ?_
      refine g_aload_n h 0 dX6_measured_20 rfl rfl ?_
      refine g_get (ci := 6) (v := .ref a_under) h in_X6 0 6 rfl rfl (fle rfl) rfl q561 rfl dX6_measured_21 ?_
      refine g_iload_n h 2 dX6_measured_24 rfl rfl ?_
      refine g_iconst (v := 1) h dX6_measured_25 kiconst_1 ?_
      refine g_iastore (ws' := [(a, .inr (6, [.ref a_kind, .ref a_strength, .ref a_place, .ref a_length, .ref a_gives, .ref a_over, .ref a_under, .int n, .int holders, .int cuts, .int hour, .int bears, .int draw, .ref a_this0])), (a_place, .inl (X.E 0, 8, .inl place)), (a_length, .inl (X.E 0, 8, .inl length)), (a_gives, .inl (X.E 0, 8, .inl gives)), (a_over, .inl (X.E 1, 8, .inl (upd over x2.toNatClampNeg 0))), (a_under, .inl (X.E 1, 8, .inl (upd under x2.toNatClampNeg 1)))]) h 5 rfl g2 rfl dX6_measured_26 ?_
      refine g_iload_n h 2 dX6_measured_27 rfl rfl ?_
      obtain ⟨x1_6, hw, hf⟩ := ob1 hf
      have K28 : G X [(a, .inr (6, [.ref a_kind, .ref a_strength, .ref a_place, .ref a_length, .ref a_gives, .ref a_over, .ref a_under, .int n, .int holders, .int cuts, .int hour, .int bears, .int draw, .ref a_this0])), (a_place, .inl (X.E 0, 8, .inl place)), (a_length, .inl (X.E 0, 8, .inl length)), (a_gives, .inl (X.E 0, 8, .inl gives)), (a_over, .inl (X.E 1, 8, .inl (upd over x2.toNatClampNeg 0))), (a_under, .inl (X.E 1, 8, .inl (upd under x2.toNatClampNeg 1)))] [(0, .ref a), (1, .int x1_6), (2, .int x2)] ce sl 44 [] := by
        clear hw
        refine g_aload_n h 0 dX6_measured_44 rfl rfl ?_
        refine g_iload_n h 2 dX6_measured_45 rfl rfl ?_
        obtain ⟨r_9, hv, hf⟩ := ob1 hf
        refine g_callV (ci := 6) (q0 := 0) (n := 1) (As := [.int x2]) (st := []) (wr := [(a_place, .inl (X.E 0, 8, .inl place)), (a_length, .inl (X.E 0, 8, .inl length)), (a_gives, .inl (X.E 0, 8, .inl gives)), (a_over, .inl (X.E 1, 8, .inl (upd over x2.toNatClampNeg 0))), (a_under, .inl (X.E 1, 8, .inl (upd under x2.toNatClampNeg 1)))]) (isC := [0]) (isR := [1, 2, 3, 4, 5]) h hR (ct_X6_holds (a := a) (a_kind := a_kind) (a_strength := a_strength) (a_place := a_place) (a_length := a_length) (a_gives := a_gives) (a_over := a_over) (a_under := a_under) (a_this0 := a_this0) (x1 := x2) (n := n) (holders := holders) (cuts := cuts) (hour := hour) (bears := bears) (draw := draw) hv) rfl rfl (lw_V q142 q143 q144 q76 q145) (by decide +kernel) rfl ⟨rfl, rfl, rfl, rfl, by decide⟩ ⟨hce, hsl, fle rfl, fle rfl, fle rfl⟩ rfl dX6_measured_46 (pin (perm := [5, 0, 1, 2, 3, 4]) (ws' := [(a, .inr (6, [.ref a_kind, .ref a_strength, .ref a_place, .ref a_length, .ref a_gives, .ref a_over, .ref a_under, .int n, .int holders, .int cuts, .int hour, .int bears, .int draw, .ref a_this0])), (a_place, .inl (X.E 0, 8, .inl place)), (a_length, .inl (X.E 0, 8, .inl length)), (a_gives, .inl (X.E 0, 8, .inl gives)), (a_over, .inl (X.E 1, 8, .inl (upd over x2.toNatClampNeg 0))), (a_under, .inl (X.E 1, 8, .inl (upd under x2.toNatClampNeg 1)))]) (stk := [.int r_9]) rfl rfl rfl ?_)
        clear hv
        refine g_if_ne (tgt := 55) h dX6_measured_49 rfl hf (fun c10 hf => ?_) (fun c10 hf => ?_)
        · refine g_goto (tgt := 69) h dX6_measured_52 rfl ?_
          refine g_iinc (j := 2) (v := (x2 + 1)) (lv' := [(2, .int (x2 + 1)), (0, .ref a), (1, .int x1_6)]) h dX6_measured_69 rfl (kinc_1 _) (hL 2 (fle rfl)) rfl ?_
          refine g_goto (tgt := 5) h dX6_measured_72 rfl ?_
          exact G.lsub [1, 2, 0] rfl (ih _ _ _ _ hf k0)
        · refine g_iload_n h 1 dX6_measured_55 rfl rfl ?_
          refine g_bipush (v := (-4)) h dX6_measured_56 kbipush_m4 ?_
          refine g_icmp_eq (tgt := 67) h dX6_measured_58 rfl hf (fun c11 hf => ?_) (fun c11 hf => ?_)
          · refine g_iload_n h 2 dX6_measured_67 rfl rfl ?_
            refine g_istore_n (lv' := [(1, .int x2), (0, .ref a), (2, .int x2)]) h dX6_measured_68 rfl (hL 1 (fle rfl)) rfl ?_
            refine g_iinc (j := 2) (v := (x2 + 1)) (lv' := [(2, .int (x2 + 1)), (1, .int x2), (0, .ref a)]) h dX6_measured_69 rfl (kinc_1 _) (hL 2 (fle rfl)) rfl ?_
            refine g_goto (tgt := 5) h dX6_measured_72 rfl ?_
            exact G.lsub [2, 1, 0] rfl (ih _ _ _ _ hf k0)
          · refine g_aload_n h 0 dX6_measured_61 rfl rfl ?_
            refine g_iload_n h 1 dX6_measured_62 rfl rfl ?_
            refine g_iload_n h 2 dX6_measured_63 rfl rfl ?_
            obtain ⟨over_12, under_13, hv, hf⟩ := ob2 hf
            refine g_callV (ci := 6) (q0 := 0) (n := 2) (As := [.int x1_6, .int x2]) (st := []) (wr := []) (isC := [0, 1, 2, 3, 4, 5]) (isR := []) h hR (ct_X6_pulls (a := a) (a_kind := a_kind) (a_strength := a_strength) (a_place := a_place) (a_length := a_length) (a_gives := a_gives) (a_over := a_over) (a_under := a_under) (a_this0 := a_this0) (x1 := x1_6) (x2 := x2) (n := n) (holders := holders) (cuts := cuts) (hour := hour) (bears := bears) (draw := draw) (place := place) (length := length) (gives := gives) (over := upd over x2.toNatClampNeg 0) (under := upd under x2.toNatClampNeg 1) hv) rfl rfl (lw_V q146 q148 qs2 q76 q150) (by decide +kernel) rfl ⟨rfl, rfl, rfl, rfl, by decide⟩ ⟨hce, hsl, fle rfl, fle rfl, fle rfl⟩ rfl dX6_measured_64 (pin (perm := [0, 1, 2, 3, 4, 5]) (ws' := [(a, .inr (6, [.ref a_kind, .ref a_strength, .ref a_place, .ref a_length, .ref a_gives, .ref a_over, .ref a_under, .int n, .int holders, .int cuts, .int hour, .int bears, .int draw, .ref a_this0])), (a_place, .inl (X.E 0, 8, .inl place)), (a_length, .inl (X.E 0, 8, .inl length)), (a_gives, .inl (X.E 0, 8, .inl gives)), (a_over, .inl (X.E 1, 8, .inl over_12)), (a_under, .inl (X.E 1, 8, .inl under_13))]) (stk := []) rfl rfl rfl ?_)
            clear hv
            refine g_iload_n h 2 dX6_measured_67 rfl rfl ?_
            refine g_istore_n (lv' := [(1, .int x2), (0, .ref a), (2, .int x2)]) h dX6_measured_68 rfl (hL 1 (fle rfl)) rfl ?_
            refine g_iinc (j := 2) (v := (x2 + 1)) (lv' := [(2, .int (x2 + 1)), (1, .int x2), (0, .ref a)]) h dX6_measured_69 rfl (kinc_1 _) (hL 2 (fle rfl)) rfl ?_
            refine g_goto (tgt := 5) h dX6_measured_72 rfl ?_
            exact G.lsub [2, 1, 0] rfl (ih _ _ _ _ hf k0)
      clear hf
      have hf := hw
      clear hw
      refine g_if_le (tgt := 44) h dX6_measured_28 rfl hf (fun c3 hf => ?_) (fun c3 hf => ?_)
      · obtain rfl := sj1 hf
        exact G.lsub [0, 1, 2] rfl K28
      · refine g_aload_n h 0 dX6_measured_31 rfl rfl ?_
        refine g_iload_n h 2 dX6_measured_32 rfl rfl ?_
        refine g_iconst (v := 1) h dX6_measured_33 kiconst_1 ?_
        refine g_isub h dX6_measured_34 ?_
        obtain ⟨r_7, hv, hf⟩ := ob1 hf
        refine g_callV (ci := 6) (q0 := 0) (n := 1) (As := [.int (x2 - 1)]) (st := []) (wr := [(a_place, .inl (X.E 0, 8, .inl place)), (a_length, .inl (X.E 0, 8, .inl length)), (a_gives, .inl (X.E 0, 8, .inl gives)), (a_over, .inl (X.E 1, 8, .inl (upd over x2.toNatClampNeg 0))), (a_under, .inl (X.E 1, 8, .inl (upd under x2.toNatClampNeg 1)))]) (isC := [0]) (isR := [1, 2, 3, 4, 5]) h hR (ct_X6_isCut (a := a) (a_kind := a_kind) (a_strength := a_strength) (a_place := a_place) (a_length := a_length) (a_gives := a_gives) (a_over := a_over) (a_under := a_under) (a_this0 := a_this0) (x1 := (x2 - 1)) (n := n) (holders := holders) (cuts := cuts) (hour := hour) (bears := bears) (draw := draw) hv) rfl rfl (lw_V q138 q139 q140 q76 q141) (by decide +kernel) rfl ⟨rfl, rfl, rfl, rfl, by decide⟩ ⟨hce, hsl, fle rfl, fle rfl, fle rfl⟩ rfl dX6_measured_35 (pin (perm := [5, 0, 1, 2, 3, 4]) (ws' := [(a, .inr (6, [.ref a_kind, .ref a_strength, .ref a_place, .ref a_length, .ref a_gives, .ref a_over, .ref a_under, .int n, .int holders, .int cuts, .int hour, .int bears, .int draw, .ref a_this0])), (a_place, .inl (X.E 0, 8, .inl place)), (a_length, .inl (X.E 0, 8, .inl length)), (a_gives, .inl (X.E 0, 8, .inl gives)), (a_over, .inl (X.E 1, 8, .inl (upd over x2.toNatClampNeg 0))), (a_under, .inl (X.E 1, 8, .inl (upd under x2.toNatClampNeg 1)))]) (stk := [.int r_7]) rfl rfl rfl ?_)
        clear hv
        refine g_if_eq (tgt := 44) h dX6_measured_38 rfl hf (fun c8 hf => ?_) (fun c8 hf => ?_)
        · obtain rfl := sj1 hf
          exact G.lsub [0, 1, 2] rfl K28
        · refine g_bipush (v := (-4)) h dX6_measured_41 kbipush_m4 ?_
          refine g_istore_n (lv' := [(1, .int (-4)), (0, .ref a), (2, .int x2)]) h dX6_measured_43 rfl (hL 1 (fle rfl)) rfl ?_
          obtain rfl := sj1 hf
          exact G.lsub [1, 0, 2] rfl K28
set_option maxHeartbeats 4000000 in
set_option maxRecDepth 100000 in
theorem ct_X6_measured {l : Launch} {D : va_G} {E : Ety} {a a_kind a_strength a_place a_length a_gives a_over a_under a_this0 : Nat} {n : Int32} {holders : Int32} {cuts : Int32} {hour : Int32} {bears : Int32} {draw : Int32} {place : Nat → Int32} {length : Nat → Int32} {gives : Nat → Int32} {over : Nat → Int32} {under : Nat → Int32} {o_over : Nat → Int32} {o_under : Nat → Int32} (hf : f_X6_measured n holders cuts place length gives over under = some (o_over, o_under)) : Ct l yX6_measured cX6_measured 3 (some (.object "OneElastic$Town")) 1 25 0 0 D E [.ref a] [(a, .inr (6, [.ref a_kind, .ref a_strength, .ref a_place, .ref a_length, .ref a_gives, .ref a_over, .ref a_under, .int n, .int holders, .int cuts, .int hour, .int bears, .int draw, .ref a_this0])), (a_place, .inl (E 0, 8, .inl place)), (a_length, .inl (E 0, 8, .inl length)), (a_gives, .inl (E 0, 8, .inl gives)), (a_over, .inl (E 1, 8, .inl over)), (a_under, .inl (E 1, 8, .inl under))] (Pn (some (.ref a)) [(a, .inr (6, [.ref a_kind, .ref a_strength, .ref a_place, .ref a_length, .ref a_gives, .ref a_over, .ref a_under, .int n, .int holders, .int cuts, .int hour, .int bears, .int draw, .ref a_this0])), (a_place, .inl (E 0, 8, .inl place)), (a_length, .inl (E 0, 8, .inl length)), (a_gives, .inl (E 0, 8, .inl gives)), (a_over, .inl (E 1, 8, .inl o_over)), (a_under, .inl (E 1, 8, .inl o_under))]) := by
  refine ct_of (own := RX6) (plainFor_of_name (by decide)) rfl (fle rfl) rfl ?_
  intro X hl hD hE hnL hXF h hR hF hnm
  subst hl; subst hD; subst hE
  have hL : ∀ i, i < 3 → i < X.nL := fun i hi => by rw [hnL]; exact hi
  unfold f_X6_measured at hf
  refine g_bipush (v := (-4)) h dX6_measured_0 kbipush_m4 ?_
  refine g_istore_n (lv' := [(1, .int (-4)), (0, .ref a)]) h dX6_measured_2 rfl (hL 1 (fle rfl)) rfl ?_
  refine g_iconst (v := 0) h dX6_measured_3 kiconst_0 ?_
  refine g_istore_n (lv' := [(2, .int 0), (1, .int (-4)), (0, .ref a)]) h dX6_measured_4 rfl (hL 2 (fle rfl)) rfl ?_
  refine G.lsub (lv' := [(0, .ref a), (1, .int (-4)), (2, .int 0)]) [2, 1, 0] rfl ?_
  obtain ⟨over_14, under_15, hv, hf⟩ := ob2 hf
  refine w_X6_measured_L5 (n := n) (holders := holders) (cuts := cuts) (hour := hour) (bears := bears) (draw := draw) (place := place) (length := length) (gives := gives) h hR hL (fle rfl) (fle rfl) FU _ _ _ _ hv ?_
  · clear hv
    refine g_aload_n h 0 dX6_measured_75 rfl rfl ?_
    obtain ⟨rfl, rfl⟩ := sj2 hf
    exact g_aret h hF (Or.inl ⟨_, rfl⟩) (Or.inr ⟨_, rfl⟩) [0, 1, 2, 3, 4, 5] rfl rfl ⟨rfl, rfl⟩ (fle rfl) (fle rfl) dX6_measured_76
set_option maxHeartbeats 4000000 in
set_option maxRecDepth 100000 in
theorem w_X0_tears_L7 {X : Cx} {a a_fell a_kept a_keptUndos a_kinds a_read a_sheets a_t1 a_t1_gives a_t1_kind a_t1_length a_t1_over a_t1_place a_t1_strength a_t1_under a_taken a_tape a_town a_tried a_undos : Nat} {falls : Int32} {tears : Int32} {typed : Int32} {place : Int32} {isKept : Int32} {t1_n : Int32} {t1_holders : Int32} {t1_cuts : Int32} {t1_hour : Int32} {t1_bears : Int32} {t1_draw : Int32} {t1_gives : Nat → Int32} {ce sl : Nat} (h : Ok X cX0_tears RX0) (hR : Rm X 1 21 0 0) (hL : ∀ i, i < 5 → i < X.nL) (hce : ce ≤ 0) (hsl : sl ≤ 0) : ∀ (n0 : Nat) (x3 : Int32) (x4 : Int32) {o_x3 : Int32}, f_X0_tears_L7 t1_n t1_holders t1_gives n0 x3 x4 = some o_x3 → (G X [(a, .inr (0, [.ref a_kinds, .ref a_town, .ref a_tried, .ref a_fell, .int falls, .int tears, .ref a_tape, .int typed, .int place, .ref a_read, .ref a_undos, .ref a_kept, .ref a_keptUndos, .int isKept, .ref a_sheets, .ref a_taken])), (a_t1, .inr (6, [.ref a_t1_kind, .ref a_t1_strength, .ref a_t1_place, .ref a_t1_length, .ref a_t1_gives, .ref a_t1_over, .ref a_t1_under, .int t1_n, .int t1_holders, .int t1_cuts, .int t1_hour, .int t1_bears, .int t1_draw, .ref a])), (a_t1_gives, .inl (X.E 0, 8, .inl t1_gives))] [(0, .ref a), (1, .ref a_t1), (3, .int o_x3)] ce sl 52 []) → G X [(a, .inr (0, [.ref a_kinds, .ref a_town, .ref a_tried, .ref a_fell, .int falls, .int tears, .ref a_tape, .int typed, .int place, .ref a_read, .ref a_undos, .ref a_kept, .ref a_keptUndos, .int isKept, .ref a_sheets, .ref a_taken])), (a_t1, .inr (6, [.ref a_t1_kind, .ref a_t1_strength, .ref a_t1_place, .ref a_t1_length, .ref a_t1_gives, .ref a_t1_over, .ref a_t1_under, .int t1_n, .int t1_holders, .int t1_cuts, .int t1_hour, .int t1_bears, .int t1_draw, .ref a])), (a_t1_gives, .inl (X.E 0, 8, .inl t1_gives))] [(0, .ref a), (1, .ref a_t1), (3, .int x3), (4, .int x4)] ce sl 7 [] := by
  intro n0
  induction n0 with
  | zero => intro x3 x4 o_x3 hf; exact nomatch (show (none : Option _) = some _ from hf)
  | succ n0 ih =>
    intro x3 x4 o_x3 hf k0
    replace hf : t_X0_tears_L7 t1_n t1_holders t1_gives (f_X0_tears_L7 t1_n t1_holders t1_gives n0) x3 x4 = some o_x3 := hf
    unfold t_X0_tears_L7 at hf
    refine g_iload h 3 dX0_tears_7 rfl ?_
    refine g_aload_n h 1 dX0_tears_9 rfl rfl ?_
    refine g_getN (ci := 6) (v := .int t1_n) h in_X6 1 7 rfl rfl (fle rfl) rfl q564 rfl dX0_tears_10 ?_
    refine g_iconst (v := 1) h dX0_tears_13 kiconst_1 ?_
    refine g_isub h dX0_tears_14 ?_
    refine g_icmp_ge (tgt := 52) h dX0_tears_15 rfl hf (fun c1 hf => ?_) (fun c1 hf => ?_)
    · obtain rfl := sj1 hf
      exact G.lsub [0, 1, 2] rfl k0
    · refine g_aload_n h 1 dX0_tears_18 rfl rfl ?_
      refine g_iload h 3 dX0_tears_19 rfl ?_
      obtain ⟨r_2, hv, hf⟩ := ob1 hf
      refine g_callV (ci := 6) (q0 := 1) (n := 1) (As := [.int x4]) (st := []) (wr := [(a, .inr (0, [.ref a_kinds, .ref a_town, .ref a_tried, .ref a_fell, .int falls, .int tears, .ref a_tape, .int typed, .int place, .ref a_read, .ref a_undos, .ref a_kept, .ref a_keptUndos, .int isKept, .ref a_sheets, .ref a_taken])), (a_t1_gives, .inl (X.E 0, 8, .inl t1_gives))]) (isC := [1]) (isR := [0, 2]) h hR (ct_X6_holds (a := a_t1) (a_kind := a_t1_kind) (a_strength := a_t1_strength) (a_place := a_t1_place) (a_length := a_t1_length) (a_gives := a_t1_gives) (a_over := a_t1_over) (a_under := a_t1_under) (a_this0 := a) (x1 := x4) (n := t1_n) (holders := t1_holders) (cuts := t1_cuts) (hour := t1_hour) (bears := t1_bears) (draw := t1_draw) hv) rfl rfl (lw_V q155 q143 q144 q76 q145) (by decide +kernel) rfl ⟨rfl, rfl, rfl, rfl, by decide⟩ ⟨hce, hsl, fle rfl, fle rfl, fle rfl⟩ rfl dX0_tears_21 (pin (perm := [0, 2, 1]) (ws' := [(a, .inr (0, [.ref a_kinds, .ref a_town, .ref a_tried, .ref a_fell, .int falls, .int tears, .ref a_tape, .int typed, .int place, .ref a_read, .ref a_undos, .ref a_kept, .ref a_keptUndos, .int isKept, .ref a_sheets, .ref a_taken])), (a_t1, .inr (6, [.ref a_t1_kind, .ref a_t1_strength, .ref a_t1_place, .ref a_t1_length, .ref a_t1_gives, .ref a_t1_over, .ref a_t1_under, .int t1_n, .int t1_holders, .int t1_cuts, .int t1_hour, .int t1_bears, .int t1_draw, .ref a])), (a_t1_gives, .inl (X.E 0, 8, .inl t1_gives))]) (stk := [.int r_2]) rfl rfl rfl ?_)
      clear hv
      refine g_if_ne (tgt := 52) h dX0_tears_24 rfl hf (fun c3 hf => ?_) (fun c3 hf => ?_)
      · refine g_aload_n h 1 dX0_tears_27 rfl rfl ?_
        refine g_getN (ci := 6) (v := .ref a_t1_gives) h in_X6 1 4 rfl rfl (fle rfl) rfl q558 rfl dX0_tears_28 ?_
        refine g_iload h 3 dX0_tears_31 rfl ?_
        obtain ⟨g4, hf⟩ := gn hf
        refine g_baload h 2 rfl g4 dX0_tears_33 ?_
        refine g_aload_n h 1 dX0_tears_34 rfl rfl ?_
        refine g_getN (ci := 6) (v := .ref a_t1_gives) h in_X6 1 4 rfl rfl (fle rfl) rfl q558 rfl dX0_tears_35 ?_
        refine g_iload_n h 2 dX0_tears_38 rfl rfl ?_
        obtain ⟨g5, hf⟩ := gn hf
        refine g_baload h 2 rfl g5 dX0_tears_39 ?_
        refine g_icmp_le (tgt := 46) h dX0_tears_40 rfl hf (fun c6 hf => ?_) (fun c6 hf => ?_)
        · refine g_iinc (j := 3) (v := (x4 + 1)) (lv' := [(4, .int (x4 + 1)), (0, .ref a), (1, .ref a_t1), (3, .int x3)]) h dX0_tears_46 rfl (kinc_1 _) (hL 4 (fle rfl)) rfl ?_
          refine g_goto (tgt := 7) h dX0_tears_49 rfl ?_
          exact G.lsub [1, 2, 3, 0] rfl (ih _ _ hf k0)
        · refine g_iload h 3 dX0_tears_43 rfl ?_
          refine g_istore_n (lv' := [(3, .int x4), (0, .ref a), (1, .ref a_t1), (4, .int x4)]) h dX0_tears_45 rfl (hL 3 (fle rfl)) rfl ?_
          refine g_iinc (j := 3) (v := (x4 + 1)) (lv' := [(4, .int (x4 + 1)), (3, .int x4), (0, .ref a), (1, .ref a_t1)]) h dX0_tears_46 rfl (kinc_1 _) (hL 4 (fle rfl)) rfl ?_
          refine g_goto (tgt := 7) h dX0_tears_49 rfl ?_
          exact G.lsub [2, 3, 1, 0] rfl (ih _ _ hf k0)
      · obtain rfl := sj1 hf
        exact G.lsub [0, 1, 2] rfl k0
set_option maxHeartbeats 4000000 in
set_option maxRecDepth 100000 in
theorem ct_X0_tears {l : Launch} {D : va_G} {E : Ety} {a a_t1 a_kinds a_town a_tried a_fell a_tape a_read a_undos a_kept a_keptUndos a_sheets a_taken a_t1_kind a_t1_strength a_t1_place a_t1_length a_t1_gives a_t1_over a_t1_under : Nat} {x2 : Int32} {falls : Int32} {tears : Int32} {typed : Int32} {place : Int32} {isKept : Int32} {t1_n : Int32} {t1_holders : Int32} {t1_cuts : Int32} {t1_hour : Int32} {t1_bears : Int32} {t1_draw : Int32} {t1_gives : Nat → Int32} {o_tears : Int32} {o_t1_cuts : Int32} (hf : f_X0_tears x2 tears t1_n t1_holders t1_cuts t1_gives = some (o_tears, o_t1_cuts)) : Ct l yX0_tears cX0_tears 5 none 1 21 0 0 D E [.ref a, .ref a_t1, .int x2] [(a, .inr (0, [.ref a_kinds, .ref a_town, .ref a_tried, .ref a_fell, .int falls, .int tears, .ref a_tape, .int typed, .int place, .ref a_read, .ref a_undos, .ref a_kept, .ref a_keptUndos, .int isKept, .ref a_sheets, .ref a_taken])), (a_t1, .inr (6, [.ref a_t1_kind, .ref a_t1_strength, .ref a_t1_place, .ref a_t1_length, .ref a_t1_gives, .ref a_t1_over, .ref a_t1_under, .int t1_n, .int t1_holders, .int t1_cuts, .int t1_hour, .int t1_bears, .int t1_draw, .ref a])), (a_t1_gives, .inl (E 0, 8, .inl t1_gives))] (Pn none [(a, .inr (0, [.ref a_kinds, .ref a_town, .ref a_tried, .ref a_fell, .int falls, .int o_tears, .ref a_tape, .int typed, .int place, .ref a_read, .ref a_undos, .ref a_kept, .ref a_keptUndos, .int isKept, .ref a_sheets, .ref a_taken])), (a_t1, .inr (6, [.ref a_t1_kind, .ref a_t1_strength, .ref a_t1_place, .ref a_t1_length, .ref a_t1_gives, .ref a_t1_over, .ref a_t1_under, .int t1_n, .int t1_holders, .int o_t1_cuts, .int t1_hour, .int t1_bears, .int t1_draw, .ref a])), (a_t1_gives, .inl (E 0, 8, .inl t1_gives))]) := by
  refine ct_of (own := RX0) (plainFor_of_name (by decide)) rfl (fle rfl) rfl ?_
  intro X hl hD hE hnL hXF h hR hF hnm
  subst hl; subst hD; subst hE
  have hL : ∀ i, i < 5 → i < X.nL := fun i hi => by rw [hnL]; exact hi
  unfold f_X0_tears at hf
  refine g_iload_n h 2 dX0_tears_0 rfl rfl ?_
  refine g_istore_n (lv' := [(3, .int x2), (0, .ref a), (1, .ref a_t1), (2, .int x2)]) h dX0_tears_1 rfl (hL 3 (fle rfl)) rfl ?_
  refine g_iload_n h 3 dX0_tears_2 rfl rfl ?_
  refine g_iconst (v := 1) h dX0_tears_3 kiconst_1 ?_
  refine g_iadd h dX0_tears_4 ?_
  refine g_istore (lv' := [(4, .int (x2 + 1)), (3, .int x2), (0, .ref a), (1, .ref a_t1), (2, .int x2)]) h dX0_tears_5 (hL 4 (fle rfl)) rfl ?_
  refine G.lsub (lv' := [(0, .ref a), (1, .ref a_t1), (3, .int x2), (4, .int (x2 + 1))]) [2, 3, 1, 0] rfl ?_
  obtain ⟨x3_7, hv, hf⟩ := ob1 hf
  refine w_X0_tears_L7 (falls := falls) (tears := tears) (typed := typed) (place := place) (isKept := isKept) (t1_n := t1_n) (t1_holders := t1_holders) (t1_cuts := t1_cuts) (t1_hour := t1_hour) (t1_bears := t1_bears) (t1_draw := t1_draw) (t1_gives := t1_gives) h hR hL (fle rfl) (fle rfl) FU _ _ hv ?_
  · clear hv
    refine g_aload_n h 1 dX0_tears_52 rfl rfl ?_
    refine g_dup h dX0_tears_53 rfl ?_
    refine g_getN (ci := 6) (v := .int t1_cuts) h in_X6 1 9 rfl rfl (fle rfl) rfl q568 rfl dX0_tears_54 ?_
    refine g_iconst (v := 1) h dX0_tears_57 kiconst_1 ?_
    refine g_iload_n h 2 dX0_tears_58 rfl rfl ?_
    refine g_ishl h dX0_tears_59 ?_
    refine g_ior h dX0_tears_60 ?_
    refine g_putN (ci := 6) (ty := tyX6 9) (ws' := [(a, .inr (0, [.ref a_kinds, .ref a_town, .ref a_tried, .ref a_fell, .int falls, .int tears, .ref a_tape, .int typed, .int place, .ref a_read, .ref a_undos, .ref a_kept, .ref a_keptUndos, .int isKept, .ref a_sheets, .ref a_taken])), (a_t1, .inr (6, [.ref a_t1_kind, .ref a_t1_strength, .ref a_t1_place, .ref a_t1_length, .ref a_t1_gives, .ref a_t1_over, .ref a_t1_under, .int t1_n, .int t1_holders, .int (t1_cuts ||| (1 <<< (x3_7 &&& 31))), .int t1_hour, .int t1_bears, .int t1_draw, .ref a])), (a_t1_gives, .inl (X.E 0, 8, .inl t1_gives))]) h in_X6 tyX6 tyX6_ok nmX6 1 9 rfl rfl (fle rfl) ⟨rfl, rfl⟩ q568 rfl rfl rfl (fle rfl) rfl dX0_tears_61 ?_
    refine g_aload_n h 0 dX0_tears_64 rfl rfl ?_
    refine g_dup h dX0_tears_65 rfl ?_
    refine g_get (ci := 0) (v := .int tears) h in_X0 0 5 rfl rfl (fle rfl) rfl q1116 rfl dX0_tears_66 ?_
    refine g_iconst (v := 1) h dX0_tears_69 kiconst_1 ?_
    refine g_iadd h dX0_tears_70 ?_
    refine g_put (ci := 0) (ty := tyX0 5) (ws' := [(a, .inr (0, [.ref a_kinds, .ref a_town, .ref a_tried, .ref a_fell, .int falls, .int (tears + 1), .ref a_tape, .int typed, .int place, .ref a_read, .ref a_undos, .ref a_kept, .ref a_keptUndos, .int isKept, .ref a_sheets, .ref a_taken])), (a_t1, .inr (6, [.ref a_t1_kind, .ref a_t1_strength, .ref a_t1_place, .ref a_t1_length, .ref a_t1_gives, .ref a_t1_over, .ref a_t1_under, .int t1_n, .int t1_holders, .int (t1_cuts ||| (1 <<< (x3_7 &&& 31))), .int t1_hour, .int t1_bears, .int t1_draw, .ref a])), (a_t1_gives, .inl (X.E 0, 8, .inl t1_gives))]) h in_X0 tyX0 tyX0_ok nmX0 0 5 rfl rfl (fle rfl) ⟨rfl, rfl⟩ q1116 rfl rfl rfl (fle rfl) rfl dX0_tears_71 ?_
    obtain ⟨rfl, rfl⟩ := sj2 hf
    exact g_vret h hF [0, 1, 2] rfl rfl ⟨rfl, rfl⟩ (fle rfl) (fle rfl) dX0_tears_74
set_option maxHeartbeats 4000000 in
set_option maxRecDepth 100000 in
theorem ct_X6_belowRight {l : Launch} {D : va_G} {E : Ety} {a a_kind a_strength a_place a_length a_gives a_over a_under a_this0 : Nat} {x1 : Int32} {n : Int32} {holders : Int32} {cuts : Int32} {hour : Int32} {bears : Int32} {draw : Int32} {under : Nat → Int32} {r_ : Int32} (hf : f_X6_belowRight x1 n under = some r_) : Ct l yX6_belowRight cX6_belowRight 2 (some .int) 0 0 0 0 D E [.ref a, .int x1] [(a, .inr (6, [.ref a_kind, .ref a_strength, .ref a_place, .ref a_length, .ref a_gives, .ref a_over, .ref a_under, .int n, .int holders, .int cuts, .int hour, .int bears, .int draw, .ref a_this0])), (a_under, .inl (E 1, 8, .inl under))] (Pn (some (.int r_)) [(a, .inr (6, [.ref a_kind, .ref a_strength, .ref a_place, .ref a_length, .ref a_gives, .ref a_over, .ref a_under, .int n, .int holders, .int cuts, .int hour, .int bears, .int draw, .ref a_this0])), (a_under, .inl (E 1, 8, .inl under))]) := by
  refine ct_of (own := RX6) (plainFor_of_name (by decide)) rfl (fle rfl) rfl ?_
  intro X hl hD hE hnL hXF h hR hF hnm
  subst hl; subst hD; subst hE
  have hL : ∀ i, i < 2 → i < X.nL := fun i hi => by rw [hnL]; exact hi
  unfold f_X6_belowRight at hf
  refine g_iload_n h 1 dX6_belowRight_0 rfl rfl ?_
  refine g_aload_n h 0 dX6_belowRight_1 rfl rfl ?_
  refine g_get (ci := 6) (v := .int n) h in_X6 0 7 rfl rfl (fle rfl) rfl q563 rfl dX6_belowRight_2 ?_
  refine g_iconst (v := 1) h dX6_belowRight_5 kiconst_1 ?_
  refine g_isub h dX6_belowRight_6 ?_
  refine g_icmp_ge (tgt := 19) h dX6_belowRight_7 rfl hf (fun c1 hf => ?_) (fun c1 hf => ?_)
  · refine g_iconst (v := 1) h dX6_belowRight_19 kiconst_1 ?_
    obtain rfl := sj1 hf
    exact g_iret h hF [0, 1] rfl rfl ⟨rfl, rfl⟩ (fle rfl) (fle rfl) dX6_belowRight_20
  · refine g_aload_n h 0 dX6_belowRight_10 rfl rfl ?_
    refine g_get (ci := 6) (v := .ref a_under) h in_X6 0 6 rfl rfl (fle rfl) rfl q561 rfl dX6_belowRight_11 ?_
    refine g_iload_n h 1 dX6_belowRight_14 rfl rfl ?_
    obtain ⟨g2, hf⟩ := gn hf
    refine g_iaload h 1 rfl g2 dX6_belowRight_15 ?_
    refine g_goto (tgt := 20) h dX6_belowRight_16 rfl ?_
    obtain rfl := sj1 hf
    exact g_iret h hF [0, 1] rfl rfl ⟨rfl, rfl⟩ (fle rfl) (fle rfl) dX6_belowRight_20
set_option maxHeartbeats 4000000 in
set_option maxRecDepth 100000 in
theorem ct_X6_pulledBy {l : Launch} {D : va_G} {E : Ety} {a a_kind a_strength a_place a_length a_gives a_over a_under a_this0 : Nat} {x1 : Int32} {n : Int32} {holders : Int32} {cuts : Int32} {hour : Int32} {bears : Int32} {draw : Int32} {over : Nat → Int32} {under : Nat → Int32} {r_ : Int64} (hf : f_X6_pulledBy x1 n holders over under = some r_) : Ct l yX6_pulledBy cX6_pulledBy 4 (some .long) 1 21 0 0 D E [.ref a, .int x1] [(a, .inr (6, [.ref a_kind, .ref a_strength, .ref a_place, .ref a_length, .ref a_gives, .ref a_over, .ref a_under, .int n, .int holders, .int cuts, .int hour, .int bears, .int draw, .ref a_this0])), (a_over, .inl (E 1, 8, .inl over)), (a_under, .inl (E 1, 8, .inl under))] (Pn (some (.long r_)) [(a, .inr (6, [.ref a_kind, .ref a_strength, .ref a_place, .ref a_length, .ref a_gives, .ref a_over, .ref a_under, .int n, .int holders, .int cuts, .int hour, .int bears, .int draw, .ref a_this0])), (a_over, .inl (E 1, 8, .inl over)), (a_under, .inl (E 1, 8, .inl under))]) := by
  refine ct_of (own := RX6) (plainFor_of_name (by decide)) rfl (fle rfl) rfl ?_
  intro X hl hD hE hnL hXF h hR hF hnm
  subst hl; subst hD; subst hE
  have hL : ∀ i, i < 4 → i < X.nL := fun i hi => by rw [hnL]; exact hi
  unfold f_X6_pulledBy at hf
  refine g_aload_n h 0 dX6_pulledBy_0 rfl rfl ?_
  refine g_iload_n h 1 dX6_pulledBy_1 rfl rfl ?_
  obtain ⟨r_1, hv, hf⟩ := ob1 hf
  refine g_callV (ci := 6) (q0 := 0) (n := 1) (As := [.int x1]) (st := []) (wr := [(a_over, .inl (X.E 1, 8, .inl over)), (a_under, .inl (X.E 1, 8, .inl under))]) (isC := [0]) (isR := [1, 2]) h hR (ct_X6_holds (a := a) (a_kind := a_kind) (a_strength := a_strength) (a_place := a_place) (a_length := a_length) (a_gives := a_gives) (a_over := a_over) (a_under := a_under) (a_this0 := a_this0) (x1 := x1) (n := n) (holders := holders) (cuts := cuts) (hour := hour) (bears := bears) (draw := draw) hv) rfl rfl (lw_V q142 q143 q144 q76 q145) (by decide +kernel) rfl ⟨rfl, rfl, rfl, rfl, by decide⟩ ⟨fle rfl, fle rfl, fle rfl, fle rfl, fle rfl⟩ rfl dX6_pulledBy_2 (pin (perm := [2, 0, 1]) (ws' := [(a, .inr (6, [.ref a_kind, .ref a_strength, .ref a_place, .ref a_length, .ref a_gives, .ref a_over, .ref a_under, .int n, .int holders, .int cuts, .int hour, .int bears, .int draw, .ref a_this0])), (a_over, .inl (X.E 1, 8, .inl over)), (a_under, .inl (X.E 1, 8, .inl under))]) (stk := [.int r_1]) rfl rfl rfl ?_)
  clear hv
  refine g_if_ne (tgt := 10) h dX6_pulledBy_5 rfl hf (fun c2 hf => ?_) (fun c2 hf => ?_)
  · refine g_lconst (v := 0) h dX6_pulledBy_8 rfl ?_
    obtain rfl := sj1 hf
    exact g_lret h hF [0, 1, 2] rfl rfl ⟨rfl, rfl⟩ (fle rfl) (fle rfl) dX6_pulledBy_9
  · refine g_iload_n h 1 dX6_pulledBy_10 rfl rfl ?_
    refine g_aload_n h 0 dX6_pulledBy_11 rfl rfl ?_
    refine g_get (ci := 6) (v := .int n) h in_X6 0 7 rfl rfl (fle rfl) rfl q563 rfl dX6_pulledBy_12 ?_
    refine g_iconst (v := 1) h dX6_pulledBy_15 kiconst_1 ?_
    refine g_isub h dX6_pulledBy_16 ?_
    obtain ⟨z_5, hw, hf⟩ := ob1 hf
    have K17 : G X [(a, .inr (6, [.ref a_kind, .ref a_strength, .ref a_place, .ref a_length, .ref a_gives, .ref a_over, .ref a_under, .int n, .int holders, .int cuts, .int hour, .int bears, .int draw, .ref a_this0])), (a_over, .inl (X.E 1, 8, .inl over)), (a_under, .inl (X.E 1, 8, .inl under))] [(0, .ref a), (1, .int x1)] 0 0 31 [.long z_5] := by
      clear hw
      refine g_lstore_n (lv' := [(2, .long z_5), (0, .ref a), (1, .int x1)]) h dX6_pulledBy_31 rfl (hL 3 (fle rfl)) rfl ?_
      refine g_iload_n h 2 dX6_pulledBy_32 rfl rfl ?_
      refine g_if_ne (tgt := 40) h dX6_pulledBy_33 rfl hf (fun c7 hf => ?_) (fun c7 hf => ?_)
      · refine g_lload_n h 0 dX6_pulledBy_36 rfl rfl ?_
        refine g_goto (tgt := 68) h dX6_pulledBy_37 rfl ?_
        obtain rfl := sj1 hf
        exact g_lret h hF [0, 1, 2] rfl rfl ⟨rfl, rfl⟩ (fle rfl) (fle rfl) dX6_pulledBy_68
      · refine g_lload_n h 0 dX6_pulledBy_40 rfl rfl ?_
        refine g_aload_n h 1 dX6_pulledBy_41 rfl rfl ?_
        refine g_get (ci := 6) (v := .ref a_under) h in_X6 0 6 rfl rfl (fle rfl) rfl q561 rfl dX6_pulledBy_42 ?_
        refine g_iload_n h 2 dX6_pulledBy_45 rfl rfl ?_
        refine g_iconst (v := 1) h dX6_pulledBy_46 kiconst_1 ?_
        refine g_isub h dX6_pulledBy_47 ?_
        obtain ⟨g8, hf⟩ := gn hf
        refine g_iaload h 2 rfl g8 dX6_pulledBy_48 ?_
        refine g_i2l h dX6_pulledBy_49 ?_
        refine g_lmul h dX6_pulledBy_50 ?_
        refine g_aload_n h 1 dX6_pulledBy_51 rfl rfl ?_
        refine g_get (ci := 6) (v := .ref a_over) h in_X6 0 5 rfl rfl (fle rfl) rfl q559 rfl dX6_pulledBy_52 ?_
        refine g_iload_n h 2 dX6_pulledBy_55 rfl rfl ?_
        refine g_iconst (v := 1) h dX6_pulledBy_56 kiconst_1 ?_
        refine g_isub h dX6_pulledBy_57 ?_
        refine g_iaload h 1 rfl g8 dX6_pulledBy_58 ?_
        refine g_i2l h dX6_pulledBy_59 ?_
        refine g_aload_n h 1 dX6_pulledBy_60 rfl rfl ?_
        refine g_iload_n h 2 dX6_pulledBy_61 rfl rfl ?_
        obtain ⟨r_9, hv, hf⟩ := ob1 hf
        refine g_callV (ci := 6) (q0 := 0) (n := 1) (As := [.int x1]) (st := [.long ((over (x1 - 1).toNatClampNeg).toInt64), .long (z_5 * (under (x1 - 1).toNatClampNeg).toInt64)]) (wr := [(a_over, .inl (X.E 1, 8, .inl over))]) (isC := [0, 2]) (isR := [1]) h hR (ct_X6_belowRight (a := a) (a_kind := a_kind) (a_strength := a_strength) (a_place := a_place) (a_length := a_length) (a_gives := a_gives) (a_over := a_over) (a_under := a_under) (a_this0 := a_this0) (x1 := x1) (n := n) (holders := holders) (cuts := cuts) (hour := hour) (bears := bears) (draw := draw) (under := under) hv) rfl rfl (lw_V q160 q162 qs4 q76 q163) (by decide +kernel) rfl ⟨rfl, rfl, rfl, rfl, by decide⟩ ⟨fle rfl, fle rfl, fle rfl, fle rfl, fle rfl⟩ rfl dX6_pulledBy_62 (pin (perm := [1, 0, 2]) (ws' := [(a, .inr (6, [.ref a_kind, .ref a_strength, .ref a_place, .ref a_length, .ref a_gives, .ref a_over, .ref a_under, .int n, .int holders, .int cuts, .int hour, .int bears, .int draw, .ref a_this0])), (a_over, .inl (X.E 1, 8, .inl over)), (a_under, .inl (X.E 1, 8, .inl under))]) (stk := [.int r_9, .long ((over (x1 - 1).toNatClampNeg).toInt64), .long (z_5 * (under (x1 - 1).toNatClampNeg).toInt64)]) rfl rfl rfl ?_)
        clear hv
        refine g_i2l h dX6_pulledBy_65 ?_
        refine g_lmul h dX6_pulledBy_66 ?_
        refine g_lsub h dX6_pulledBy_67 ?_
        obtain rfl := sj1 hf
        exact g_lret h hF [0, 1, 2] rfl rfl ⟨rfl, rfl⟩ (fle rfl) (fle rfl) dX6_pulledBy_68
    clear hf
    have hf := hw
    clear hw
    refine g_icmp_ge (tgt := 30) h dX6_pulledBy_17 rfl hf (fun c3 hf => ?_) (fun c3 hf => ?_)
    · refine g_lconst (v := 0) h dX6_pulledBy_30 rfl ?_
      obtain rfl := sj1 hf
      exact G.lsub [0, 1] rfl K17
    · refine g_aload_n h 0 dX6_pulledBy_20 rfl rfl ?_
      refine g_get (ci := 6) (v := .ref a_over) h in_X6 0 5 rfl rfl (fle rfl) rfl q559 rfl dX6_pulledBy_21 ?_
      refine g_iload_n h 1 dX6_pulledBy_24 rfl rfl ?_
      obtain ⟨g6, hf⟩ := gn hf
      refine g_iaload h 1 rfl g6 dX6_pulledBy_25 ?_
      refine g_i2l h dX6_pulledBy_26 ?_
      refine g_goto (tgt := 31) h dX6_pulledBy_27 rfl ?_
      obtain rfl := sj1 hf
      exact G.lsub [0, 1] rfl K17
set_option maxHeartbeats 4000000 in
set_option maxRecDepth 100000 in
theorem ct_X6_holdsOut {l : Launch} {D : va_G} {E : Ety} {a a_kind a_strength a_place a_length a_gives a_over a_under a_this0 a_this0_kinds a_this0_town a_this0_tried a_this0_fell a_this0_tape a_this0_read a_this0_undos a_this0_kept a_this0_keptUndos a_this0_sheets a_this0_taken a_this0_kinds_0 a_this0_kinds_1 a_this0_kinds_2 a_this0_kinds_3 a_this0_kinds_4 : Nat} {x1 : Int32} {n : Int32} {holders : Int32} {cuts : Int32} {hour : Int32} {bears : Int32} {draw : Int32} {kind : Nat → Int32} {strength : Nat → Int32} {this0_falls : Int32} {this0_tears : Int32} {this0_typed : Int32} {this0_place : Int32} {this0_isKept : Int32} {r_ : Int32} (hf : f_X6_holdsOut x1 n holders hour kind strength = some r_) : Ct l yX6_holdsOut cX6_holdsOut 3 (some .int) 4 94 0 0 D E [.ref a, .int x1] [(a, .inr (6, [.ref a_kind, .ref a_strength, .ref a_place, .ref a_length, .ref a_gives, .ref a_over, .ref a_under, .int n, .int holders, .int cuts, .int hour, .int bears, .int draw, .ref a_this0])), (a_kind, .inl (E 0, 8, .inl kind)), (a_strength, .inl (E 0, 8, .inl strength)), (a_this0, .inr (0, [.ref a_this0_kinds, .ref a_this0_town, .ref a_this0_tried, .ref a_this0_fell, .int this0_falls, .int this0_tears, .ref a_this0_tape, .int this0_typed, .int this0_place, .ref a_this0_read, .ref a_this0_undos, .ref a_this0_kept, .ref a_this0_keptUndos, .int this0_isKept, .ref a_this0_sheets, .ref a_this0_taken])), (a_this0_kinds, .inl (E 5, 5, .inr (.inr (.inr (.inr (kq a_this0_kinds_0 a_this0_kinds_1 a_this0_kinds_2 a_this0_kinds_3 a_this0_kinds_4)))))), (a_this0_kinds_0, .inr (1, [])), (a_this0_kinds_1, .inr (2, [])), (a_this0_kinds_2, .inr (3, [])), (a_this0_kinds_3, .inr (4, [])), (a_this0_kinds_4, .inr (5, []))] (Pn (some (.int r_)) [(a, .inr (6, [.ref a_kind, .ref a_strength, .ref a_place, .ref a_length, .ref a_gives, .ref a_over, .ref a_under, .int n, .int holders, .int cuts, .int hour, .int bears, .int draw, .ref a_this0])), (a_kind, .inl (E 0, 8, .inl kind)), (a_strength, .inl (E 0, 8, .inl strength)), (a_this0, .inr (0, [.ref a_this0_kinds, .ref a_this0_town, .ref a_this0_tried, .ref a_this0_fell, .int this0_falls, .int this0_tears, .ref a_this0_tape, .int this0_typed, .int this0_place, .ref a_this0_read, .ref a_this0_undos, .ref a_this0_kept, .ref a_this0_keptUndos, .int this0_isKept, .ref a_this0_sheets, .ref a_this0_taken])), (a_this0_kinds, .inl (E 5, 5, .inr (.inr (.inr (.inr (kq a_this0_kinds_0 a_this0_kinds_1 a_this0_kinds_2 a_this0_kinds_3 a_this0_kinds_4)))))), (a_this0_kinds_0, .inr (1, [])), (a_this0_kinds_1, .inr (2, [])), (a_this0_kinds_2, .inr (3, [])), (a_this0_kinds_3, .inr (4, [])), (a_this0_kinds_4, .inr (5, []))]) := by
  refine ct_of (own := RX6) (plainFor_of_name (by decide)) rfl (fle rfl) rfl ?_
  intro X hl hD hE hnL hXF h hR hF hnm
  subst hl; subst hD; subst hE
  have hL : ∀ i, i < 3 → i < X.nL := fun i hi => by rw [hnL]; exact hi
  unfold f_X6_holdsOut at hf
  refine g_iconst (v := 0) h dX6_holdsOut_0 kiconst_0 ?_
  refine g_istore_n (lv' := [(2, .int 0), (0, .ref a), (1, .int x1)]) h dX6_holdsOut_1 rfl (hL 2 (fle rfl)) rfl ?_
  refine g_iload_n h 2 dX6_holdsOut_2 rfl rfl ?_
  obtain ⟨x2_4, hw, hf⟩ := ob1 hf
  have K3 : G X [(a, .inr (6, [.ref a_kind, .ref a_strength, .ref a_place, .ref a_length, .ref a_gives, .ref a_over, .ref a_under, .int n, .int holders, .int cuts, .int hour, .int bears, .int draw, .ref a_this0])), (a_kind, .inl (X.E 0, 8, .inl kind)), (a_strength, .inl (X.E 0, 8, .inl strength)), (a_this0, .inr (0, [.ref a_this0_kinds, .ref a_this0_town, .ref a_this0_tried, .ref a_this0_fell, .int this0_falls, .int this0_tears, .ref a_this0_tape, .int this0_typed, .int this0_place, .ref a_this0_read, .ref a_this0_undos, .ref a_this0_kept, .ref a_this0_keptUndos, .int this0_isKept, .ref a_this0_sheets, .ref a_this0_taken])), (a_this0_kinds, .inl (X.E 5, 5, .inr (.inr (.inr (.inr (kq a_this0_kinds_0 a_this0_kinds_1 a_this0_kinds_2 a_this0_kinds_3 a_this0_kinds_4)))))), (a_this0_kinds_0, .inr (1, [])), (a_this0_kinds_1, .inr (2, [])), (a_this0_kinds_2, .inr (3, [])), (a_this0_kinds_3, .inr (4, [])), (a_this0_kinds_4, .inr (5, []))] [(0, .ref a), (1, .int x1), (2, .int x2_4)] 0 0 19 [] := by
    clear hw
    refine g_iload_n h 1 dX6_holdsOut_19 rfl rfl ?_
    refine g_aload_n h 0 dX6_holdsOut_20 rfl rfl ?_
    refine g_get (ci := 6) (v := .int n) h in_X6 0 7 rfl rfl (fle rfl) rfl q563 rfl dX6_holdsOut_21 ?_
    refine g_iconst (v := 1) h dX6_holdsOut_24 kiconst_1 ?_
    refine g_isub h dX6_holdsOut_25 ?_
    obtain ⟨x2_10, hw, hf⟩ := ob1 hf
    have K26 : G X [(a, .inr (6, [.ref a_kind, .ref a_strength, .ref a_place, .ref a_length, .ref a_gives, .ref a_over, .ref a_under, .int n, .int holders, .int cuts, .int hour, .int bears, .int draw, .ref a_this0])), (a_kind, .inl (X.E 0, 8, .inl kind)), (a_strength, .inl (X.E 0, 8, .inl strength)), (a_this0, .inr (0, [.ref a_this0_kinds, .ref a_this0_town, .ref a_this0_tried, .ref a_this0_fell, .int this0_falls, .int this0_tears, .ref a_this0_tape, .int this0_typed, .int this0_place, .ref a_this0_read, .ref a_this0_undos, .ref a_this0_kept, .ref a_this0_keptUndos, .int this0_isKept, .ref a_this0_sheets, .ref a_this0_taken])), (a_this0_kinds, .inl (X.E 5, 5, .inr (.inr (.inr (.inr (kq a_this0_kinds_0 a_this0_kinds_1 a_this0_kinds_2 a_this0_kinds_3 a_this0_kinds_4)))))), (a_this0_kinds_0, .inr (1, [])), (a_this0_kinds_1, .inr (2, [])), (a_this0_kinds_2, .inr (3, [])), (a_this0_kinds_3, .inr (4, [])), (a_this0_kinds_4, .inr (5, []))] [(0, .ref a), (1, .int x1), (2, .int x2_10)] 0 0 42 [] := by
      clear hw
      refine g_aload_n h 0 dX6_holdsOut_42 rfl rfl ?_
      refine g_get (ci := 6) (v := .ref a_this0) h in_X6 0 13 rfl rfl (fle rfl) rfl q575 rfl dX6_holdsOut_43 ?_
      refine g_getN (ci := 0) (v := .ref a_this0_kinds) h in_X0 3 0 rfl rfl (fle rfl) rfl q1110 rfl dX6_holdsOut_46 ?_
      refine g_aload_n h 0 dX6_holdsOut_49 rfl rfl ?_
      refine g_get (ci := 6) (v := .ref a_kind) h in_X6 0 0 rfl rfl (fle rfl) rfl q549 rfl dX6_holdsOut_50 ?_
      refine g_iload_n h 1 dX6_holdsOut_53 rfl rfl ?_
      obtain ⟨g13, hf⟩ := gn hf
      refine g_baload h 1 rfl g13 dX6_holdsOut_54 ?_
      refine hf_if hf (fun c14 hf => ?_) (fun c14 hf => ?_)
      · refine g_aaK (c := 0) (p := a_this0_kinds_0) h 4 rfl c14 (by decide) rfl dX6_holdsOut_55 ?_
        refine g_aload_n h 0 dX6_holdsOut_56 rfl rfl ?_
        refine g_get (ci := 6) (v := .ref a_strength) h in_X6 0 1 rfl rfl (fle rfl) rfl q551 rfl dX6_holdsOut_57 ?_
        refine g_iload_n h 1 dX6_holdsOut_60 rfl rfl ?_
        refine g_baload h 2 rfl g13 dX6_holdsOut_61 ?_
        refine g_aload_n h 0 dX6_holdsOut_62 rfl rfl ?_
        refine g_get (ci := 6) (v := .int hour) h in_X6 0 10 rfl rfl (fle rfl) rfl q569 rfl dX6_holdsOut_63 ?_
        refine g_iload_n h 2 dX6_holdsOut_66 rfl rfl ?_
        obtain ⟨r_15, hv, hf⟩ := ob1 hf
        refine g_callF (ci := 1) (q0 := 5) (n := 3) (As := [.int (strength x1.toNatClampNeg), .int hour, .int x2_10]) (st := []) (wr := [(a, .inr (6, [.ref a_kind, .ref a_strength, .ref a_place, .ref a_length, .ref a_gives, .ref a_over, .ref a_under, .int n, .int holders, .int cuts, .int hour, .int bears, .int draw, .ref a_this0])), (a_kind, .inl (X.E 0, 8, .inl kind)), (a_strength, .inl (X.E 0, 8, .inl strength)), (a_this0, .inr (0, [.ref a_this0_kinds, .ref a_this0_town, .ref a_this0_tried, .ref a_this0_fell, .int this0_falls, .int this0_tears, .ref a_this0_tape, .int this0_typed, .int this0_place, .ref a_this0_read, .ref a_this0_undos, .ref a_this0_kept, .ref a_this0_keptUndos, .int this0_isKept, .ref a_this0_sheets, .ref a_this0_taken])), (a_this0_kinds, .inl (X.E 5, 5, .inr (.inr (.inr (.inr (kq a_this0_kinds_0 a_this0_kinds_1 a_this0_kinds_2 a_this0_kinds_3 a_this0_kinds_4)))))), (a_this0_kinds_0, .inr (1, [])), (a_this0_kinds_1, .inr (2, [])), (a_this0_kinds_2, .inr (3, [])), (a_this0_kinds_3, .inr (4, [])), (a_this0_kinds_4, .inr (5, []))]) (isC := []) (isR := [0, 1, 2, 3, 4, 5, 6, 7, 8, 9]) h hR (ct_X1_out (a := a_this0_kinds_0) (x1 := (strength x1.toNatClampNeg)) (x2 := hour) (x3 := x2_10) hv) rfl rfl q172 q196 q187 q71 q188 h.nw.2.2.1.1 (by decide +kernel) rfl ⟨rfl, rfl, rfl, rfl, by decide⟩ ⟨fle rfl, fle rfl, fle rfl, fle rfl, fle rfl⟩ rfl dX6_holdsOut_67 (pin (perm := [0, 1, 2, 3, 4, 5, 6, 7, 8, 9]) (ws' := [(a, .inr (6, [.ref a_kind, .ref a_strength, .ref a_place, .ref a_length, .ref a_gives, .ref a_over, .ref a_under, .int n, .int holders, .int cuts, .int hour, .int bears, .int draw, .ref a_this0])), (a_kind, .inl (X.E 0, 8, .inl kind)), (a_strength, .inl (X.E 0, 8, .inl strength)), (a_this0, .inr (0, [.ref a_this0_kinds, .ref a_this0_town, .ref a_this0_tried, .ref a_this0_fell, .int this0_falls, .int this0_tears, .ref a_this0_tape, .int this0_typed, .int this0_place, .ref a_this0_read, .ref a_this0_undos, .ref a_this0_kept, .ref a_this0_keptUndos, .int this0_isKept, .ref a_this0_sheets, .ref a_this0_taken])), (a_this0_kinds, .inl (X.E 5, 5, .inr (.inr (.inr (.inr (kq a_this0_kinds_0 a_this0_kinds_1 a_this0_kinds_2 a_this0_kinds_3 a_this0_kinds_4)))))), (a_this0_kinds_0, .inr (1, [])), (a_this0_kinds_1, .inr (2, [])), (a_this0_kinds_2, .inr (3, [])), (a_this0_kinds_3, .inr (4, [])), (a_this0_kinds_4, .inr (5, []))]) (stk := [.int r_15]) rfl rfl rfl ?_)
        clear hv
        obtain rfl := sj1 hf
        exact g_iret h hF [0, 1, 2, 3, 4, 5, 6, 7, 8, 9] rfl rfl ⟨rfl, rfl⟩ (fle rfl) (fle rfl) dX6_holdsOut_72
      · refine hf_if hf (fun c16 hf => ?_) (fun c16 hf => ?_)
        · refine g_aaK (c := 1) (p := a_this0_kinds_1) h 4 rfl c16 (by decide) rfl dX6_holdsOut_55 ?_
          refine g_aload_n h 0 dX6_holdsOut_56 rfl rfl ?_
          refine g_get (ci := 6) (v := .ref a_strength) h in_X6 0 1 rfl rfl (fle rfl) rfl q551 rfl dX6_holdsOut_57 ?_
          refine g_iload_n h 1 dX6_holdsOut_60 rfl rfl ?_
          refine g_baload h 2 rfl g13 dX6_holdsOut_61 ?_
          refine g_aload_n h 0 dX6_holdsOut_62 rfl rfl ?_
          refine g_get (ci := 6) (v := .int hour) h in_X6 0 10 rfl rfl (fle rfl) rfl q569 rfl dX6_holdsOut_63 ?_
          refine g_iload_n h 2 dX6_holdsOut_66 rfl rfl ?_
          obtain ⟨r_17, hv, hf⟩ := ob1 hf
          refine g_callF (ci := 2) (q0 := 6) (n := 3) (As := [.int (strength x1.toNatClampNeg), .int hour, .int x2_10]) (st := []) (wr := [(a, .inr (6, [.ref a_kind, .ref a_strength, .ref a_place, .ref a_length, .ref a_gives, .ref a_over, .ref a_under, .int n, .int holders, .int cuts, .int hour, .int bears, .int draw, .ref a_this0])), (a_kind, .inl (X.E 0, 8, .inl kind)), (a_strength, .inl (X.E 0, 8, .inl strength)), (a_this0, .inr (0, [.ref a_this0_kinds, .ref a_this0_town, .ref a_this0_tried, .ref a_this0_fell, .int this0_falls, .int this0_tears, .ref a_this0_tape, .int this0_typed, .int this0_place, .ref a_this0_read, .ref a_this0_undos, .ref a_this0_kept, .ref a_this0_keptUndos, .int this0_isKept, .ref a_this0_sheets, .ref a_this0_taken])), (a_this0_kinds, .inl (X.E 5, 5, .inr (.inr (.inr (.inr (kq a_this0_kinds_0 a_this0_kinds_1 a_this0_kinds_2 a_this0_kinds_3 a_this0_kinds_4)))))), (a_this0_kinds_0, .inr (1, [])), (a_this0_kinds_2, .inr (3, [])), (a_this0_kinds_3, .inr (4, [])), (a_this0_kinds_4, .inr (5, []))]) (isC := [6]) (isR := [0, 1, 2, 3, 4, 5, 7, 8, 9]) h hR (ct_X2_out (ci0 := 2) (a := a_this0_kinds_1) (x1 := (strength x1.toNatClampNeg)) (x2 := hour) (x3 := x2_10) (r0 := (RX2, TZ, 0)) rfl hv) rfl rfl q172 q211 q183 q72 q184 h.nw.2.2.1.2.1 (by decide +kernel) rfl ⟨rfl, rfl, rfl, rfl, by decide⟩ ⟨fle rfl, fle rfl, fle rfl, fle rfl, fle rfl⟩ rfl dX6_holdsOut_67 (pin (perm := [0, 1, 2, 3, 4, 5, 9, 6, 7, 8]) (ws' := [(a, .inr (6, [.ref a_kind, .ref a_strength, .ref a_place, .ref a_length, .ref a_gives, .ref a_over, .ref a_under, .int n, .int holders, .int cuts, .int hour, .int bears, .int draw, .ref a_this0])), (a_kind, .inl (X.E 0, 8, .inl kind)), (a_strength, .inl (X.E 0, 8, .inl strength)), (a_this0, .inr (0, [.ref a_this0_kinds, .ref a_this0_town, .ref a_this0_tried, .ref a_this0_fell, .int this0_falls, .int this0_tears, .ref a_this0_tape, .int this0_typed, .int this0_place, .ref a_this0_read, .ref a_this0_undos, .ref a_this0_kept, .ref a_this0_keptUndos, .int this0_isKept, .ref a_this0_sheets, .ref a_this0_taken])), (a_this0_kinds, .inl (X.E 5, 5, .inr (.inr (.inr (.inr (kq a_this0_kinds_0 a_this0_kinds_1 a_this0_kinds_2 a_this0_kinds_3 a_this0_kinds_4)))))), (a_this0_kinds_0, .inr (1, [])), (a_this0_kinds_1, .inr (2, [])), (a_this0_kinds_2, .inr (3, [])), (a_this0_kinds_3, .inr (4, [])), (a_this0_kinds_4, .inr (5, []))]) (stk := [.int r_17]) rfl rfl rfl ?_)
          clear hv
          obtain rfl := sj1 hf
          exact g_iret h hF [0, 1, 2, 3, 4, 5, 6, 7, 8, 9] rfl rfl ⟨rfl, rfl⟩ (fle rfl) (fle rfl) dX6_holdsOut_72
        · refine hf_if hf (fun c18 hf => ?_) (fun c18 hf => ?_)
          · refine g_aaK (c := 2) (p := a_this0_kinds_2) h 4 rfl c18 (by decide) rfl dX6_holdsOut_55 ?_
            refine g_aload_n h 0 dX6_holdsOut_56 rfl rfl ?_
            refine g_get (ci := 6) (v := .ref a_strength) h in_X6 0 1 rfl rfl (fle rfl) rfl q551 rfl dX6_holdsOut_57 ?_
            refine g_iload_n h 1 dX6_holdsOut_60 rfl rfl ?_
            refine g_baload h 2 rfl g13 dX6_holdsOut_61 ?_
            refine g_aload_n h 0 dX6_holdsOut_62 rfl rfl ?_
            refine g_get (ci := 6) (v := .int hour) h in_X6 0 10 rfl rfl (fle rfl) rfl q569 rfl dX6_holdsOut_63 ?_
            refine g_iload_n h 2 dX6_holdsOut_66 rfl rfl ?_
            obtain ⟨r_19, hv, hf⟩ := ob1 hf
            refine g_callF (ci := 3) (q0 := 7) (n := 3) (As := [.int (strength x1.toNatClampNeg), .int hour, .int x2_10]) (st := []) (wr := [(a, .inr (6, [.ref a_kind, .ref a_strength, .ref a_place, .ref a_length, .ref a_gives, .ref a_over, .ref a_under, .int n, .int holders, .int cuts, .int hour, .int bears, .int draw, .ref a_this0])), (a_kind, .inl (X.E 0, 8, .inl kind)), (a_strength, .inl (X.E 0, 8, .inl strength)), (a_this0, .inr (0, [.ref a_this0_kinds, .ref a_this0_town, .ref a_this0_tried, .ref a_this0_fell, .int this0_falls, .int this0_tears, .ref a_this0_tape, .int this0_typed, .int this0_place, .ref a_this0_read, .ref a_this0_undos, .ref a_this0_kept, .ref a_this0_keptUndos, .int this0_isKept, .ref a_this0_sheets, .ref a_this0_taken])), (a_this0_kinds, .inl (X.E 5, 5, .inr (.inr (.inr (.inr (kq a_this0_kinds_0 a_this0_kinds_1 a_this0_kinds_2 a_this0_kinds_3 a_this0_kinds_4)))))), (a_this0_kinds_0, .inr (1, [])), (a_this0_kinds_1, .inr (2, [])), (a_this0_kinds_3, .inr (4, [])), (a_this0_kinds_4, .inr (5, []))]) (isC := [7]) (isR := [0, 1, 2, 3, 4, 5, 6, 8, 9]) h hR (ct_X3_out (ci0 := 3) (a := a_this0_kinds_2) (x1 := (strength x1.toNatClampNeg)) (x2 := hour) (x3 := x2_10) (r0 := (RX3, TZ, 0)) rfl hv) rfl rfl q172 q176 q178 q73 q180 h.nw.2.2.1.2.2.1 (by decide +kernel) rfl ⟨rfl, rfl, rfl, rfl, by decide⟩ ⟨fle rfl, fle rfl, fle rfl, fle rfl, fle rfl⟩ rfl dX6_holdsOut_67 (pin (perm := [0, 1, 2, 3, 4, 5, 6, 9, 7, 8]) (ws' := [(a, .inr (6, [.ref a_kind, .ref a_strength, .ref a_place, .ref a_length, .ref a_gives, .ref a_over, .ref a_under, .int n, .int holders, .int cuts, .int hour, .int bears, .int draw, .ref a_this0])), (a_kind, .inl (X.E 0, 8, .inl kind)), (a_strength, .inl (X.E 0, 8, .inl strength)), (a_this0, .inr (0, [.ref a_this0_kinds, .ref a_this0_town, .ref a_this0_tried, .ref a_this0_fell, .int this0_falls, .int this0_tears, .ref a_this0_tape, .int this0_typed, .int this0_place, .ref a_this0_read, .ref a_this0_undos, .ref a_this0_kept, .ref a_this0_keptUndos, .int this0_isKept, .ref a_this0_sheets, .ref a_this0_taken])), (a_this0_kinds, .inl (X.E 5, 5, .inr (.inr (.inr (.inr (kq a_this0_kinds_0 a_this0_kinds_1 a_this0_kinds_2 a_this0_kinds_3 a_this0_kinds_4)))))), (a_this0_kinds_0, .inr (1, [])), (a_this0_kinds_1, .inr (2, [])), (a_this0_kinds_2, .inr (3, [])), (a_this0_kinds_3, .inr (4, [])), (a_this0_kinds_4, .inr (5, []))]) (stk := [.int r_19]) rfl rfl rfl ?_)
            clear hv
            obtain rfl := sj1 hf
            exact g_iret h hF [0, 1, 2, 3, 4, 5, 6, 7, 8, 9] rfl rfl ⟨rfl, rfl⟩ (fle rfl) (fle rfl) dX6_holdsOut_72
          · refine hf_if hf (fun c20 hf => ?_) (fun c20 hf => ?_)
            · refine g_aaK (c := 3) (p := a_this0_kinds_3) h 4 rfl c20 (by decide) rfl dX6_holdsOut_55 ?_
              refine g_aload_n h 0 dX6_holdsOut_56 rfl rfl ?_
              refine g_get (ci := 6) (v := .ref a_strength) h in_X6 0 1 rfl rfl (fle rfl) rfl q551 rfl dX6_holdsOut_57 ?_
              refine g_iload_n h 1 dX6_holdsOut_60 rfl rfl ?_
              refine g_baload h 2 rfl g13 dX6_holdsOut_61 ?_
              refine g_aload_n h 0 dX6_holdsOut_62 rfl rfl ?_
              refine g_get (ci := 6) (v := .int hour) h in_X6 0 10 rfl rfl (fle rfl) rfl q569 rfl dX6_holdsOut_63 ?_
              refine g_iload_n h 2 dX6_holdsOut_66 rfl rfl ?_
              obtain ⟨r_21, hv, hf⟩ := ob1 hf
              refine g_callF (ci := 4) (q0 := 8) (n := 3) (As := [.int (strength x1.toNatClampNeg), .int hour, .int x2_10]) (st := []) (wr := [(a, .inr (6, [.ref a_kind, .ref a_strength, .ref a_place, .ref a_length, .ref a_gives, .ref a_over, .ref a_under, .int n, .int holders, .int cuts, .int hour, .int bears, .int draw, .ref a_this0])), (a_kind, .inl (X.E 0, 8, .inl kind)), (a_strength, .inl (X.E 0, 8, .inl strength)), (a_this0, .inr (0, [.ref a_this0_kinds, .ref a_this0_town, .ref a_this0_tried, .ref a_this0_fell, .int this0_falls, .int this0_tears, .ref a_this0_tape, .int this0_typed, .int this0_place, .ref a_this0_read, .ref a_this0_undos, .ref a_this0_kept, .ref a_this0_keptUndos, .int this0_isKept, .ref a_this0_sheets, .ref a_this0_taken])), (a_this0_kinds, .inl (X.E 5, 5, .inr (.inr (.inr (.inr (kq a_this0_kinds_0 a_this0_kinds_1 a_this0_kinds_2 a_this0_kinds_3 a_this0_kinds_4)))))), (a_this0_kinds_0, .inr (1, [])), (a_this0_kinds_1, .inr (2, [])), (a_this0_kinds_2, .inr (3, [])), (a_this0_kinds_4, .inr (5, []))]) (isC := [8]) (isR := [0, 1, 2, 3, 4, 5, 6, 7, 9]) h hR (ct_X4_out (ci0 := 4) (a := a_this0_kinds_3) (x1 := (strength x1.toNatClampNeg)) (x2 := hour) (x3 := x2_10) (r0 := (RX4, TZ, 0)) rfl hv) rfl rfl q172 q200 q202 q74 q204 h.nw.2.2.1.2.2.2.1 (by decide +kernel) rfl ⟨rfl, rfl, rfl, rfl, by decide⟩ ⟨fle rfl, fle rfl, fle rfl, fle rfl, fle rfl⟩ rfl dX6_holdsOut_67 (pin (perm := [0, 1, 2, 3, 4, 5, 6, 7, 9, 8]) (ws' := [(a, .inr (6, [.ref a_kind, .ref a_strength, .ref a_place, .ref a_length, .ref a_gives, .ref a_over, .ref a_under, .int n, .int holders, .int cuts, .int hour, .int bears, .int draw, .ref a_this0])), (a_kind, .inl (X.E 0, 8, .inl kind)), (a_strength, .inl (X.E 0, 8, .inl strength)), (a_this0, .inr (0, [.ref a_this0_kinds, .ref a_this0_town, .ref a_this0_tried, .ref a_this0_fell, .int this0_falls, .int this0_tears, .ref a_this0_tape, .int this0_typed, .int this0_place, .ref a_this0_read, .ref a_this0_undos, .ref a_this0_kept, .ref a_this0_keptUndos, .int this0_isKept, .ref a_this0_sheets, .ref a_this0_taken])), (a_this0_kinds, .inl (X.E 5, 5, .inr (.inr (.inr (.inr (kq a_this0_kinds_0 a_this0_kinds_1 a_this0_kinds_2 a_this0_kinds_3 a_this0_kinds_4)))))), (a_this0_kinds_0, .inr (1, [])), (a_this0_kinds_1, .inr (2, [])), (a_this0_kinds_2, .inr (3, [])), (a_this0_kinds_3, .inr (4, [])), (a_this0_kinds_4, .inr (5, []))]) (stk := [.int r_21]) rfl rfl rfl ?_)
              clear hv
              obtain rfl := sj1 hf
              exact g_iret h hF [0, 1, 2, 3, 4, 5, 6, 7, 8, 9] rfl rfl ⟨rfl, rfl⟩ (fle rfl) (fle rfl) dX6_holdsOut_72
            · refine hf_if hf (fun c22 hf => ?_) (fun c22 hf => ?_)
              · refine g_aaK (c := 4) (p := a_this0_kinds_4) h 4 rfl c22 (by decide) rfl dX6_holdsOut_55 ?_
                refine g_aload_n h 0 dX6_holdsOut_56 rfl rfl ?_
                refine g_get (ci := 6) (v := .ref a_strength) h in_X6 0 1 rfl rfl (fle rfl) rfl q551 rfl dX6_holdsOut_57 ?_
                refine g_iload_n h 1 dX6_holdsOut_60 rfl rfl ?_
                refine g_baload h 2 rfl g13 dX6_holdsOut_61 ?_
                refine g_aload_n h 0 dX6_holdsOut_62 rfl rfl ?_
                refine g_get (ci := 6) (v := .int hour) h in_X6 0 10 rfl rfl (fle rfl) rfl q569 rfl dX6_holdsOut_63 ?_
                refine g_iload_n h 2 dX6_holdsOut_66 rfl rfl ?_
                obtain ⟨r_23, hv, hf⟩ := ob1 hf
                refine g_callF (ci := 5) (q0 := 9) (n := 3) (As := [.int (strength x1.toNatClampNeg), .int hour, .int x2_10]) (st := []) (wr := [(a, .inr (6, [.ref a_kind, .ref a_strength, .ref a_place, .ref a_length, .ref a_gives, .ref a_over, .ref a_under, .int n, .int holders, .int cuts, .int hour, .int bears, .int draw, .ref a_this0])), (a_kind, .inl (X.E 0, 8, .inl kind)), (a_strength, .inl (X.E 0, 8, .inl strength)), (a_this0, .inr (0, [.ref a_this0_kinds, .ref a_this0_town, .ref a_this0_tried, .ref a_this0_fell, .int this0_falls, .int this0_tears, .ref a_this0_tape, .int this0_typed, .int this0_place, .ref a_this0_read, .ref a_this0_undos, .ref a_this0_kept, .ref a_this0_keptUndos, .int this0_isKept, .ref a_this0_sheets, .ref a_this0_taken])), (a_this0_kinds, .inl (X.E 5, 5, .inr (.inr (.inr (.inr (kq a_this0_kinds_0 a_this0_kinds_1 a_this0_kinds_2 a_this0_kinds_3 a_this0_kinds_4)))))), (a_this0_kinds_0, .inr (1, [])), (a_this0_kinds_1, .inr (2, [])), (a_this0_kinds_2, .inr (3, [])), (a_this0_kinds_3, .inr (4, []))]) (isC := [9]) (isR := [0, 1, 2, 3, 4, 5, 6, 7, 8]) h hR (ct_X5_out (a := a_this0_kinds_4) (x1 := (strength x1.toNatClampNeg)) (x2 := hour) (x3 := x2_10) hv) rfl rfl q172 q215 q217 q75 q219 h.nw.2.2.1.2.2.2.2 (by decide +kernel) rfl ⟨rfl, rfl, rfl, rfl, by decide⟩ ⟨fle rfl, fle rfl, fle rfl, fle rfl, fle rfl⟩ rfl dX6_holdsOut_67 (pin (perm := [0, 1, 2, 3, 4, 5, 6, 7, 8, 9]) (ws' := [(a, .inr (6, [.ref a_kind, .ref a_strength, .ref a_place, .ref a_length, .ref a_gives, .ref a_over, .ref a_under, .int n, .int holders, .int cuts, .int hour, .int bears, .int draw, .ref a_this0])), (a_kind, .inl (X.E 0, 8, .inl kind)), (a_strength, .inl (X.E 0, 8, .inl strength)), (a_this0, .inr (0, [.ref a_this0_kinds, .ref a_this0_town, .ref a_this0_tried, .ref a_this0_fell, .int this0_falls, .int this0_tears, .ref a_this0_tape, .int this0_typed, .int this0_place, .ref a_this0_read, .ref a_this0_undos, .ref a_this0_kept, .ref a_this0_keptUndos, .int this0_isKept, .ref a_this0_sheets, .ref a_this0_taken])), (a_this0_kinds, .inl (X.E 5, 5, .inr (.inr (.inr (.inr (kq a_this0_kinds_0 a_this0_kinds_1 a_this0_kinds_2 a_this0_kinds_3 a_this0_kinds_4)))))), (a_this0_kinds_0, .inr (1, [])), (a_this0_kinds_1, .inr (2, [])), (a_this0_kinds_2, .inr (3, [])), (a_this0_kinds_3, .inr (4, [])), (a_this0_kinds_4, .inr (5, []))]) (stk := [.int r_23]) rfl rfl rfl ?_)
                clear hv
                obtain rfl := sj1 hf
                exact g_iret h hF [0, 1, 2, 3, 4, 5, 6, 7, 8, 9] rfl rfl ⟨rfl, rfl⟩ (fle rfl) (fle rfl) dX6_holdsOut_72
              · exact nomatch hf
    clear hf
    have hf := hw
    clear hw
    refine g_icmp_ge (tgt := 42) h dX6_holdsOut_26 rfl hf (fun c7 hf => ?_) (fun c7 hf => ?_)
    · obtain rfl := sj1 hf
      exact G.lsub [0, 1, 2] rfl K26
    · refine g_aload_n h 0 dX6_holdsOut_29 rfl rfl ?_
      refine g_iload_n h 1 dX6_holdsOut_30 rfl rfl ?_
      refine g_iconst (v := 1) h dX6_holdsOut_31 kiconst_1 ?_
      refine g_iadd h dX6_holdsOut_32 ?_
      obtain ⟨r_11, hv, hf⟩ := ob1 hf
      refine g_callV (ci := 6) (q0 := 0) (n := 1) (As := [.int (x1 + 1)]) (st := []) (wr := [(a_kind, .inl (X.E 0, 8, .inl kind)), (a_strength, .inl (X.E 0, 8, .inl strength)), (a_this0, .inr (0, [.ref a_this0_kinds, .ref a_this0_town, .ref a_this0_tried, .ref a_this0_fell, .int this0_falls, .int this0_tears, .ref a_this0_tape, .int this0_typed, .int this0_place, .ref a_this0_read, .ref a_this0_undos, .ref a_this0_kept, .ref a_this0_keptUndos, .int this0_isKept, .ref a_this0_sheets, .ref a_this0_taken])), (a_this0_kinds, .inl (X.E 5, 5, .inr (.inr (.inr (.inr (kq a_this0_kinds_0 a_this0_kinds_1 a_this0_kinds_2 a_this0_kinds_3 a_this0_kinds_4)))))), (a_this0_kinds_0, .inr (1, [])), (a_this0_kinds_1, .inr (2, [])), (a_this0_kinds_2, .inr (3, [])), (a_this0_kinds_3, .inr (4, [])), (a_this0_kinds_4, .inr (5, []))]) (isC := [0]) (isR := [1, 2, 3, 4, 5, 6, 7, 8, 9]) h hR (ct_X6_holds (a := a) (a_kind := a_kind) (a_strength := a_strength) (a_place := a_place) (a_length := a_length) (a_gives := a_gives) (a_over := a_over) (a_under := a_under) (a_this0 := a_this0) (x1 := (x1 + 1)) (n := n) (holders := holders) (cuts := cuts) (hour := hour) (bears := bears) (draw := draw) hv) rfl rfl (lw_V q142 q143 q144 q76 q145) (by decide +kernel) rfl ⟨rfl, rfl, rfl, rfl, by decide⟩ ⟨fle rfl, fle rfl, fle rfl, fle rfl, fle rfl⟩ rfl dX6_holdsOut_33 (pin (perm := [9, 0, 1, 2, 3, 4, 5, 6, 7, 8]) (ws' := [(a, .inr (6, [.ref a_kind, .ref a_strength, .ref a_place, .ref a_length, .ref a_gives, .ref a_over, .ref a_under, .int n, .int holders, .int cuts, .int hour, .int bears, .int draw, .ref a_this0])), (a_kind, .inl (X.E 0, 8, .inl kind)), (a_strength, .inl (X.E 0, 8, .inl strength)), (a_this0, .inr (0, [.ref a_this0_kinds, .ref a_this0_town, .ref a_this0_tried, .ref a_this0_fell, .int this0_falls, .int this0_tears, .ref a_this0_tape, .int this0_typed, .int this0_place, .ref a_this0_read, .ref a_this0_undos, .ref a_this0_kept, .ref a_this0_keptUndos, .int this0_isKept, .ref a_this0_sheets, .ref a_this0_taken])), (a_this0_kinds, .inl (X.E 5, 5, .inr (.inr (.inr (.inr (kq a_this0_kinds_0 a_this0_kinds_1 a_this0_kinds_2 a_this0_kinds_3 a_this0_kinds_4)))))), (a_this0_kinds_0, .inr (1, [])), (a_this0_kinds_1, .inr (2, [])), (a_this0_kinds_2, .inr (3, [])), (a_this0_kinds_3, .inr (4, [])), (a_this0_kinds_4, .inr (5, []))]) (stk := [.int r_11]) rfl rfl rfl ?_)
      clear hv
      refine g_if_ne (tgt := 42) h dX6_holdsOut_36 rfl hf (fun c12 hf => ?_) (fun c12 hf => ?_)
      · refine g_iinc (j := 2) (v := (x2_4 + 1)) (lv' := [(2, .int (x2_4 + 1)), (0, .ref a), (1, .int x1)]) h dX6_holdsOut_39 rfl (kinc_1 _) (hL 2 (fle rfl)) rfl ?_
        obtain rfl := sj1 hf
        exact G.lsub [1, 2, 0] rfl K26
      · obtain rfl := sj1 hf
        exact G.lsub [0, 1, 2] rfl K26
  clear hf
  have hf := hw
  clear hw
  refine g_if_le (tgt := 19) h dX6_holdsOut_3 rfl hf (fun c1 hf => ?_) (fun c1 hf => ?_)
  · obtain rfl := sj1 hf
    exact G.lsub [1, 2, 0] rfl K3
  · refine g_aload_n h 1 dX6_holdsOut_6 rfl rfl ?_
    refine g_iload_n h 2 dX6_holdsOut_7 rfl rfl ?_
    refine g_iconst (v := 1) h dX6_holdsOut_8 kiconst_1 ?_
    refine g_isub h dX6_holdsOut_9 ?_
    obtain ⟨r_5, hv, hf⟩ := ob1 hf
    refine g_callV (ci := 6) (q0 := 0) (n := 1) (As := [.int (x1 - 1)]) (st := []) (wr := [(a_kind, .inl (X.E 0, 8, .inl kind)), (a_strength, .inl (X.E 0, 8, .inl strength)), (a_this0, .inr (0, [.ref a_this0_kinds, .ref a_this0_town, .ref a_this0_tried, .ref a_this0_fell, .int this0_falls, .int this0_tears, .ref a_this0_tape, .int this0_typed, .int this0_place, .ref a_this0_read, .ref a_this0_undos, .ref a_this0_kept, .ref a_this0_keptUndos, .int this0_isKept, .ref a_this0_sheets, .ref a_this0_taken])), (a_this0_kinds, .inl (X.E 5, 5, .inr (.inr (.inr (.inr (kq a_this0_kinds_0 a_this0_kinds_1 a_this0_kinds_2 a_this0_kinds_3 a_this0_kinds_4)))))), (a_this0_kinds_0, .inr (1, [])), (a_this0_kinds_1, .inr (2, [])), (a_this0_kinds_2, .inr (3, [])), (a_this0_kinds_3, .inr (4, [])), (a_this0_kinds_4, .inr (5, []))]) (isC := [0]) (isR := [1, 2, 3, 4, 5, 6, 7, 8, 9]) h hR (ct_X6_holds (a := a) (a_kind := a_kind) (a_strength := a_strength) (a_place := a_place) (a_length := a_length) (a_gives := a_gives) (a_over := a_over) (a_under := a_under) (a_this0 := a_this0) (x1 := (x1 - 1)) (n := n) (holders := holders) (cuts := cuts) (hour := hour) (bears := bears) (draw := draw) hv) rfl rfl (lw_V q142 q143 q144 q76 q145) (by decide +kernel) rfl ⟨rfl, rfl, rfl, rfl, by decide⟩ ⟨fle rfl, fle rfl, fle rfl, fle rfl, fle rfl⟩ rfl dX6_holdsOut_10 (pin (perm := [9, 0, 1, 2, 3, 4, 5, 6, 7, 8]) (ws' := [(a, .inr (6, [.ref a_kind, .ref a_strength, .ref a_place, .ref a_length, .ref a_gives, .ref a_over, .ref a_under, .int n, .int holders, .int cuts, .int hour, .int bears, .int draw, .ref a_this0])), (a_kind, .inl (X.E 0, 8, .inl kind)), (a_strength, .inl (X.E 0, 8, .inl strength)), (a_this0, .inr (0, [.ref a_this0_kinds, .ref a_this0_town, .ref a_this0_tried, .ref a_this0_fell, .int this0_falls, .int this0_tears, .ref a_this0_tape, .int this0_typed, .int this0_place, .ref a_this0_read, .ref a_this0_undos, .ref a_this0_kept, .ref a_this0_keptUndos, .int this0_isKept, .ref a_this0_sheets, .ref a_this0_taken])), (a_this0_kinds, .inl (X.E 5, 5, .inr (.inr (.inr (.inr (kq a_this0_kinds_0 a_this0_kinds_1 a_this0_kinds_2 a_this0_kinds_3 a_this0_kinds_4)))))), (a_this0_kinds_0, .inr (1, [])), (a_this0_kinds_1, .inr (2, [])), (a_this0_kinds_2, .inr (3, [])), (a_this0_kinds_3, .inr (4, [])), (a_this0_kinds_4, .inr (5, []))]) (stk := [.int r_5]) rfl rfl rfl ?_)
    clear hv
    refine g_if_ne (tgt := 19) h dX6_holdsOut_13 rfl hf (fun c6 hf => ?_) (fun c6 hf => ?_)
    · refine g_iinc (j := 0) (v := (0 + 1)) (lv' := [(2, .int (0 + 1)), (0, .ref a), (1, .int x1)]) h dX6_holdsOut_16 rfl (kinc_1 _) (hL 2 (fle rfl)) rfl ?_
      obtain rfl := sj1 hf
      exact G.lsub [1, 2, 0] rfl K3
    · obtain rfl := sj1 hf
      exact G.lsub [1, 2, 0] rfl K3
set_option maxHeartbeats 4000000 in
set_option maxRecDepth 100000 in
theorem ct_X6_pulledBelow {l : Launch} {D : va_G} {E : Ety} {a a_kind a_strength a_place a_length a_gives a_over a_under a_this0 : Nat} {x1 : Int32} {n : Int32} {holders : Int32} {cuts : Int32} {hour : Int32} {bears : Int32} {draw : Int32} {under : Nat → Int32} {r_ : Int64} (hf : f_X6_pulledBelow x1 n under = some r_) : Ct l yX6_pulledBelow cX6_pulledBelow 2 (some .long) 1 21 0 0 D E [.ref a, .int x1] [(a, .inr (6, [.ref a_kind, .ref a_strength, .ref a_place, .ref a_length, .ref a_gives, .ref a_over, .ref a_under, .int n, .int holders, .int cuts, .int hour, .int bears, .int draw, .ref a_this0])), (a_under, .inl (E 1, 8, .inl under))] (Pn (some (.long r_)) [(a, .inr (6, [.ref a_kind, .ref a_strength, .ref a_place, .ref a_length, .ref a_gives, .ref a_over, .ref a_under, .int n, .int holders, .int cuts, .int hour, .int bears, .int draw, .ref a_this0])), (a_under, .inl (E 1, 8, .inl under))]) := by
  refine ct_of (own := RX6) (plainFor_of_name (by decide)) rfl (fle rfl) rfl ?_
  intro X hl hD hE hnL hXF h hR hF hnm
  subst hl; subst hD; subst hE
  have hL : ∀ i, i < 2 → i < X.nL := fun i hi => by rw [hnL]; exact hi
  unfold f_X6_pulledBelow at hf
  refine g_aload_n h 0 dX6_pulledBelow_0 rfl rfl ?_
  refine g_iload_n h 1 dX6_pulledBelow_1 rfl rfl ?_
  obtain ⟨r_1, hv, hf⟩ := ob1 hf
  refine g_callV (ci := 6) (q0 := 0) (n := 1) (As := [.int x1]) (st := []) (wr := []) (isC := [0, 1]) (isR := []) h hR (ct_X6_belowRight (a := a) (a_kind := a_kind) (a_strength := a_strength) (a_place := a_place) (a_length := a_length) (a_gives := a_gives) (a_over := a_over) (a_under := a_under) (a_this0 := a_this0) (x1 := x1) (n := n) (holders := holders) (cuts := cuts) (hour := hour) (bears := bears) (draw := draw) (under := under) hv) rfl rfl (lw_V q160 q162 qs4 q76 q163) (by decide +kernel) rfl ⟨rfl, rfl, rfl, rfl, by decide⟩ ⟨fle rfl, fle rfl, fle rfl, fle rfl, fle rfl⟩ rfl dX6_pulledBelow_2 (pin (perm := [0, 1]) (ws' := [(a, .inr (6, [.ref a_kind, .ref a_strength, .ref a_place, .ref a_length, .ref a_gives, .ref a_over, .ref a_under, .int n, .int holders, .int cuts, .int hour, .int bears, .int draw, .ref a_this0])), (a_under, .inl (X.E 1, 8, .inl under))]) (stk := [.int r_1]) rfl rfl rfl ?_)
  clear hv
  refine g_i2l h dX6_pulledBelow_5 ?_
  refine g_iload_n h 1 dX6_pulledBelow_6 rfl rfl ?_
  refine g_if_ne (tgt := 14) h dX6_pulledBelow_7 rfl hf (fun c2 hf => ?_) (fun c2 hf => ?_)
  · refine g_iconst (v := 1) h dX6_pulledBelow_10 kiconst_1 ?_
    refine g_goto (tgt := 22) h dX6_pulledBelow_11 rfl ?_
    refine g_i2l h dX6_pulledBelow_22 ?_
    refine g_lmul h dX6_pulledBelow_23 ?_
    obtain rfl := sj1 hf
    exact g_lret h hF [0, 1] rfl rfl ⟨rfl, rfl⟩ (fle rfl) (fle rfl) dX6_pulledBelow_24
  · refine g_aload_n h 0 dX6_pulledBelow_14 rfl rfl ?_
    refine g_get (ci := 6) (v := .ref a_under) h in_X6 0 6 rfl rfl (fle rfl) rfl q561 rfl dX6_pulledBelow_15 ?_
    refine g_iload_n h 1 dX6_pulledBelow_18 rfl rfl ?_
    refine g_iconst (v := 1) h dX6_pulledBelow_19 kiconst_1 ?_
    refine g_isub h dX6_pulledBelow_20 ?_
    obtain ⟨g3, hf⟩ := gn hf
    refine g_iaload h 1 rfl g3 dX6_pulledBelow_21 ?_
    refine g_i2l h dX6_pulledBelow_22 ?_
    refine g_lmul h dX6_pulledBelow_23 ?_
    obtain rfl := sj1 hf
    exact g_lret h hF [0, 1] rfl rfl ⟨rfl, rfl⟩ (fle rfl) (fle rfl) dX6_pulledBelow_24
set_option maxHeartbeats 4000000 in
set_option maxRecDepth 100000 in
theorem ct_X6_lets {l : Launch} {D : va_G} {E : Ety} {a a_kind a_strength a_place a_length a_gives a_over a_under a_this0 : Nat} {x1 : Int32} {n : Int32} {holders : Int32} {cuts : Int32} {hour : Int32} {bears : Int32} {draw : Int32} {o_holders : Int32} (hf : f_X6_lets x1 holders = some o_holders) : Ct l yX6_lets cX6_lets 2 none 0 0 0 0 D E [.ref a, .int x1] [(a, .inr (6, [.ref a_kind, .ref a_strength, .ref a_place, .ref a_length, .ref a_gives, .ref a_over, .ref a_under, .int n, .int holders, .int cuts, .int hour, .int bears, .int draw, .ref a_this0]))] (Pn none [(a, .inr (6, [.ref a_kind, .ref a_strength, .ref a_place, .ref a_length, .ref a_gives, .ref a_over, .ref a_under, .int n, .int o_holders, .int cuts, .int hour, .int bears, .int draw, .ref a_this0]))]) := by
  refine ct_of (own := RX6) (plainFor_of_name (by decide)) rfl (fle rfl) rfl ?_
  intro X hl hD hE hnL hXF h hR hF hnm
  subst hl; subst hD; subst hE
  have hL : ∀ i, i < 2 → i < X.nL := fun i hi => by rw [hnL]; exact hi
  unfold f_X6_lets at hf
  refine g_aload_n h 0 dX6_lets_0 rfl rfl ?_
  refine g_dup h dX6_lets_1 rfl ?_
  refine g_get (ci := 6) (v := .int holders) h in_X6 0 8 rfl rfl (fle rfl) rfl q565 rfl dX6_lets_2 ?_
  refine g_iconst (v := 1) h dX6_lets_5 kiconst_1 ?_
  refine g_iload_n h 1 dX6_lets_6 rfl rfl ?_
  refine g_ishl h dX6_lets_7 ?_
  refine g_iconst (v := (-1)) h dX6_lets_8 kiconst_m1 ?_
  refine g_ixor h dX6_lets_9 ?_
  refine g_iand h dX6_lets_10 ?_
  refine g_put (ci := 6) (ty := tyX6 8) (ws' := [(a, .inr (6, [.ref a_kind, .ref a_strength, .ref a_place, .ref a_length, .ref a_gives, .ref a_over, .ref a_under, .int n, .int (holders &&& ((1 <<< (x1 &&& 31)) ^^^ (-1))), .int cuts, .int hour, .int bears, .int draw, .ref a_this0]))]) h in_X6 tyX6 tyX6_ok nmX6 0 8 rfl rfl (fle rfl) ⟨rfl, rfl⟩ q565 rfl rfl rfl (fle rfl) rfl dX6_lets_11 ?_
  obtain rfl := sj1 hf
  exact g_vret h hF [0] rfl rfl ⟨rfl, rfl⟩ (fle rfl) (fle rfl) dX6_lets_14
set_option maxHeartbeats 4000000 in
set_option maxRecDepth 100000 in
theorem w_X0_settles_L17 {X : Cx} {a a_fell a_kept a_keptUndos a_kinds a_kinds_0 a_kinds_1 a_kinds_2 a_kinds_3 a_kinds_4 a_read a_sheets a_t1 a_t1_gives a_t1_kind a_t1_length a_t1_over a_t1_place a_t1_strength a_t1_under a_taken a_tape a_town a_tried a_undos : Nat} {falls : Int32} {tears : Int32} {typed : Int32} {place : Int32} {isKept : Int32} {fell : Nat → Int32} {t1_n : Int32} {t1_holders : Int32} {t1_cuts : Int32} {t1_hour : Int32} {t1_bears : Int32} {t1_draw : Int32} {t1_kind : Nat → Int32} {t1_strength : Nat → Int32} {t1_place : Nat → Int32} {t1_length : Nat → Int32} {t1_gives : Nat → Int32} {t1_over : Nat → Int32} {t1_under : Nat → Int32} {ce sl : Nat} (h : Ok X cX0_settles RX0) (hR : Rm X 5 116 0 0) (hL : ∀ i, i < 3 → i < X.nL) (hce : ce ≤ 0) (hsl : sl ≤ 0) : ∀ (n0 : Nat) (x2 : Int32) {otag : Nat} {o_x2 : Int32}, f_X0_settles_L17 t1_n t1_bears t1_over t1_under n0 x2 = some (otag, o_x2) → (otag = 0 → G X [(a, .inr (0, [.ref a_kinds, .ref a_town, .ref a_tried, .ref a_fell, .int falls, .int tears, .ref a_tape, .int typed, .int place, .ref a_read, .ref a_undos, .ref a_kept, .ref a_keptUndos, .int isKept, .ref a_sheets, .ref a_taken])), (a_kinds, .inl (X.E 5, 5, .inr (.inr (.inr (.inr (kq a_kinds_0 a_kinds_1 a_kinds_2 a_kinds_3 a_kinds_4)))))), (a_kinds_0, .inr (1, [])), (a_kinds_1, .inr (2, [])), (a_kinds_2, .inr (3, [])), (a_kinds_3, .inr (4, [])), (a_kinds_4, .inr (5, [])), (a_fell, .inl (X.E 1, 8, .inl fell)), (a_t1, .inr (6, [.ref a_t1_kind, .ref a_t1_strength, .ref a_t1_place, .ref a_t1_length, .ref a_t1_gives, .ref a_t1_over, .ref a_t1_under, .int t1_n, .int t1_holders, .int t1_cuts, .int t1_hour, .int t1_bears, .int t1_draw, .ref a])), (a_t1_kind, .inl (X.E 0, 8, .inl t1_kind)), (a_t1_strength, .inl (X.E 0, 8, .inl t1_strength)), (a_t1_place, .inl (X.E 0, 8, .inl t1_place)), (a_t1_length, .inl (X.E 0, 8, .inl t1_length)), (a_t1_gives, .inl (X.E 0, 8, .inl t1_gives)), (a_t1_over, .inl (X.E 1, 8, .inl t1_over)), (a_t1_under, .inl (X.E 1, 8, .inl t1_under))] [(0, .ref a), (1, .ref a_t1), (2, .int o_x2)] ce sl 50 []) → (otag = 1 → G X [(a, .inr (0, [.ref a_kinds, .ref a_town, .ref a_tried, .ref a_fell, .int falls, .int tears, .ref a_tape, .int typed, .int place, .ref a_read, .ref a_undos, .ref a_kept, .ref a_keptUndos, .int isKept, .ref a_sheets, .ref a_taken])), (a_kinds, .inl (X.E 5, 5, .inr (.inr (.inr (.inr (kq a_kinds_0 a_kinds_1 a_kinds_2 a_kinds_3 a_kinds_4)))))), (a_kinds_0, .inr (1, [])), (a_kinds_1, .inr (2, [])), (a_kinds_2, .inr (3, [])), (a_kinds_3, .inr (4, [])), (a_kinds_4, .inr (5, [])), (a_fell, .inl (X.E 1, 8, .inl fell)), (a_t1, .inr (6, [.ref a_t1_kind, .ref a_t1_strength, .ref a_t1_place, .ref a_t1_length, .ref a_t1_gives, .ref a_t1_over, .ref a_t1_under, .int t1_n, .int t1_holders, .int t1_cuts, .int t1_hour, .int t1_bears, .int t1_draw, .ref a])), (a_t1_kind, .inl (X.E 0, 8, .inl t1_kind)), (a_t1_strength, .inl (X.E 0, 8, .inl t1_strength)), (a_t1_place, .inl (X.E 0, 8, .inl t1_place)), (a_t1_length, .inl (X.E 0, 8, .inl t1_length)), (a_t1_gives, .inl (X.E 0, 8, .inl t1_gives)), (a_t1_over, .inl (X.E 1, 8, .inl t1_over)), (a_t1_under, .inl (X.E 1, 8, .inl t1_under))] [(0, .ref a), (1, .ref a_t1)] ce sl 65 []) → G X [(a, .inr (0, [.ref a_kinds, .ref a_town, .ref a_tried, .ref a_fell, .int falls, .int tears, .ref a_tape, .int typed, .int place, .ref a_read, .ref a_undos, .ref a_kept, .ref a_keptUndos, .int isKept, .ref a_sheets, .ref a_taken])), (a_kinds, .inl (X.E 5, 5, .inr (.inr (.inr (.inr (kq a_kinds_0 a_kinds_1 a_kinds_2 a_kinds_3 a_kinds_4)))))), (a_kinds_0, .inr (1, [])), (a_kinds_1, .inr (2, [])), (a_kinds_2, .inr (3, [])), (a_kinds_3, .inr (4, [])), (a_kinds_4, .inr (5, [])), (a_fell, .inl (X.E 1, 8, .inl fell)), (a_t1, .inr (6, [.ref a_t1_kind, .ref a_t1_strength, .ref a_t1_place, .ref a_t1_length, .ref a_t1_gives, .ref a_t1_over, .ref a_t1_under, .int t1_n, .int t1_holders, .int t1_cuts, .int t1_hour, .int t1_bears, .int t1_draw, .ref a])), (a_t1_kind, .inl (X.E 0, 8, .inl t1_kind)), (a_t1_strength, .inl (X.E 0, 8, .inl t1_strength)), (a_t1_place, .inl (X.E 0, 8, .inl t1_place)), (a_t1_length, .inl (X.E 0, 8, .inl t1_length)), (a_t1_gives, .inl (X.E 0, 8, .inl t1_gives)), (a_t1_over, .inl (X.E 1, 8, .inl t1_over)), (a_t1_under, .inl (X.E 1, 8, .inl t1_under))] [(0, .ref a), (1, .ref a_t1), (2, .int x2)] ce sl 17 [] := by
  intro n0
  induction n0 with
  | zero => intro x2 otag o_x2 hf; exact nomatch (show (none : Option _) = some _ from hf)
  | succ n0 ih =>
    intro x2 otag o_x2 hf k0 k1
    replace hf : t_X0_settles_L17 t1_n t1_bears t1_over t1_under (f_X0_settles_L17 t1_n t1_bears t1_over t1_under n0) x2 = some (otag, o_x2) := hf
    unfold t_X0_settles_L17 at hf
    refine g_iload_n h 2 dX0_settles_17 rfl rfl ?_
    refine g_aload_n h 1 dX0_settles_18 rfl rfl ?_
    refine g_getN (ci := 6) (v := .int t1_n) h in_X6 8 7 rfl rfl (fle rfl) rfl q564 rfl dX0_settles_19 ?_
    refine g_iconst (v := 1) h dX0_settles_22 kiconst_1 ?_
    refine g_isub h dX0_settles_23 ?_
    refine g_icmp_ge (tgt := 65) h dX0_settles_24 rfl hf (fun c3 hf => ?_) (fun c3 hf => ?_)
    · obtain ⟨rfl, rfl⟩ := sj2 hf
      exact G.lsub [0, 1] rfl (k1 rfl)
    · refine g_aload_n h 1 dX0_settles_27 rfl rfl ?_
      refine g_getN (ci := 6) (v := .ref a_t1_over) h in_X6 8 5 rfl rfl (fle rfl) rfl q560 rfl dX0_settles_28 ?_
      refine g_iload_n h 2 dX0_settles_31 rfl rfl ?_
      obtain ⟨g4, hf⟩ := gn hf
      refine g_iaload h 14 rfl g4 dX0_settles_32 ?_
      refine g_aload_n h 1 dX0_settles_33 rfl rfl ?_
      refine g_getN (ci := 6) (v := .int t1_bears) h in_X6 8 11 rfl rfl (fle rfl) rfl q572 rfl dX0_settles_34 ?_
      refine g_aload_n h 1 dX0_settles_37 rfl rfl ?_
      refine g_getN (ci := 6) (v := .ref a_t1_under) h in_X6 8 6 rfl rfl (fle rfl) rfl q562 rfl dX0_settles_38 ?_
      refine g_iload_n h 2 dX0_settles_41 rfl rfl ?_
      refine g_iaload h 15 rfl g4 dX0_settles_42 ?_
      refine g_imul h dX0_settles_43 ?_
      refine g_icmp_gt (tgt := 50) h dX0_settles_44 rfl hf (fun c5 hf => ?_) (fun c5 hf => ?_)
      · obtain ⟨rfl, rfl⟩ := sj2 hf
        exact G.lsub [0, 1, 2] rfl (k0 rfl)
      · refine g_goto (tgt := 59) h dX0_settles_47 rfl ?_
        refine g_iinc (j := 2) (v := (x2 + 1)) (lv' := [(2, .int (x2 + 1)), (0, .ref a), (1, .ref a_t1)]) h dX0_settles_59 rfl (kinc_1 _) (hL 2 (fle rfl)) rfl ?_
        refine g_goto (tgt := 17) h dX0_settles_62 rfl ?_
        exact G.lsub [1, 2, 0] rfl (ih _ hf k0 k1)
set_option maxHeartbeats 4000000 in
set_option maxRecDepth 100000 in
theorem w_X0_settles_L67 {X : Cx} {a a_fell a_kept a_keptUndos a_kinds a_kinds_0 a_kinds_1 a_kinds_2 a_kinds_3 a_kinds_4 a_read a_sheets a_t1 a_t1_gives a_t1_kind a_t1_length a_t1_over a_t1_place a_t1_strength a_t1_under a_taken a_tape a_town a_tried a_undos : Nat} {falls : Int32} {tears : Int32} {typed : Int32} {place : Int32} {isKept : Int32} {fell : Nat → Int32} {t1_n : Int32} {t1_holders : Int32} {t1_cuts : Int32} {t1_hour : Int32} {t1_bears : Int32} {t1_draw : Int32} {t1_kind : Nat → Int32} {t1_strength : Nat → Int32} {t1_place : Nat → Int32} {t1_length : Nat → Int32} {t1_gives : Nat → Int32} {t1_over : Nat → Int32} {t1_under : Nat → Int32} {ce sl : Nat} (h : Ok X cX0_settles RX0) (hR : Rm X 5 116 0 0) (hL : ∀ i, i < 3 → i < X.nL) (hce : ce ≤ 0) (hsl : sl ≤ 0) : ∀ (n0 : Nat) (x2 : Int32) {otag : Nat} {o_x2 : Int32}, f_X0_settles_L67 t1_n t1_holders t1_hour t1_kind t1_strength t1_over t1_under n0 x2 = some (otag, o_x2) → (otag = 0 → G X [(a, .inr (0, [.ref a_kinds, .ref a_town, .ref a_tried, .ref a_fell, .int falls, .int tears, .ref a_tape, .int typed, .int place, .ref a_read, .ref a_undos, .ref a_kept, .ref a_keptUndos, .int isKept, .ref a_sheets, .ref a_taken])), (a_kinds, .inl (X.E 5, 5, .inr (.inr (.inr (.inr (kq a_kinds_0 a_kinds_1 a_kinds_2 a_kinds_3 a_kinds_4)))))), (a_kinds_0, .inr (1, [])), (a_kinds_1, .inr (2, [])), (a_kinds_2, .inr (3, [])), (a_kinds_3, .inr (4, [])), (a_kinds_4, .inr (5, [])), (a_fell, .inl (X.E 1, 8, .inl fell)), (a_t1, .inr (6, [.ref a_t1_kind, .ref a_t1_strength, .ref a_t1_place, .ref a_t1_length, .ref a_t1_gives, .ref a_t1_over, .ref a_t1_under, .int t1_n, .int t1_holders, .int t1_cuts, .int t1_hour, .int t1_bears, .int t1_draw, .ref a])), (a_t1_kind, .inl (X.E 0, 8, .inl t1_kind)), (a_t1_strength, .inl (X.E 0, 8, .inl t1_strength)), (a_t1_place, .inl (X.E 0, 8, .inl t1_place)), (a_t1_length, .inl (X.E 0, 8, .inl t1_length)), (a_t1_gives, .inl (X.E 0, 8, .inl t1_gives)), (a_t1_over, .inl (X.E 1, 8, .inl t1_over)), (a_t1_under, .inl (X.E 1, 8, .inl t1_under))] [(0, .ref a), (1, .ref a_t1), (2, .int o_x2)] ce sl 110 []) → (otag = 1 → G X [(a, .inr (0, [.ref a_kinds, .ref a_town, .ref a_tried, .ref a_fell, .int falls, .int tears, .ref a_tape, .int typed, .int place, .ref a_read, .ref a_undos, .ref a_kept, .ref a_keptUndos, .int isKept, .ref a_sheets, .ref a_taken])), (a_kinds, .inl (X.E 5, 5, .inr (.inr (.inr (.inr (kq a_kinds_0 a_kinds_1 a_kinds_2 a_kinds_3 a_kinds_4)))))), (a_kinds_0, .inr (1, [])), (a_kinds_1, .inr (2, [])), (a_kinds_2, .inr (3, [])), (a_kinds_3, .inr (4, [])), (a_kinds_4, .inr (5, [])), (a_fell, .inl (X.E 1, 8, .inl fell)), (a_t1, .inr (6, [.ref a_t1_kind, .ref a_t1_strength, .ref a_t1_place, .ref a_t1_length, .ref a_t1_gives, .ref a_t1_over, .ref a_t1_under, .int t1_n, .int t1_holders, .int t1_cuts, .int t1_hour, .int t1_bears, .int t1_draw, .ref a])), (a_t1_kind, .inl (X.E 0, 8, .inl t1_kind)), (a_t1_strength, .inl (X.E 0, 8, .inl t1_strength)), (a_t1_place, .inl (X.E 0, 8, .inl t1_place)), (a_t1_length, .inl (X.E 0, 8, .inl t1_length)), (a_t1_gives, .inl (X.E 0, 8, .inl t1_gives)), (a_t1_over, .inl (X.E 1, 8, .inl t1_over)), (a_t1_under, .inl (X.E 1, 8, .inl t1_under))] [(0, .ref a)] ce sl 141 []) → G X [(a, .inr (0, [.ref a_kinds, .ref a_town, .ref a_tried, .ref a_fell, .int falls, .int tears, .ref a_tape, .int typed, .int place, .ref a_read, .ref a_undos, .ref a_kept, .ref a_keptUndos, .int isKept, .ref a_sheets, .ref a_taken])), (a_kinds, .inl (X.E 5, 5, .inr (.inr (.inr (.inr (kq a_kinds_0 a_kinds_1 a_kinds_2 a_kinds_3 a_kinds_4)))))), (a_kinds_0, .inr (1, [])), (a_kinds_1, .inr (2, [])), (a_kinds_2, .inr (3, [])), (a_kinds_3, .inr (4, [])), (a_kinds_4, .inr (5, [])), (a_fell, .inl (X.E 1, 8, .inl fell)), (a_t1, .inr (6, [.ref a_t1_kind, .ref a_t1_strength, .ref a_t1_place, .ref a_t1_length, .ref a_t1_gives, .ref a_t1_over, .ref a_t1_under, .int t1_n, .int t1_holders, .int t1_cuts, .int t1_hour, .int t1_bears, .int t1_draw, .ref a])), (a_t1_kind, .inl (X.E 0, 8, .inl t1_kind)), (a_t1_strength, .inl (X.E 0, 8, .inl t1_strength)), (a_t1_place, .inl (X.E 0, 8, .inl t1_place)), (a_t1_length, .inl (X.E 0, 8, .inl t1_length)), (a_t1_gives, .inl (X.E 0, 8, .inl t1_gives)), (a_t1_over, .inl (X.E 1, 8, .inl t1_over)), (a_t1_under, .inl (X.E 1, 8, .inl t1_under))] [(0, .ref a), (1, .ref a_t1), (2, .int x2)] ce sl 67 [] := by
  intro n0
  induction n0 with
  | zero => intro x2 otag o_x2 hf; exact nomatch (show (none : Option _) = some _ from hf)
  | succ n0 ih =>
    intro x2 otag o_x2 hf k0 k1
    replace hf : t_X0_settles_L67 t1_n t1_holders t1_hour t1_kind t1_strength t1_over t1_under (f_X0_settles_L67 t1_n t1_holders t1_hour t1_kind t1_strength t1_over t1_under n0) x2 = some (otag, o_x2) := hf
    unfold t_X0_settles_L67 at hf
    refine g_iload_n h 2 dX0_settles_67 rfl rfl ?_
    refine g_aload_n h 1 dX0_settles_68 rfl rfl ?_
    refine g_getN (ci := 6) (v := .int t1_n) h in_X6 8 7 rfl rfl (fle rfl) rfl q564 rfl dX0_settles_69 ?_
    refine g_icmp_ge (tgt := 141) h dX0_settles_72 rfl hf (fun c10 hf => ?_) (fun c10 hf => ?_)
    · obtain ⟨rfl, rfl⟩ := sj2 hf
      exact G.lsub [0] rfl (k1 rfl)
    · refine g_aload_n h 1 dX0_settles_75 rfl rfl ?_
      refine g_iload_n h 2 dX0_settles_76 rfl rfl ?_
      obtain ⟨r_11, hv, hf⟩ := ob1 hf
      refine g_callV (ci := 6) (q0 := 8) (n := 1) (As := [.int x2]) (st := []) (wr := [(a, .inr (0, [.ref a_kinds, .ref a_town, .ref a_tried, .ref a_fell, .int falls, .int tears, .ref a_tape, .int typed, .int place, .ref a_read, .ref a_undos, .ref a_kept, .ref a_keptUndos, .int isKept, .ref a_sheets, .ref a_taken])), (a_kinds, .inl (X.E 5, 5, .inr (.inr (.inr (.inr (kq a_kinds_0 a_kinds_1 a_kinds_2 a_kinds_3 a_kinds_4)))))), (a_kinds_0, .inr (1, [])), (a_kinds_1, .inr (2, [])), (a_kinds_2, .inr (3, [])), (a_kinds_3, .inr (4, [])), (a_kinds_4, .inr (5, [])), (a_fell, .inl (X.E 1, 8, .inl fell)), (a_t1_kind, .inl (X.E 0, 8, .inl t1_kind)), (a_t1_strength, .inl (X.E 0, 8, .inl t1_strength)), (a_t1_place, .inl (X.E 0, 8, .inl t1_place)), (a_t1_length, .inl (X.E 0, 8, .inl t1_length)), (a_t1_gives, .inl (X.E 0, 8, .inl t1_gives)), (a_t1_over, .inl (X.E 1, 8, .inl t1_over)), (a_t1_under, .inl (X.E 1, 8, .inl t1_under))]) (isC := [8]) (isR := [0, 1, 2, 3, 4, 5, 6, 7, 9, 10, 11, 12, 13, 14, 15]) h hR (ct_X6_holds (a := a_t1) (a_kind := a_t1_kind) (a_strength := a_t1_strength) (a_place := a_t1_place) (a_length := a_t1_length) (a_gives := a_t1_gives) (a_over := a_t1_over) (a_under := a_t1_under) (a_this0 := a) (x1 := x2) (n := t1_n) (holders := t1_holders) (cuts := t1_cuts) (hour := t1_hour) (bears := t1_bears) (draw := t1_draw) hv) rfl rfl (lw_V q155 q143 q144 q76 q145) (by decide +kernel) rfl ⟨rfl, rfl, rfl, rfl, by decide⟩ ⟨hce, hsl, fle rfl, fle rfl, fle rfl⟩ rfl dX0_settles_77 (pin (perm := [0, 1, 2, 3, 4, 5, 6, 7, 15, 8, 9, 10, 11, 12, 13, 14]) (ws' := [(a, .inr (0, [.ref a_kinds, .ref a_town, .ref a_tried, .ref a_fell, .int falls, .int tears, .ref a_tape, .int typed, .int place, .ref a_read, .ref a_undos, .ref a_kept, .ref a_keptUndos, .int isKept, .ref a_sheets, .ref a_taken])), (a_kinds, .inl (X.E 5, 5, .inr (.inr (.inr (.inr (kq a_kinds_0 a_kinds_1 a_kinds_2 a_kinds_3 a_kinds_4)))))), (a_kinds_0, .inr (1, [])), (a_kinds_1, .inr (2, [])), (a_kinds_2, .inr (3, [])), (a_kinds_3, .inr (4, [])), (a_kinds_4, .inr (5, [])), (a_fell, .inl (X.E 1, 8, .inl fell)), (a_t1, .inr (6, [.ref a_t1_kind, .ref a_t1_strength, .ref a_t1_place, .ref a_t1_length, .ref a_t1_gives, .ref a_t1_over, .ref a_t1_under, .int t1_n, .int t1_holders, .int t1_cuts, .int t1_hour, .int t1_bears, .int t1_draw, .ref a])), (a_t1_kind, .inl (X.E 0, 8, .inl t1_kind)), (a_t1_strength, .inl (X.E 0, 8, .inl t1_strength)), (a_t1_place, .inl (X.E 0, 8, .inl t1_place)), (a_t1_length, .inl (X.E 0, 8, .inl t1_length)), (a_t1_gives, .inl (X.E 0, 8, .inl t1_gives)), (a_t1_over, .inl (X.E 1, 8, .inl t1_over)), (a_t1_under, .inl (X.E 1, 8, .inl t1_under))]) (stk := [.int r_11]) rfl rfl rfl ?_)
      clear hv
      refine g_if_eq (tgt := 135) h dX0_settles_80 rfl hf (fun c12 hf => ?_) (fun c12 hf => ?_)
      · refine g_iinc (j := 2) (v := (x2 + 1)) (lv' := [(2, .int (x2 + 1)), (0, .ref a), (1, .ref a_t1)]) h dX0_settles_135 rfl (kinc_1 _) (hL 2 (fle rfl)) rfl ?_
        refine g_goto (tgt := 67) h dX0_settles_138 rfl ?_
        exact G.lsub [1, 2, 0] rfl (ih _ hf k0 k1)
      · refine g_aload_n h 1 dX0_settles_83 rfl rfl ?_
        refine g_iload_n h 2 dX0_settles_84 rfl rfl ?_
        obtain ⟨r_13, hv, hf⟩ := ob1 hf
        refine g_callV (ci := 6) (q0 := 8) (n := 1) (As := [.int x2]) (st := []) (wr := [(a, .inr (0, [.ref a_kinds, .ref a_town, .ref a_tried, .ref a_fell, .int falls, .int tears, .ref a_tape, .int typed, .int place, .ref a_read, .ref a_undos, .ref a_kept, .ref a_keptUndos, .int isKept, .ref a_sheets, .ref a_taken])), (a_kinds, .inl (X.E 5, 5, .inr (.inr (.inr (.inr (kq a_kinds_0 a_kinds_1 a_kinds_2 a_kinds_3 a_kinds_4)))))), (a_kinds_0, .inr (1, [])), (a_kinds_1, .inr (2, [])), (a_kinds_2, .inr (3, [])), (a_kinds_3, .inr (4, [])), (a_kinds_4, .inr (5, [])), (a_fell, .inl (X.E 1, 8, .inl fell)), (a_t1_kind, .inl (X.E 0, 8, .inl t1_kind)), (a_t1_strength, .inl (X.E 0, 8, .inl t1_strength)), (a_t1_place, .inl (X.E 0, 8, .inl t1_place)), (a_t1_length, .inl (X.E 0, 8, .inl t1_length)), (a_t1_gives, .inl (X.E 0, 8, .inl t1_gives))]) (isC := [8, 14, 15]) (isR := [0, 1, 2, 3, 4, 5, 6, 7, 9, 10, 11, 12, 13]) h hR (ct_X6_pulledBy (a := a_t1) (a_kind := a_t1_kind) (a_strength := a_t1_strength) (a_place := a_t1_place) (a_length := a_t1_length) (a_gives := a_t1_gives) (a_over := a_t1_over) (a_under := a_t1_under) (a_this0 := a) (x1 := x2) (n := t1_n) (holders := t1_holders) (cuts := t1_cuts) (hour := t1_hour) (bears := t1_bears) (draw := t1_draw) (over := t1_over) (under := t1_under) hv) rfl rfl (lw_V q156 q157 q158 q76 q159) (by decide +kernel) rfl ⟨rfl, rfl, rfl, rfl, by decide⟩ ⟨hce, hsl, fle rfl, fle rfl, fle rfl⟩ rfl dX0_settles_85 (pin (perm := [0, 1, 2, 3, 4, 5, 6, 7, 13, 8, 9, 10, 11, 12, 14, 15]) (ws' := [(a, .inr (0, [.ref a_kinds, .ref a_town, .ref a_tried, .ref a_fell, .int falls, .int tears, .ref a_tape, .int typed, .int place, .ref a_read, .ref a_undos, .ref a_kept, .ref a_keptUndos, .int isKept, .ref a_sheets, .ref a_taken])), (a_kinds, .inl (X.E 5, 5, .inr (.inr (.inr (.inr (kq a_kinds_0 a_kinds_1 a_kinds_2 a_kinds_3 a_kinds_4)))))), (a_kinds_0, .inr (1, [])), (a_kinds_1, .inr (2, [])), (a_kinds_2, .inr (3, [])), (a_kinds_3, .inr (4, [])), (a_kinds_4, .inr (5, [])), (a_fell, .inl (X.E 1, 8, .inl fell)), (a_t1, .inr (6, [.ref a_t1_kind, .ref a_t1_strength, .ref a_t1_place, .ref a_t1_length, .ref a_t1_gives, .ref a_t1_over, .ref a_t1_under, .int t1_n, .int t1_holders, .int t1_cuts, .int t1_hour, .int t1_bears, .int t1_draw, .ref a])), (a_t1_kind, .inl (X.E 0, 8, .inl t1_kind)), (a_t1_strength, .inl (X.E 0, 8, .inl t1_strength)), (a_t1_place, .inl (X.E 0, 8, .inl t1_place)), (a_t1_length, .inl (X.E 0, 8, .inl t1_length)), (a_t1_gives, .inl (X.E 0, 8, .inl t1_gives)), (a_t1_over, .inl (X.E 1, 8, .inl t1_over)), (a_t1_under, .inl (X.E 1, 8, .inl t1_under))]) (stk := [.long r_13]) rfl rfl rfl ?_)
        clear hv
        obtain ⟨r_14, hv, hf⟩ := ob1 hf
        refine g_callS (n := 1) (As := [.long r_13]) (st := []) (wr := [(a, .inr (0, [.ref a_kinds, .ref a_town, .ref a_tried, .ref a_fell, .int falls, .int tears, .ref a_tape, .int typed, .int place, .ref a_read, .ref a_undos, .ref a_kept, .ref a_keptUndos, .int isKept, .ref a_sheets, .ref a_taken])), (a_kinds, .inl (X.E 5, 5, .inr (.inr (.inr (.inr (kq a_kinds_0 a_kinds_1 a_kinds_2 a_kinds_3 a_kinds_4)))))), (a_kinds_0, .inr (1, [])), (a_kinds_1, .inr (2, [])), (a_kinds_2, .inr (3, [])), (a_kinds_3, .inr (4, [])), (a_kinds_4, .inr (5, [])), (a_fell, .inl (X.E 1, 8, .inl fell)), (a_t1, .inr (6, [.ref a_t1_kind, .ref a_t1_strength, .ref a_t1_place, .ref a_t1_length, .ref a_t1_gives, .ref a_t1_over, .ref a_t1_under, .int t1_n, .int t1_holders, .int t1_cuts, .int t1_hour, .int t1_bears, .int t1_draw, .ref a])), (a_t1_kind, .inl (X.E 0, 8, .inl t1_kind)), (a_t1_strength, .inl (X.E 0, 8, .inl t1_strength)), (a_t1_place, .inl (X.E 0, 8, .inl t1_place)), (a_t1_length, .inl (X.E 0, 8, .inl t1_length)), (a_t1_gives, .inl (X.E 0, 8, .inl t1_gives)), (a_t1_over, .inl (X.E 1, 8, .inl t1_over)), (a_t1_under, .inl (X.E 1, 8, .inl t1_under))]) (isC := []) (isR := [0, 1, 2, 3, 4, 5, 6, 7, 8, 9, 10, 11, 12, 13, 14, 15]) h hR (ct_J2_abs (x0 := r_13) hv) (lw_S q164 q165 q81 q166) (by decide +kernel) rfl ⟨rfl, rfl, rfl, rfl, by decide⟩ ⟨hce, hsl, fle rfl, fle rfl, fle rfl⟩ rfl dX0_settles_88 (pin (perm := [0, 1, 2, 3, 4, 5, 6, 7, 8, 9, 10, 11, 12, 13, 14, 15]) (ws' := [(a, .inr (0, [.ref a_kinds, .ref a_town, .ref a_tried, .ref a_fell, .int falls, .int tears, .ref a_tape, .int typed, .int place, .ref a_read, .ref a_undos, .ref a_kept, .ref a_keptUndos, .int isKept, .ref a_sheets, .ref a_taken])), (a_kinds, .inl (X.E 5, 5, .inr (.inr (.inr (.inr (kq a_kinds_0 a_kinds_1 a_kinds_2 a_kinds_3 a_kinds_4)))))), (a_kinds_0, .inr (1, [])), (a_kinds_1, .inr (2, [])), (a_kinds_2, .inr (3, [])), (a_kinds_3, .inr (4, [])), (a_kinds_4, .inr (5, [])), (a_fell, .inl (X.E 1, 8, .inl fell)), (a_t1, .inr (6, [.ref a_t1_kind, .ref a_t1_strength, .ref a_t1_place, .ref a_t1_length, .ref a_t1_gives, .ref a_t1_over, .ref a_t1_under, .int t1_n, .int t1_holders, .int t1_cuts, .int t1_hour, .int t1_bears, .int t1_draw, .ref a])), (a_t1_kind, .inl (X.E 0, 8, .inl t1_kind)), (a_t1_strength, .inl (X.E 0, 8, .inl t1_strength)), (a_t1_place, .inl (X.E 0, 8, .inl t1_place)), (a_t1_length, .inl (X.E 0, 8, .inl t1_length)), (a_t1_gives, .inl (X.E 0, 8, .inl t1_gives)), (a_t1_over, .inl (X.E 1, 8, .inl t1_over)), (a_t1_under, .inl (X.E 1, 8, .inl t1_under))]) (stk := [.long r_14]) rfl rfl rfl ?_)
        clear hv
        refine g_aload_n h 1 dX0_settles_91 rfl rfl ?_
        refine g_iload_n h 2 dX0_settles_92 rfl rfl ?_
        obtain ⟨r_15, hv, hf⟩ := ob1 hf
        refine g_callV (ci := 6) (q0 := 8) (n := 1) (As := [.int x2]) (st := [.long r_14]) (wr := [(a_fell, .inl (X.E 1, 8, .inl fell)), (a_t1_place, .inl (X.E 0, 8, .inl t1_place)), (a_t1_length, .inl (X.E 0, 8, .inl t1_length)), (a_t1_gives, .inl (X.E 0, 8, .inl t1_gives)), (a_t1_over, .inl (X.E 1, 8, .inl t1_over)), (a_t1_under, .inl (X.E 1, 8, .inl t1_under))]) (isC := [8, 9, 10, 0, 1, 2, 3, 4, 5, 6]) (isR := [7, 11, 12, 13, 14, 15]) h hR (ct_X6_holdsOut (a := a_t1) (a_kind := a_t1_kind) (a_strength := a_t1_strength) (a_place := a_t1_place) (a_length := a_t1_length) (a_gives := a_t1_gives) (a_over := a_t1_over) (a_under := a_t1_under) (a_this0 := a) (a_this0_kinds := a_kinds) (a_this0_town := a_town) (a_this0_tried := a_tried) (a_this0_fell := a_fell) (a_this0_tape := a_tape) (a_this0_read := a_read) (a_this0_undos := a_undos) (a_this0_kept := a_kept) (a_this0_keptUndos := a_keptUndos) (a_this0_sheets := a_sheets) (a_this0_taken := a_taken) (a_this0_kinds_0 := a_kinds_0) (a_this0_kinds_1 := a_kinds_1) (a_this0_kinds_2 := a_kinds_2) (a_this0_kinds_3 := a_kinds_3) (a_this0_kinds_4 := a_kinds_4) (x1 := x2) (n := t1_n) (holders := t1_holders) (cuts := t1_cuts) (hour := t1_hour) (bears := t1_bears) (draw := t1_draw) (kind := t1_kind) (strength := t1_strength) (this0_falls := falls) (this0_tears := tears) (this0_typed := typed) (this0_place := place) (this0_isKept := isKept) hv) rfl rfl (lw_V q167 q168 q169 q76 q170) (by decide +kernel) rfl ⟨rfl, rfl, rfl, rfl, by decide⟩ ⟨hce, hsl, fle rfl, fle rfl, fle rfl⟩ rfl dX0_settles_93 (pin (perm := [9, 10, 11, 12, 13, 14, 15, 0, 6, 7, 8, 1, 2, 3, 4, 5]) (ws' := [(a, .inr (0, [.ref a_kinds, .ref a_town, .ref a_tried, .ref a_fell, .int falls, .int tears, .ref a_tape, .int typed, .int place, .ref a_read, .ref a_undos, .ref a_kept, .ref a_keptUndos, .int isKept, .ref a_sheets, .ref a_taken])), (a_kinds, .inl (X.E 5, 5, .inr (.inr (.inr (.inr (kq a_kinds_0 a_kinds_1 a_kinds_2 a_kinds_3 a_kinds_4)))))), (a_kinds_0, .inr (1, [])), (a_kinds_1, .inr (2, [])), (a_kinds_2, .inr (3, [])), (a_kinds_3, .inr (4, [])), (a_kinds_4, .inr (5, [])), (a_fell, .inl (X.E 1, 8, .inl fell)), (a_t1, .inr (6, [.ref a_t1_kind, .ref a_t1_strength, .ref a_t1_place, .ref a_t1_length, .ref a_t1_gives, .ref a_t1_over, .ref a_t1_under, .int t1_n, .int t1_holders, .int t1_cuts, .int t1_hour, .int t1_bears, .int t1_draw, .ref a])), (a_t1_kind, .inl (X.E 0, 8, .inl t1_kind)), (a_t1_strength, .inl (X.E 0, 8, .inl t1_strength)), (a_t1_place, .inl (X.E 0, 8, .inl t1_place)), (a_t1_length, .inl (X.E 0, 8, .inl t1_length)), (a_t1_gives, .inl (X.E 0, 8, .inl t1_gives)), (a_t1_over, .inl (X.E 1, 8, .inl t1_over)), (a_t1_under, .inl (X.E 1, 8, .inl t1_under))]) (stk := [.int r_15, .long r_14]) rfl rfl rfl ?_)
        clear hv
        refine g_i2l h dX0_settles_96 ?_
        refine g_aload_n h 1 dX0_settles_97 rfl rfl ?_
        refine g_iload_n h 2 dX0_settles_98 rfl rfl ?_
        obtain ⟨r_16, hv, hf⟩ := ob1 hf
        refine g_callV (ci := 6) (q0 := 8) (n := 1) (As := [.int x2]) (st := [.long r_15.toInt64, .long r_14]) (wr := [(a, .inr (0, [.ref a_kinds, .ref a_town, .ref a_tried, .ref a_fell, .int falls, .int tears, .ref a_tape, .int typed, .int place, .ref a_read, .ref a_undos, .ref a_kept, .ref a_keptUndos, .int isKept, .ref a_sheets, .ref a_taken])), (a_kinds, .inl (X.E 5, 5, .inr (.inr (.inr (.inr (kq a_kinds_0 a_kinds_1 a_kinds_2 a_kinds_3 a_kinds_4)))))), (a_kinds_0, .inr (1, [])), (a_kinds_1, .inr (2, [])), (a_kinds_2, .inr (3, [])), (a_kinds_3, .inr (4, [])), (a_kinds_4, .inr (5, [])), (a_fell, .inl (X.E 1, 8, .inl fell)), (a_t1_kind, .inl (X.E 0, 8, .inl t1_kind)), (a_t1_strength, .inl (X.E 0, 8, .inl t1_strength)), (a_t1_place, .inl (X.E 0, 8, .inl t1_place)), (a_t1_length, .inl (X.E 0, 8, .inl t1_length)), (a_t1_gives, .inl (X.E 0, 8, .inl t1_gives)), (a_t1_over, .inl (X.E 1, 8, .inl t1_over))]) (isC := [8, 15]) (isR := [0, 1, 2, 3, 4, 5, 6, 7, 9, 10, 11, 12, 13, 14]) h hR (ct_X6_pulledBelow (a := a_t1) (a_kind := a_t1_kind) (a_strength := a_t1_strength) (a_place := a_t1_place) (a_length := a_t1_length) (a_gives := a_t1_gives) (a_over := a_t1_over) (a_under := a_t1_under) (a_this0 := a) (x1 := x2) (n := t1_n) (holders := t1_holders) (cuts := t1_cuts) (hour := t1_hour) (bears := t1_bears) (draw := t1_draw) (under := t1_under) hv) rfl rfl (lw_V q222 q223 q224 q76 q225) (by decide +kernel) rfl ⟨rfl, rfl, rfl, rfl, by decide⟩ ⟨hce, hsl, fle rfl, fle rfl, fle rfl⟩ rfl dX0_settles_99 (pin (perm := [0, 1, 2, 3, 4, 5, 6, 7, 14, 8, 9, 10, 11, 12, 13, 15]) (ws' := [(a, .inr (0, [.ref a_kinds, .ref a_town, .ref a_tried, .ref a_fell, .int falls, .int tears, .ref a_tape, .int typed, .int place, .ref a_read, .ref a_undos, .ref a_kept, .ref a_keptUndos, .int isKept, .ref a_sheets, .ref a_taken])), (a_kinds, .inl (X.E 5, 5, .inr (.inr (.inr (.inr (kq a_kinds_0 a_kinds_1 a_kinds_2 a_kinds_3 a_kinds_4)))))), (a_kinds_0, .inr (1, [])), (a_kinds_1, .inr (2, [])), (a_kinds_2, .inr (3, [])), (a_kinds_3, .inr (4, [])), (a_kinds_4, .inr (5, [])), (a_fell, .inl (X.E 1, 8, .inl fell)), (a_t1, .inr (6, [.ref a_t1_kind, .ref a_t1_strength, .ref a_t1_place, .ref a_t1_length, .ref a_t1_gives, .ref a_t1_over, .ref a_t1_under, .int t1_n, .int t1_holders, .int t1_cuts, .int t1_hour, .int t1_bears, .int t1_draw, .ref a])), (a_t1_kind, .inl (X.E 0, 8, .inl t1_kind)), (a_t1_strength, .inl (X.E 0, 8, .inl t1_strength)), (a_t1_place, .inl (X.E 0, 8, .inl t1_place)), (a_t1_length, .inl (X.E 0, 8, .inl t1_length)), (a_t1_gives, .inl (X.E 0, 8, .inl t1_gives)), (a_t1_over, .inl (X.E 1, 8, .inl t1_over)), (a_t1_under, .inl (X.E 1, 8, .inl t1_under))]) (stk := [.long r_16, .long r_15.toInt64, .long r_14]) rfl rfl rfl ?_)
        clear hv
        refine g_lmul h dX0_settles_102 ?_
        refine g_lcmp h dX0_settles_103 ?_
        refine g_if_gt (tgt := 110) h dX0_settles_104 rfl hf (fun c17 hf => ?_) (fun c17 hf => ?_)
        · obtain ⟨rfl, rfl⟩ := sj2 hf
          exact G.lsub [0, 1, 2] rfl (k0 rfl)
        · refine g_goto (tgt := 135) h dX0_settles_107 rfl ?_
          refine g_iinc (j := 2) (v := (x2 + 1)) (lv' := [(2, .int (x2 + 1)), (0, .ref a), (1, .ref a_t1)]) h dX0_settles_135 rfl (kinc_1 _) (hL 2 (fle rfl)) rfl ?_
          refine g_goto (tgt := 67) h dX0_settles_138 rfl ?_
          exact G.lsub [1, 2, 0] rfl (ih _ hf k0 k1)
set_option maxHeartbeats 4000000 in
set_option maxRecDepth 100000 in
theorem w_X0_settles_L10 {X : Cx} {a a_fell a_kept a_keptUndos a_kinds a_kinds_0 a_kinds_1 a_kinds_2 a_kinds_3 a_kinds_4 a_read a_sheets a_t1 a_t1_gives a_t1_kind a_t1_length a_t1_over a_t1_place a_t1_strength a_t1_under a_taken a_tape a_town a_tried a_undos : Nat} {typed : Int32} {place : Int32} {isKept : Int32} {t1_n : Int32} {t1_hour : Int32} {t1_bears : Int32} {t1_draw : Int32} {t1_kind : Nat → Int32} {t1_strength : Nat → Int32} {t1_place : Nat → Int32} {t1_length : Nat → Int32} {t1_gives : Nat → Int32} {ce sl : Nat} (h : Ok X cX0_settles RX0) (hR : Rm X 5 116 0 0) (hL : ∀ i, i < 3 → i < X.nL) (hce : ce ≤ 0) (hsl : sl ≤ 0) : ∀ (n0 : Nat) (falls : Int32) (tears : Int32) (fell : Nat → Int32) (t1_holders : Int32) (t1_cuts : Int32) (t1_over : Nat → Int32) (t1_under : Nat → Int32) {o_falls : Int32} {o_tears : Int32} {o_fell : Nat → Int32} {o_t1_holders : Int32} {o_t1_cuts : Int32} {o_t1_over : Nat → Int32} {o_t1_under : Nat → Int32}, f_X0_settles_L10 t1_n t1_hour t1_bears t1_kind t1_strength t1_place t1_length t1_gives n0 falls tears fell t1_holders t1_cuts t1_over t1_under = some (o_falls, o_tears, o_fell, o_t1_holders, o_t1_cuts, o_t1_over, o_t1_under) → (G X [(a, .inr (0, [.ref a_kinds, .ref a_town, .ref a_tried, .ref a_fell, .int o_falls, .int o_tears, .ref a_tape, .int typed, .int place, .ref a_read, .ref a_undos, .ref a_kept, .ref a_keptUndos, .int isKept, .ref a_sheets, .ref a_taken])), (a_kinds, .inl (X.E 5, 5, .inr (.inr (.inr (.inr (kq a_kinds_0 a_kinds_1 a_kinds_2 a_kinds_3 a_kinds_4)))))), (a_kinds_0, .inr (1, [])), (a_kinds_1, .inr (2, [])), (a_kinds_2, .inr (3, [])), (a_kinds_3, .inr (4, [])), (a_kinds_4, .inr (5, [])), (a_fell, .inl (X.E 1, 8, .inl o_fell)), (a_t1, .inr (6, [.ref a_t1_kind, .ref a_t1_strength, .ref a_t1_place, .ref a_t1_length, .ref a_t1_gives, .ref a_t1_over, .ref a_t1_under, .int t1_n, .int o_t1_holders, .int o_t1_cuts, .int t1_hour, .int t1_bears, .int t1_draw, .ref a])), (a_t1_kind, .inl (X.E 0, 8, .inl t1_kind)), (a_t1_strength, .inl (X.E 0, 8, .inl t1_strength)), (a_t1_place, .inl (X.E 0, 8, .inl t1_place)), (a_t1_length, .inl (X.E 0, 8, .inl t1_length)), (a_t1_gives, .inl (X.E 0, 8, .inl t1_gives)), (a_t1_over, .inl (X.E 1, 8, .inl o_t1_over)), (a_t1_under, .inl (X.E 1, 8, .inl o_t1_under))] [(0, .ref a)] ce sl 141 []) → G X [(a, .inr (0, [.ref a_kinds, .ref a_town, .ref a_tried, .ref a_fell, .int falls, .int tears, .ref a_tape, .int typed, .int place, .ref a_read, .ref a_undos, .ref a_kept, .ref a_keptUndos, .int isKept, .ref a_sheets, .ref a_taken])), (a_kinds, .inl (X.E 5, 5, .inr (.inr (.inr (.inr (kq a_kinds_0 a_kinds_1 a_kinds_2 a_kinds_3 a_kinds_4)))))), (a_kinds_0, .inr (1, [])), (a_kinds_1, .inr (2, [])), (a_kinds_2, .inr (3, [])), (a_kinds_3, .inr (4, [])), (a_kinds_4, .inr (5, [])), (a_fell, .inl (X.E 1, 8, .inl fell)), (a_t1, .inr (6, [.ref a_t1_kind, .ref a_t1_strength, .ref a_t1_place, .ref a_t1_length, .ref a_t1_gives, .ref a_t1_over, .ref a_t1_under, .int t1_n, .int t1_holders, .int t1_cuts, .int t1_hour, .int t1_bears, .int t1_draw, .ref a])), (a_t1_kind, .inl (X.E 0, 8, .inl t1_kind)), (a_t1_strength, .inl (X.E 0, 8, .inl t1_strength)), (a_t1_place, .inl (X.E 0, 8, .inl t1_place)), (a_t1_length, .inl (X.E 0, 8, .inl t1_length)), (a_t1_gives, .inl (X.E 0, 8, .inl t1_gives)), (a_t1_over, .inl (X.E 1, 8, .inl t1_over)), (a_t1_under, .inl (X.E 1, 8, .inl t1_under))] [(0, .ref a), (1, .ref a_t1)] ce sl 10 [] := by
  intro n0
  induction n0 with
  | zero => intro falls tears fell t1_holders t1_cuts t1_over t1_under o_falls o_tears o_fell o_t1_holders o_t1_cuts o_t1_over o_t1_under hf; exact nomatch (show (none : Option _) = some _ from hf)
  | succ n0 ih =>
    intro falls tears fell t1_holders t1_cuts t1_over t1_under o_falls o_tears o_fell o_t1_holders o_t1_cuts o_t1_over o_t1_under hf k0
    replace hf : t_X0_settles_L10 t1_n t1_hour t1_bears t1_kind t1_strength t1_place t1_length t1_gives (f_X0_settles_L10 t1_n t1_hour t1_bears t1_kind t1_strength t1_place t1_length t1_gives n0) falls tears fell t1_holders t1_cuts t1_over t1_under = some (o_falls, o_tears, o_fell, o_t1_holders, o_t1_cuts, o_t1_over, o_t1_under) := hf
    unfold t_X0_settles_L10 at hf
    refine g_aload_n h 1 dX0_settles_10 rfl rfl ?_
    obtain ⟨t1_over_1, t1_under_2, hv, hf⟩ := ob2 hf
    refine g_callV (ci := 6) (q0 := 8) (n := 0) (As := []) (st := []) (wr := [(a, .inr (0, [.ref a_kinds, .ref a_town, .ref a_tried, .ref a_fell, .int falls, .int tears, .ref a_tape, .int typed, .int place, .ref a_read, .ref a_undos, .ref a_kept, .ref a_keptUndos, .int isKept, .ref a_sheets, .ref a_taken])), (a_kinds, .inl (X.E 5, 5, .inr (.inr (.inr (.inr (kq a_kinds_0 a_kinds_1 a_kinds_2 a_kinds_3 a_kinds_4)))))), (a_kinds_0, .inr (1, [])), (a_kinds_1, .inr (2, [])), (a_kinds_2, .inr (3, [])), (a_kinds_3, .inr (4, [])), (a_kinds_4, .inr (5, [])), (a_fell, .inl (X.E 1, 8, .inl fell)), (a_t1_kind, .inl (X.E 0, 8, .inl t1_kind)), (a_t1_strength, .inl (X.E 0, 8, .inl t1_strength))]) (isC := [8, 11, 12, 13, 14, 15]) (isR := [0, 1, 2, 3, 4, 5, 6, 7, 9, 10]) h hR (ct_X6_measured (a := a_t1) (a_kind := a_t1_kind) (a_strength := a_t1_strength) (a_place := a_t1_place) (a_length := a_t1_length) (a_gives := a_t1_gives) (a_over := a_t1_over) (a_under := a_t1_under) (a_this0 := a) (n := t1_n) (holders := t1_holders) (cuts := t1_cuts) (hour := t1_hour) (bears := t1_bears) (draw := t1_draw) (place := t1_place) (length := t1_length) (gives := t1_gives) (over := t1_over) (under := t1_under) hv) rfl rfl (lw_V q134 q135 q136 q76 q137) (by decide +kernel) rfl ⟨rfl, rfl, rfl, rfl, by decide⟩ ⟨hce, hsl, fle rfl, fle rfl, fle rfl⟩ rfl dX0_settles_11 (pin (perm := [0, 1, 2, 3, 4, 5, 6, 7, 10, 8, 9, 11, 12, 13, 14, 15]) (ws' := [(a, .inr (0, [.ref a_kinds, .ref a_town, .ref a_tried, .ref a_fell, .int falls, .int tears, .ref a_tape, .int typed, .int place, .ref a_read, .ref a_undos, .ref a_kept, .ref a_keptUndos, .int isKept, .ref a_sheets, .ref a_taken])), (a_kinds, .inl (X.E 5, 5, .inr (.inr (.inr (.inr (kq a_kinds_0 a_kinds_1 a_kinds_2 a_kinds_3 a_kinds_4)))))), (a_kinds_0, .inr (1, [])), (a_kinds_1, .inr (2, [])), (a_kinds_2, .inr (3, [])), (a_kinds_3, .inr (4, [])), (a_kinds_4, .inr (5, [])), (a_fell, .inl (X.E 1, 8, .inl fell)), (a_t1, .inr (6, [.ref a_t1_kind, .ref a_t1_strength, .ref a_t1_place, .ref a_t1_length, .ref a_t1_gives, .ref a_t1_over, .ref a_t1_under, .int t1_n, .int t1_holders, .int t1_cuts, .int t1_hour, .int t1_bears, .int t1_draw, .ref a])), (a_t1_kind, .inl (X.E 0, 8, .inl t1_kind)), (a_t1_strength, .inl (X.E 0, 8, .inl t1_strength)), (a_t1_place, .inl (X.E 0, 8, .inl t1_place)), (a_t1_length, .inl (X.E 0, 8, .inl t1_length)), (a_t1_gives, .inl (X.E 0, 8, .inl t1_gives)), (a_t1_over, .inl (X.E 1, 8, .inl t1_over_1)), (a_t1_under, .inl (X.E 1, 8, .inl t1_under_2))]) (stk := [.ref a_t1]) rfl rfl rfl ?_)
    clear hv
    refine g_pop h dX0_settles_14 rfl ?_
    refine g_iconst (v := 0) h dX0_settles_15 kiconst_0 ?_
    refine g_istore_n (lv' := [(2, .int 0), (0, .ref a), (1, .ref a_t1)]) h dX0_settles_16 rfl (hL 2 (fle rfl)) rfl ?_
    refine G.lsub (lv' := [(0, .ref a), (1, .ref a_t1), (2, .int 0)]) [1, 2, 0] rfl ?_
    obtain ⟨tag_6, x2_7, hv, hf⟩ := ob2 hf
    refine w_X0_settles_L17 (falls := falls) (tears := tears) (typed := typed) (place := place) (isKept := isKept) (fell := fell) (t1_n := t1_n) (t1_holders := t1_holders) (t1_cuts := t1_cuts) (t1_hour := t1_hour) (t1_bears := t1_bears) (t1_draw := t1_draw) (t1_kind := t1_kind) (t1_strength := t1_strength) (t1_place := t1_place) (t1_length := t1_length) (t1_gives := t1_gives) (t1_over := t1_over_1) (t1_under := t1_under_2) h hR hL hce hsl FU _ hv ?_ ?_
    · intro ht
      have hf := (if_pos ht).symm.trans hf
      clear hv
      refine g_aload_n h 0 dX0_settles_50 rfl rfl ?_
      refine g_aload_n h 1 dX0_settles_51 rfl rfl ?_
      refine g_iload_n h 2 dX0_settles_52 rfl rfl ?_
      obtain ⟨tears_8, t1_cuts_9, hv, hf⟩ := ob2 hf
      refine g_callV (ci := 0) (q0 := 0) (n := 2) (As := [.ref a_t1, .int x2_7]) (st := []) (wr := [(a_kinds, .inl (X.E 5, 5, .inr (.inr (.inr (.inr (kq a_kinds_0 a_kinds_1 a_kinds_2 a_kinds_3 a_kinds_4)))))), (a_kinds_0, .inr (1, [])), (a_kinds_1, .inr (2, [])), (a_kinds_2, .inr (3, [])), (a_kinds_3, .inr (4, [])), (a_kinds_4, .inr (5, [])), (a_fell, .inl (X.E 1, 8, .inl fell)), (a_t1_kind, .inl (X.E 0, 8, .inl t1_kind)), (a_t1_strength, .inl (X.E 0, 8, .inl t1_strength)), (a_t1_place, .inl (X.E 0, 8, .inl t1_place)), (a_t1_length, .inl (X.E 0, 8, .inl t1_length)), (a_t1_over, .inl (X.E 1, 8, .inl t1_over_1)), (a_t1_under, .inl (X.E 1, 8, .inl t1_under_2))]) (isC := [0, 8, 13]) (isR := [1, 2, 3, 4, 5, 6, 7, 9, 10, 11, 12, 14, 15]) h hR (ct_X0_tears (a := a) (a_t1 := a_t1) (a_kinds := a_kinds) (a_town := a_town) (a_tried := a_tried) (a_fell := a_fell) (a_tape := a_tape) (a_read := a_read) (a_undos := a_undos) (a_kept := a_kept) (a_keptUndos := a_keptUndos) (a_sheets := a_sheets) (a_taken := a_taken) (a_t1_kind := a_t1_kind) (a_t1_strength := a_t1_strength) (a_t1_place := a_t1_place) (a_t1_length := a_t1_length) (a_t1_gives := a_t1_gives) (a_t1_over := a_t1_over) (a_t1_under := a_t1_under) (x2 := x2_7) (falls := falls) (tears := tears) (typed := typed) (place := place) (isKept := isKept) (t1_n := t1_n) (t1_holders := t1_holders) (t1_cuts := t1_cuts) (t1_hour := t1_hour) (t1_bears := t1_bears) (t1_draw := t1_draw) (t1_gives := t1_gives) hv) rfl rfl (lw_V q151 q153 qs3 q70 q154) (by decide +kernel) rfl ⟨rfl, rfl, rfl, rfl, by decide⟩ ⟨hce, hsl, fle rfl, fle rfl, fle rfl⟩ rfl dX0_settles_53 (pin (perm := [13, 0, 1, 2, 3, 4, 5, 6, 14, 7, 8, 9, 10, 15, 11, 12]) (ws' := [(a, .inr (0, [.ref a_kinds, .ref a_town, .ref a_tried, .ref a_fell, .int falls, .int tears_8, .ref a_tape, .int typed, .int place, .ref a_read, .ref a_undos, .ref a_kept, .ref a_keptUndos, .int isKept, .ref a_sheets, .ref a_taken])), (a_kinds, .inl (X.E 5, 5, .inr (.inr (.inr (.inr (kq a_kinds_0 a_kinds_1 a_kinds_2 a_kinds_3 a_kinds_4)))))), (a_kinds_0, .inr (1, [])), (a_kinds_1, .inr (2, [])), (a_kinds_2, .inr (3, [])), (a_kinds_3, .inr (4, [])), (a_kinds_4, .inr (5, [])), (a_fell, .inl (X.E 1, 8, .inl fell)), (a_t1, .inr (6, [.ref a_t1_kind, .ref a_t1_strength, .ref a_t1_place, .ref a_t1_length, .ref a_t1_gives, .ref a_t1_over, .ref a_t1_under, .int t1_n, .int t1_holders, .int t1_cuts_9, .int t1_hour, .int t1_bears, .int t1_draw, .ref a])), (a_t1_kind, .inl (X.E 0, 8, .inl t1_kind)), (a_t1_strength, .inl (X.E 0, 8, .inl t1_strength)), (a_t1_place, .inl (X.E 0, 8, .inl t1_place)), (a_t1_length, .inl (X.E 0, 8, .inl t1_length)), (a_t1_gives, .inl (X.E 0, 8, .inl t1_gives)), (a_t1_over, .inl (X.E 1, 8, .inl t1_over_1)), (a_t1_under, .inl (X.E 1, 8, .inl t1_under_2))]) (stk := []) rfl rfl rfl ?_)
      clear hv
      refine g_goto (tgt := 10) h dX0_settles_56 rfl ?_
      exact G.lsub [0, 1] rfl (ih _ _ _ _ _ _ _ hf k0)
    · intro ht
      have hf := (if_neg (show ¬ tag_6 = 0 from by rw [ht]; decide)).symm.trans hf
      clear hv
      refine g_iconst (v := 0) h dX0_settles_65 kiconst_0 ?_
      refine g_istore_n (lv' := [(2, .int 0), (0, .ref a), (1, .ref a_t1)]) h dX0_settles_66 rfl (hL 2 (fle rfl)) rfl ?_
      refine G.lsub (lv' := [(0, .ref a), (1, .ref a_t1), (2, .int 0)]) [1, 2, 0] rfl ?_
      obtain ⟨tag_18, x2_19, hv, hf⟩ := ob2 hf
      refine w_X0_settles_L67 (falls := falls) (tears := tears) (typed := typed) (place := place) (isKept := isKept) (fell := fell) (t1_n := t1_n) (t1_holders := t1_holders) (t1_cuts := t1_cuts) (t1_hour := t1_hour) (t1_bears := t1_bears) (t1_draw := t1_draw) (t1_kind := t1_kind) (t1_strength := t1_strength) (t1_place := t1_place) (t1_length := t1_length) (t1_gives := t1_gives) (t1_over := t1_over_1) (t1_under := t1_under_2) h hR hL hce hsl FU _ hv ?_ ?_
      · intro ht
        have hf := (if_pos ht).symm.trans hf
        clear hv
        refine g_aload_n h 1 dX0_settles_110 rfl rfl ?_
        refine g_iload_n h 2 dX0_settles_111 rfl rfl ?_
        obtain ⟨t1_holders_20, hv, hf⟩ := ob1 hf
        refine g_callV (ci := 6) (q0 := 8) (n := 1) (As := [.int x2_19]) (st := []) (wr := [(a, .inr (0, [.ref a_kinds, .ref a_town, .ref a_tried, .ref a_fell, .int falls, .int tears, .ref a_tape, .int typed, .int place, .ref a_read, .ref a_undos, .ref a_kept, .ref a_keptUndos, .int isKept, .ref a_sheets, .ref a_taken])), (a_kinds, .inl (X.E 5, 5, .inr (.inr (.inr (.inr (kq a_kinds_0 a_kinds_1 a_kinds_2 a_kinds_3 a_kinds_4)))))), (a_kinds_0, .inr (1, [])), (a_kinds_1, .inr (2, [])), (a_kinds_2, .inr (3, [])), (a_kinds_3, .inr (4, [])), (a_kinds_4, .inr (5, [])), (a_fell, .inl (X.E 1, 8, .inl fell)), (a_t1_kind, .inl (X.E 0, 8, .inl t1_kind)), (a_t1_strength, .inl (X.E 0, 8, .inl t1_strength)), (a_t1_place, .inl (X.E 0, 8, .inl t1_place)), (a_t1_length, .inl (X.E 0, 8, .inl t1_length)), (a_t1_gives, .inl (X.E 0, 8, .inl t1_gives)), (a_t1_over, .inl (X.E 1, 8, .inl t1_over_1)), (a_t1_under, .inl (X.E 1, 8, .inl t1_under_2))]) (isC := [8]) (isR := [0, 1, 2, 3, 4, 5, 6, 7, 9, 10, 11, 12, 13, 14, 15]) h hR (ct_X6_lets (a := a_t1) (a_kind := a_t1_kind) (a_strength := a_t1_strength) (a_place := a_t1_place) (a_length := a_t1_length) (a_gives := a_t1_gives) (a_over := a_t1_over) (a_under := a_t1_under) (a_this0 := a) (x1 := x2_19) (n := t1_n) (holders := t1_holders) (cuts := t1_cuts) (hour := t1_hour) (bears := t1_bears) (draw := t1_draw) hv) rfl rfl (lw_V q226 q227 q228 q76 q229) (by decide +kernel) rfl ⟨rfl, rfl, rfl, rfl, by decide⟩ ⟨hce, hsl, fle rfl, fle rfl, fle rfl⟩ rfl dX0_settles_112 (pin (perm := [0, 1, 2, 3, 4, 5, 6, 7, 15, 8, 9, 10, 11, 12, 13, 14]) (ws' := [(a, .inr (0, [.ref a_kinds, .ref a_town, .ref a_tried, .ref a_fell, .int falls, .int tears, .ref a_tape, .int typed, .int place, .ref a_read, .ref a_undos, .ref a_kept, .ref a_keptUndos, .int isKept, .ref a_sheets, .ref a_taken])), (a_kinds, .inl (X.E 5, 5, .inr (.inr (.inr (.inr (kq a_kinds_0 a_kinds_1 a_kinds_2 a_kinds_3 a_kinds_4)))))), (a_kinds_0, .inr (1, [])), (a_kinds_1, .inr (2, [])), (a_kinds_2, .inr (3, [])), (a_kinds_3, .inr (4, [])), (a_kinds_4, .inr (5, [])), (a_fell, .inl (X.E 1, 8, .inl fell)), (a_t1, .inr (6, [.ref a_t1_kind, .ref a_t1_strength, .ref a_t1_place, .ref a_t1_length, .ref a_t1_gives, .ref a_t1_over, .ref a_t1_under, .int t1_n, .int t1_holders_20, .int t1_cuts, .int t1_hour, .int t1_bears, .int t1_draw, .ref a])), (a_t1_kind, .inl (X.E 0, 8, .inl t1_kind)), (a_t1_strength, .inl (X.E 0, 8, .inl t1_strength)), (a_t1_place, .inl (X.E 0, 8, .inl t1_place)), (a_t1_length, .inl (X.E 0, 8, .inl t1_length)), (a_t1_gives, .inl (X.E 0, 8, .inl t1_gives)), (a_t1_over, .inl (X.E 1, 8, .inl t1_over_1)), (a_t1_under, .inl (X.E 1, 8, .inl t1_under_2))]) (stk := []) rfl rfl rfl ?_)
        clear hv
        refine g_aload_n h 0 dX0_settles_115 rfl rfl ?_
        refine g_get (ci := 0) (v := .ref a_fell) h in_X0 0 3 rfl rfl (fle rfl) rfl q1114 rfl dX0_settles_116 ?_
        refine g_aload_n h 0 dX0_settles_119 rfl rfl ?_
        refine g_dup h dX0_settles_120 rfl ?_
        refine g_get (ci := 0) (v := .int falls) h in_X0 0 4 rfl rfl (fle rfl) rfl q1115 rfl dX0_settles_121 ?_
        refine g_dup_x1 h dX0_settles_124 rfl rfl ?_
        refine g_iconst (v := 1) h dX0_settles_125 kiconst_1 ?_
        refine g_iadd h dX0_settles_126 ?_
        refine g_put (ci := 0) (ty := tyX0 4) (ws' := [(a, .inr (0, [.ref a_kinds, .ref a_town, .ref a_tried, .ref a_fell, .int (falls + 1), .int tears, .ref a_tape, .int typed, .int place, .ref a_read, .ref a_undos, .ref a_kept, .ref a_keptUndos, .int isKept, .ref a_sheets, .ref a_taken])), (a_kinds, .inl (X.E 5, 5, .inr (.inr (.inr (.inr (kq a_kinds_0 a_kinds_1 a_kinds_2 a_kinds_3 a_kinds_4)))))), (a_kinds_0, .inr (1, [])), (a_kinds_1, .inr (2, [])), (a_kinds_2, .inr (3, [])), (a_kinds_3, .inr (4, [])), (a_kinds_4, .inr (5, [])), (a_fell, .inl (X.E 1, 8, .inl fell)), (a_t1, .inr (6, [.ref a_t1_kind, .ref a_t1_strength, .ref a_t1_place, .ref a_t1_length, .ref a_t1_gives, .ref a_t1_over, .ref a_t1_under, .int t1_n, .int t1_holders_20, .int t1_cuts, .int t1_hour, .int t1_bears, .int t1_draw, .ref a])), (a_t1_kind, .inl (X.E 0, 8, .inl t1_kind)), (a_t1_strength, .inl (X.E 0, 8, .inl t1_strength)), (a_t1_place, .inl (X.E 0, 8, .inl t1_place)), (a_t1_length, .inl (X.E 0, 8, .inl t1_length)), (a_t1_gives, .inl (X.E 0, 8, .inl t1_gives)), (a_t1_over, .inl (X.E 1, 8, .inl t1_over_1)), (a_t1_under, .inl (X.E 1, 8, .inl t1_under_2))]) h in_X0 tyX0 tyX0_ok nmX0 0 4 rfl rfl (fle rfl) ⟨rfl, rfl⟩ q1115 rfl rfl rfl (fle rfl) rfl dX0_settles_127 ?_
        refine g_iload_n h 2 dX0_settles_130 rfl rfl ?_
        obtain ⟨g21, hf⟩ := gn hf
        refine g_iastore (ws' := [(a, .inr (0, [.ref a_kinds, .ref a_town, .ref a_tried, .ref a_fell, .int (falls + 1), .int tears, .ref a_tape, .int typed, .int place, .ref a_read, .ref a_undos, .ref a_kept, .ref a_keptUndos, .int isKept, .ref a_sheets, .ref a_taken])), (a_kinds, .inl (X.E 5, 5, .inr (.inr (.inr (.inr (kq a_kinds_0 a_kinds_1 a_kinds_2 a_kinds_3 a_kinds_4)))))), (a_kinds_0, .inr (1, [])), (a_kinds_1, .inr (2, [])), (a_kinds_2, .inr (3, [])), (a_kinds_3, .inr (4, [])), (a_kinds_4, .inr (5, [])), (a_fell, .inl (X.E 1, 8, .inl (upd fell falls.toNatClampNeg x2_19))), (a_t1, .inr (6, [.ref a_t1_kind, .ref a_t1_strength, .ref a_t1_place, .ref a_t1_length, .ref a_t1_gives, .ref a_t1_over, .ref a_t1_under, .int t1_n, .int t1_holders_20, .int t1_cuts, .int t1_hour, .int t1_bears, .int t1_draw, .ref a])), (a_t1_kind, .inl (X.E 0, 8, .inl t1_kind)), (a_t1_strength, .inl (X.E 0, 8, .inl t1_strength)), (a_t1_place, .inl (X.E 0, 8, .inl t1_place)), (a_t1_length, .inl (X.E 0, 8, .inl t1_length)), (a_t1_gives, .inl (X.E 0, 8, .inl t1_gives)), (a_t1_over, .inl (X.E 1, 8, .inl t1_over_1)), (a_t1_under, .inl (X.E 1, 8, .inl t1_under_2))]) h 7 rfl g21 rfl dX0_settles_131 ?_
        refine g_goto (tgt := 10) h dX0_settles_132 rfl ?_
        exact G.lsub [0, 1] rfl (ih _ _ _ _ _ _ _ hf k0)
      · intro ht
        have hf := (if_neg (show ¬ tag_18 = 0 from by rw [ht]; decide)).symm.trans hf
        clear hv
        obtain ⟨rfl, rfl, rfl, rfl, rfl, rfl, rfl⟩ := sj7 hf
        exact G.lsub [0] rfl k0
set_option maxHeartbeats 4000000 in
set_option maxRecDepth 100000 in
theorem ct_X0_settles {l : Launch} {D : va_G} {E : Ety} {a a_t1 a_kinds a_town a_tried a_fell a_tape a_read a_undos a_kept a_keptUndos a_sheets a_taken a_kinds_0 a_kinds_1 a_kinds_2 a_kinds_3 a_kinds_4 a_t1_kind a_t1_strength a_t1_place a_t1_length a_t1_gives a_t1_over a_t1_under : Nat} {falls : Int32} {tears : Int32} {typed : Int32} {place : Int32} {isKept : Int32} {fell : Nat → Int32} {t1_n : Int32} {t1_holders : Int32} {t1_cuts : Int32} {t1_hour : Int32} {t1_bears : Int32} {t1_draw : Int32} {t1_kind : Nat → Int32} {t1_strength : Nat → Int32} {t1_place : Nat → Int32} {t1_length : Nat → Int32} {t1_gives : Nat → Int32} {t1_over : Nat → Int32} {t1_under : Nat → Int32} {r_ : Int32} {o_falls : Int32} {o_tears : Int32} {o_fell : Nat → Int32} {o_t1_holders : Int32} {o_t1_cuts : Int32} {o_t1_over : Nat → Int32} {o_t1_under : Nat → Int32} (hf : f_X0_settles fell t1_n t1_holders t1_cuts t1_hour t1_bears t1_kind t1_strength t1_place t1_length t1_gives t1_over t1_under = some (r_, o_falls, o_tears, o_fell, o_t1_holders, o_t1_cuts, o_t1_over, o_t1_under)) : Ct l yX0_settles cX0_settles 3 (some .int) 5 116 0 0 D E [.ref a, .ref a_t1] [(a, .inr (0, [.ref a_kinds, .ref a_town, .ref a_tried, .ref a_fell, .int falls, .int tears, .ref a_tape, .int typed, .int place, .ref a_read, .ref a_undos, .ref a_kept, .ref a_keptUndos, .int isKept, .ref a_sheets, .ref a_taken])), (a_kinds, .inl (E 5, 5, .inr (.inr (.inr (.inr (kq a_kinds_0 a_kinds_1 a_kinds_2 a_kinds_3 a_kinds_4)))))), (a_kinds_0, .inr (1, [])), (a_kinds_1, .inr (2, [])), (a_kinds_2, .inr (3, [])), (a_kinds_3, .inr (4, [])), (a_kinds_4, .inr (5, [])), (a_fell, .inl (E 1, 8, .inl fell)), (a_t1, .inr (6, [.ref a_t1_kind, .ref a_t1_strength, .ref a_t1_place, .ref a_t1_length, .ref a_t1_gives, .ref a_t1_over, .ref a_t1_under, .int t1_n, .int t1_holders, .int t1_cuts, .int t1_hour, .int t1_bears, .int t1_draw, .ref a])), (a_t1_kind, .inl (E 0, 8, .inl t1_kind)), (a_t1_strength, .inl (E 0, 8, .inl t1_strength)), (a_t1_place, .inl (E 0, 8, .inl t1_place)), (a_t1_length, .inl (E 0, 8, .inl t1_length)), (a_t1_gives, .inl (E 0, 8, .inl t1_gives)), (a_t1_over, .inl (E 1, 8, .inl t1_over)), (a_t1_under, .inl (E 1, 8, .inl t1_under))] (Pn (some (.int r_)) [(a, .inr (0, [.ref a_kinds, .ref a_town, .ref a_tried, .ref a_fell, .int o_falls, .int o_tears, .ref a_tape, .int typed, .int place, .ref a_read, .ref a_undos, .ref a_kept, .ref a_keptUndos, .int isKept, .ref a_sheets, .ref a_taken])), (a_kinds, .inl (E 5, 5, .inr (.inr (.inr (.inr (kq a_kinds_0 a_kinds_1 a_kinds_2 a_kinds_3 a_kinds_4)))))), (a_kinds_0, .inr (1, [])), (a_kinds_1, .inr (2, [])), (a_kinds_2, .inr (3, [])), (a_kinds_3, .inr (4, [])), (a_kinds_4, .inr (5, [])), (a_fell, .inl (E 1, 8, .inl o_fell)), (a_t1, .inr (6, [.ref a_t1_kind, .ref a_t1_strength, .ref a_t1_place, .ref a_t1_length, .ref a_t1_gives, .ref a_t1_over, .ref a_t1_under, .int t1_n, .int o_t1_holders, .int o_t1_cuts, .int t1_hour, .int t1_bears, .int t1_draw, .ref a])), (a_t1_kind, .inl (E 0, 8, .inl t1_kind)), (a_t1_strength, .inl (E 0, 8, .inl t1_strength)), (a_t1_place, .inl (E 0, 8, .inl t1_place)), (a_t1_length, .inl (E 0, 8, .inl t1_length)), (a_t1_gives, .inl (E 0, 8, .inl t1_gives)), (a_t1_over, .inl (E 1, 8, .inl o_t1_over)), (a_t1_under, .inl (E 1, 8, .inl o_t1_under))]) := by
  refine ct_of (own := RX0) (plainFor_of_name (by decide)) rfl (fle rfl) rfl ?_
  intro X hl hD hE hnL hXF h hR hF hnm
  subst hl; subst hD; subst hE
  have hL : ∀ i, i < 3 → i < X.nL := fun i hi => by rw [hnL]; exact hi
  unfold f_X0_settles at hf
  refine g_aload_n h 0 dX0_settles_0 rfl rfl ?_
  refine g_iconst (v := 0) h dX0_settles_1 kiconst_0 ?_
  refine g_put (ci := 0) (ty := tyX0 4) (ws' := [(a, .inr (0, [.ref a_kinds, .ref a_town, .ref a_tried, .ref a_fell, .int 0, .int tears, .ref a_tape, .int typed, .int place, .ref a_read, .ref a_undos, .ref a_kept, .ref a_keptUndos, .int isKept, .ref a_sheets, .ref a_taken])), (a_kinds, .inl (X.E 5, 5, .inr (.inr (.inr (.inr (kq a_kinds_0 a_kinds_1 a_kinds_2 a_kinds_3 a_kinds_4)))))), (a_kinds_0, .inr (1, [])), (a_kinds_1, .inr (2, [])), (a_kinds_2, .inr (3, [])), (a_kinds_3, .inr (4, [])), (a_kinds_4, .inr (5, [])), (a_fell, .inl (X.E 1, 8, .inl fell)), (a_t1, .inr (6, [.ref a_t1_kind, .ref a_t1_strength, .ref a_t1_place, .ref a_t1_length, .ref a_t1_gives, .ref a_t1_over, .ref a_t1_under, .int t1_n, .int t1_holders, .int t1_cuts, .int t1_hour, .int t1_bears, .int t1_draw, .ref a])), (a_t1_kind, .inl (X.E 0, 8, .inl t1_kind)), (a_t1_strength, .inl (X.E 0, 8, .inl t1_strength)), (a_t1_place, .inl (X.E 0, 8, .inl t1_place)), (a_t1_length, .inl (X.E 0, 8, .inl t1_length)), (a_t1_gives, .inl (X.E 0, 8, .inl t1_gives)), (a_t1_over, .inl (X.E 1, 8, .inl t1_over)), (a_t1_under, .inl (X.E 1, 8, .inl t1_under))]) h in_X0 tyX0 tyX0_ok nmX0 0 4 rfl rfl (fle rfl) ⟨rfl, rfl⟩ q1115 rfl rfl rfl (fle rfl) rfl dX0_settles_2 ?_
  refine g_aload_n h 0 dX0_settles_5 rfl rfl ?_
  refine g_iconst (v := 0) h dX0_settles_6 kiconst_0 ?_
  refine g_put (ci := 0) (ty := tyX0 5) (ws' := [(a, .inr (0, [.ref a_kinds, .ref a_town, .ref a_tried, .ref a_fell, .int 0, .int 0, .ref a_tape, .int typed, .int place, .ref a_read, .ref a_undos, .ref a_kept, .ref a_keptUndos, .int isKept, .ref a_sheets, .ref a_taken])), (a_kinds, .inl (X.E 5, 5, .inr (.inr (.inr (.inr (kq a_kinds_0 a_kinds_1 a_kinds_2 a_kinds_3 a_kinds_4)))))), (a_kinds_0, .inr (1, [])), (a_kinds_1, .inr (2, [])), (a_kinds_2, .inr (3, [])), (a_kinds_3, .inr (4, [])), (a_kinds_4, .inr (5, [])), (a_fell, .inl (X.E 1, 8, .inl fell)), (a_t1, .inr (6, [.ref a_t1_kind, .ref a_t1_strength, .ref a_t1_place, .ref a_t1_length, .ref a_t1_gives, .ref a_t1_over, .ref a_t1_under, .int t1_n, .int t1_holders, .int t1_cuts, .int t1_hour, .int t1_bears, .int t1_draw, .ref a])), (a_t1_kind, .inl (X.E 0, 8, .inl t1_kind)), (a_t1_strength, .inl (X.E 0, 8, .inl t1_strength)), (a_t1_place, .inl (X.E 0, 8, .inl t1_place)), (a_t1_length, .inl (X.E 0, 8, .inl t1_length)), (a_t1_gives, .inl (X.E 0, 8, .inl t1_gives)), (a_t1_over, .inl (X.E 1, 8, .inl t1_over)), (a_t1_under, .inl (X.E 1, 8, .inl t1_under))]) h in_X0 tyX0 tyX0_ok nmX0 0 5 rfl rfl (fle rfl) ⟨rfl, rfl⟩ q1116 rfl rfl rfl (fle rfl) rfl dX0_settles_7 ?_
  refine G.lsub (lv' := [(0, .ref a), (1, .ref a_t1)]) [0, 1] rfl ?_
  obtain ⟨falls_22, tears_23, fell_24, t1_holders_25, t1_cuts_26, t1_over_27, t1_under_28, hv, hf⟩ := ob7 hf
  refine w_X0_settles_L10 (typed := typed) (place := place) (isKept := isKept) (t1_n := t1_n) (t1_hour := t1_hour) (t1_bears := t1_bears) (t1_draw := t1_draw) (t1_kind := t1_kind) (t1_strength := t1_strength) (t1_place := t1_place) (t1_length := t1_length) (t1_gives := t1_gives) h hR hL (fle rfl) (fle rfl) FU _ _ _ _ _ _ _ hv ?_
  · clear hv
    refine g_goto (tgt := 144) h dX0_settles_141 rfl ?_
    refine g_aload_n h 0 dX0_settles_144 rfl rfl ?_
    refine g_get (ci := 0) (v := .int falls_22) h in_X0 0 4 rfl rfl (fle rfl) rfl q1115 rfl dX0_settles_145 ?_
    obtain ⟨rfl, rfl, rfl, rfl, rfl, rfl, rfl, rfl⟩ := sj8 hf
    exact g_iret h hF [0, 1, 2, 3, 4, 5, 6, 7, 8, 9, 10, 11, 12, 13, 14, 15] rfl rfl ⟨rfl, rfl⟩ (fle rfl) (fle rfl) dX0_settles_148
set_option maxHeartbeats 4000000 in
set_option maxRecDepth 100000 in
theorem ct_X0_isPerson {l : Launch} {D : va_G} {E : Ety} {a a_kinds a_town a_tried a_fell a_tape a_read a_undos a_kept a_keptUndos a_sheets a_taken a_town_kind a_town_strength a_town_place a_town_length a_town_gives a_town_over a_town_under : Nat} {x1 : Int32} {falls : Int32} {tears : Int32} {typed : Int32} {place : Int32} {isKept : Int32} {town_n : Int32} {town_holders : Int32} {town_cuts : Int32} {town_hour : Int32} {town_bears : Int32} {town_draw : Int32} {r_ : Int32} (hf : f_X0_isPerson x1 town_n = some r_) : Ct l yX0_isPerson cX0_isPerson 2 (some .boolean) 1 25 0 0 D E [.ref a, .int x1] [(a, .inr (0, [.ref a_kinds, .ref a_town, .ref a_tried, .ref a_fell, .int falls, .int tears, .ref a_tape, .int typed, .int place, .ref a_read, .ref a_undos, .ref a_kept, .ref a_keptUndos, .int isKept, .ref a_sheets, .ref a_taken])), (a_town, .inr (6, [.ref a_town_kind, .ref a_town_strength, .ref a_town_place, .ref a_town_length, .ref a_town_gives, .ref a_town_over, .ref a_town_under, .int town_n, .int town_holders, .int town_cuts, .int town_hour, .int town_bears, .int town_draw, .ref a]))] (Pn (some (.int r_)) [(a, .inr (0, [.ref a_kinds, .ref a_town, .ref a_tried, .ref a_fell, .int falls, .int tears, .ref a_tape, .int typed, .int place, .ref a_read, .ref a_undos, .ref a_kept, .ref a_keptUndos, .int isKept, .ref a_sheets, .ref a_taken])), (a_town, .inr (6, [.ref a_town_kind, .ref a_town_strength, .ref a_town_place, .ref a_town_length, .ref a_town_gives, .ref a_town_over, .ref a_town_under, .int town_n, .int town_holders, .int town_cuts, .int town_hour, .int town_bears, .int town_draw, .ref a]))]) := by
  refine ct_of (own := RX0) (plainFor_of_name (by decide)) rfl (fle rfl) rfl ?_
  intro X hl hD hE hnL hXF h hR hF hnm
  subst hl; subst hD; subst hE
  have hL : ∀ i, i < 2 → i < X.nL := fun i hi => by rw [hnL]; exact hi
  unfold f_X0_isPerson at hf
  refine g_iload_n h 1 dX0_isPerson_0 rfl rfl ?_
  refine g_i2l h dX0_isPerson_1 ?_
  refine g_lconst (v := 0) h dX0_isPerson_2 rfl ?_
  refine g_aload_n h 0 dX0_isPerson_3 rfl rfl ?_
  refine g_get (ci := 0) (v := .ref a_town) h in_X0 0 1 rfl rfl (fle rfl) rfl q1112 rfl dX0_isPerson_4 ?_
  refine g_getN (ci := 6) (v := .int town_n) h in_X6 1 7 rfl rfl (fle rfl) rfl q564 rfl dX0_isPerson_7 ?_
  refine g_iconst (v := 1) h dX0_isPerson_10 kiconst_1 ?_
  refine g_isub h dX0_isPerson_11 ?_
  refine g_i2l h dX0_isPerson_12 ?_
  obtain ⟨r_1, hv, hf⟩ := ob1 hf
  refine g_callS (n := 3) (As := [.long x1.toInt64, .long 0, .long ((town_n - 1).toInt64)]) (st := []) (wr := [(a, .inr (0, [.ref a_kinds, .ref a_town, .ref a_tried, .ref a_fell, .int falls, .int tears, .ref a_tape, .int typed, .int place, .ref a_read, .ref a_undos, .ref a_kept, .ref a_keptUndos, .int isKept, .ref a_sheets, .ref a_taken])), (a_town, .inr (6, [.ref a_town_kind, .ref a_town_strength, .ref a_town_place, .ref a_town_length, .ref a_town_gives, .ref a_town_over, .ref a_town_under, .int town_n, .int town_holders, .int town_cuts, .int town_hour, .int town_bears, .int town_draw, .ref a]))]) (isC := []) (isR := [0, 1]) h hR (ct_X0_in (x0 := x1.toInt64) (x2 := 0) (x4 := (town_n - 1).toInt64) hv) (lw_S q107 q108 q70 q109) (by decide +kernel) rfl ⟨rfl, rfl, rfl, rfl, by decide⟩ ⟨fle rfl, fle rfl, fle rfl, fle rfl, fle rfl⟩ rfl dX0_isPerson_13 (pin (perm := [0, 1]) (ws' := [(a, .inr (0, [.ref a_kinds, .ref a_town, .ref a_tried, .ref a_fell, .int falls, .int tears, .ref a_tape, .int typed, .int place, .ref a_read, .ref a_undos, .ref a_kept, .ref a_keptUndos, .int isKept, .ref a_sheets, .ref a_taken])), (a_town, .inr (6, [.ref a_town_kind, .ref a_town_strength, .ref a_town_place, .ref a_town_length, .ref a_town_gives, .ref a_town_over, .ref a_town_under, .int town_n, .int town_holders, .int town_cuts, .int town_hour, .int town_bears, .int town_draw, .ref a]))]) (stk := [.int r_1]) rfl rfl rfl ?_)
  clear hv
  obtain ⟨gz, hf⟩ := gy hf
  obtain rfl := sj1 hf
  exact g_zret h hF (nz gz) [0, 1] rfl rfl ⟨rfl, rfl⟩ (fle rfl) (fle rfl) dX0_isPerson_16
set_option maxHeartbeats 4000000 in
set_option maxRecDepth 100000 in
theorem ct_X0_of {l : Launch} {D : va_G} {E : Ety} {a a_kinds a_town a_tried a_fell a_tape a_read a_undos a_kept a_keptUndos a_sheets a_taken a_kinds_0 a_kinds_1 a_kinds_2 a_kinds_3 a_kinds_4 a_town_kind a_town_strength a_town_place a_town_length a_town_gives a_town_over a_town_under : Nat} {x1 : Int32} {x2 : Int32} {falls : Int32} {tears : Int32} {typed : Int32} {place : Int32} {isKept : Int32} {town_n : Int32} {town_holders : Int32} {town_cuts : Int32} {town_hour : Int32} {town_bears : Int32} {town_draw : Int32} {town_kind : Nat → Int32} {town_strength : Nat → Int32} {town_place : Nat → Int32} {town_length : Nat → Int32} {town_gives : Nat → Int32} {town_over : Nat → Int32} {town_under : Nat → Int32} {r_ : Int32} {o_town_over : Nat → Int32} {o_town_under : Nat → Int32} (hf : f_X0_of x1 x2 town_n town_holders town_cuts town_hour town_kind town_strength town_place town_length town_gives town_over town_under = some (r_, o_town_over, o_town_under)) : Ct l yX0_of cX0_of 5 (some .int) 5 116 0 0 D E [.ref a, .int x1, .int x2] [(a, .inr (0, [.ref a_kinds, .ref a_town, .ref a_tried, .ref a_fell, .int falls, .int tears, .ref a_tape, .int typed, .int place, .ref a_read, .ref a_undos, .ref a_kept, .ref a_keptUndos, .int isKept, .ref a_sheets, .ref a_taken])), (a_kinds, .inl (E 5, 5, .inr (.inr (.inr (.inr (kq a_kinds_0 a_kinds_1 a_kinds_2 a_kinds_3 a_kinds_4)))))), (a_kinds_0, .inr (1, [])), (a_kinds_1, .inr (2, [])), (a_kinds_2, .inr (3, [])), (a_kinds_3, .inr (4, [])), (a_kinds_4, .inr (5, [])), (a_town, .inr (6, [.ref a_town_kind, .ref a_town_strength, .ref a_town_place, .ref a_town_length, .ref a_town_gives, .ref a_town_over, .ref a_town_under, .int town_n, .int town_holders, .int town_cuts, .int town_hour, .int town_bears, .int town_draw, .ref a])), (a_town_kind, .inl (E 0, 8, .inl town_kind)), (a_town_strength, .inl (E 0, 8, .inl town_strength)), (a_town_place, .inl (E 0, 8, .inl town_place)), (a_town_length, .inl (E 0, 8, .inl town_length)), (a_town_gives, .inl (E 0, 8, .inl town_gives)), (a_town_over, .inl (E 1, 8, .inl town_over)), (a_town_under, .inl (E 1, 8, .inl town_under))] (Pn (some (.int r_)) [(a, .inr (0, [.ref a_kinds, .ref a_town, .ref a_tried, .ref a_fell, .int falls, .int tears, .ref a_tape, .int typed, .int place, .ref a_read, .ref a_undos, .ref a_kept, .ref a_keptUndos, .int isKept, .ref a_sheets, .ref a_taken])), (a_kinds, .inl (E 5, 5, .inr (.inr (.inr (.inr (kq a_kinds_0 a_kinds_1 a_kinds_2 a_kinds_3 a_kinds_4)))))), (a_kinds_0, .inr (1, [])), (a_kinds_1, .inr (2, [])), (a_kinds_2, .inr (3, [])), (a_kinds_3, .inr (4, [])), (a_kinds_4, .inr (5, [])), (a_town, .inr (6, [.ref a_town_kind, .ref a_town_strength, .ref a_town_place, .ref a_town_length, .ref a_town_gives, .ref a_town_over, .ref a_town_under, .int town_n, .int town_holders, .int town_cuts, .int town_hour, .int town_bears, .int town_draw, .ref a])), (a_town_kind, .inl (E 0, 8, .inl town_kind)), (a_town_strength, .inl (E 0, 8, .inl town_strength)), (a_town_place, .inl (E 0, 8, .inl town_place)), (a_town_length, .inl (E 0, 8, .inl town_length)), (a_town_gives, .inl (E 0, 8, .inl town_gives)), (a_town_over, .inl (E 1, 8, .inl o_town_over)), (a_town_under, .inl (E 1, 8, .inl o_town_under))]) := by
  refine ct_of (own := RX0) (plainFor_of_name (by decide)) rfl (fle rfl) rfl ?_
  intro X hl hD hE hnL hXF h hR hF hnm
  subst hl; subst hD; subst hE
  have hL : ∀ i, i < 5 → i < X.nL := fun i hi => by rw [hnL]; exact hi
  unfold f_X0_of at hf
  refine g_aload_n h 0 dX0_of_0 rfl rfl ?_
  refine g_iload_n h 1 dX0_of_1 rfl rfl ?_
  obtain ⟨r_1, hv, hf⟩ := ob1 hf
  refine g_callV (ci := 0) (q0 := 0) (n := 1) (As := [.int x1]) (st := []) (wr := [(a_kinds, .inl (X.E 5, 5, .inr (.inr (.inr (.inr (kq a_kinds_0 a_kinds_1 a_kinds_2 a_kinds_3 a_kinds_4)))))), (a_kinds_0, .inr (1, [])), (a_kinds_1, .inr (2, [])), (a_kinds_2, .inr (3, [])), (a_kinds_3, .inr (4, [])), (a_kinds_4, .inr (5, [])), (a_town_kind, .inl (X.E 0, 8, .inl town_kind)), (a_town_strength, .inl (X.E 0, 8, .inl town_strength)), (a_town_place, .inl (X.E 0, 8, .inl town_place)), (a_town_length, .inl (X.E 0, 8, .inl town_length)), (a_town_gives, .inl (X.E 0, 8, .inl town_gives)), (a_town_over, .inl (X.E 1, 8, .inl town_over)), (a_town_under, .inl (X.E 1, 8, .inl town_under))]) (isC := [0, 7]) (isR := [1, 2, 3, 4, 5, 6, 8, 9, 10, 11, 12, 13, 14]) h hR (ct_X0_isPerson (a := a) (a_kinds := a_kinds) (a_town := a_town) (a_tried := a_tried) (a_fell := a_fell) (a_tape := a_tape) (a_read := a_read) (a_undos := a_undos) (a_kept := a_kept) (a_keptUndos := a_keptUndos) (a_sheets := a_sheets) (a_taken := a_taken) (a_town_kind := a_town_kind) (a_town_strength := a_town_strength) (a_town_place := a_town_place) (a_town_length := a_town_length) (a_town_gives := a_town_gives) (a_town_over := a_town_over) (a_town_under := a_town_under) (x1 := x1) (falls := falls) (tears := tears) (typed := typed) (place := place) (isKept := isKept) (town_n := town_n) (town_holders := town_holders) (town_cuts := town_cuts) (town_hour := town_hour) (town_bears := town_bears) (town_draw := town_draw) hv) rfl rfl (lw_V q234 q236 qs5 q70 q237) (by decide +kernel) rfl ⟨rfl, rfl, rfl, rfl, by decide⟩ ⟨fle rfl, fle rfl, fle rfl, fle rfl, fle rfl⟩ rfl dX0_of_2 (pin (perm := [13, 0, 1, 2, 3, 4, 5, 14, 6, 7, 8, 9, 10, 11, 12]) (ws' := [(a, .inr (0, [.ref a_kinds, .ref a_town, .ref a_tried, .ref a_fell, .int falls, .int tears, .ref a_tape, .int typed, .int place, .ref a_read, .ref a_undos, .ref a_kept, .ref a_keptUndos, .int isKept, .ref a_sheets, .ref a_taken])), (a_kinds, .inl (X.E 5, 5, .inr (.inr (.inr (.inr (kq a_kinds_0 a_kinds_1 a_kinds_2 a_kinds_3 a_kinds_4)))))), (a_kinds_0, .inr (1, [])), (a_kinds_1, .inr (2, [])), (a_kinds_2, .inr (3, [])), (a_kinds_3, .inr (4, [])), (a_kinds_4, .inr (5, [])), (a_town, .inr (6, [.ref a_town_kind, .ref a_town_strength, .ref a_town_place, .ref a_town_length, .ref a_town_gives, .ref a_town_over, .ref a_town_under, .int town_n, .int town_holders, .int town_cuts, .int town_hour, .int town_bears, .int town_draw, .ref a])), (a_town_kind, .inl (X.E 0, 8, .inl town_kind)), (a_town_strength, .inl (X.E 0, 8, .inl town_strength)), (a_town_place, .inl (X.E 0, 8, .inl town_place)), (a_town_length, .inl (X.E 0, 8, .inl town_length)), (a_town_gives, .inl (X.E 0, 8, .inl town_gives)), (a_town_over, .inl (X.E 1, 8, .inl town_over)), (a_town_under, .inl (X.E 1, 8, .inl town_under))]) (stk := [.int r_1]) rfl rfl rfl ?_)
  clear hv
  refine g_if_ne (tgt := 10) h dX0_of_5 rfl hf (fun c2 hf => ?_) (fun c2 hf => ?_)
  · refine g_iconst (v := (-1)) h dX0_of_8 kiconst_m1 ?_
    obtain ⟨rfl, rfl, rfl⟩ := sj3 hf
    exact g_iret h hF [0, 1, 2, 3, 4, 5, 6, 7, 8, 9, 10, 11, 12, 13, 14] rfl rfl ⟨rfl, rfl⟩ (fle rfl) (fle rfl) dX0_of_9
  · refine g_iload_n h 2 dX0_of_10 rfl rfl ?_
    refine hf_if hf (fun c3 hf => ?_) (fun c3 hf => ?_)
    · refine g_tabIn (c := 0) (tgt := 44) h dX0_of_11 c3 (by decide) (by decide) rfl rfl ?_
      refine g_aload_n h 0 dX0_of_44 rfl rfl ?_
      refine g_get (ci := 0) (v := .ref a_town) h in_X0 0 1 rfl rfl (fle rfl) rfl q1112 rfl dX0_of_45 ?_
      refine g_getN (ci := 6) (v := .ref a_town_kind) h in_X6 7 0 rfl rfl (fle rfl) rfl q550 rfl dX0_of_48 ?_
      refine g_iload_n h 1 dX0_of_51 rfl rfl ?_
      obtain ⟨g4, hf⟩ := gn hf
      refine g_baload h 8 rfl g4 dX0_of_52 ?_
      obtain ⟨rfl, rfl, rfl⟩ := sj3 hf
      exact g_iret h hF [0, 1, 2, 3, 4, 5, 6, 7, 8, 9, 10, 11, 12, 13, 14] rfl rfl ⟨rfl, rfl⟩ (fle rfl) (fle rfl) dX0_of_53
    · refine hf_if hf (fun c5 hf => ?_) (fun c5 hf => ?_)
      · refine g_tabIn (c := 1) (tgt := 54) h dX0_of_11 c5 (by decide) (by decide) rfl rfl ?_
        refine g_aload_n h 0 dX0_of_54 rfl rfl ?_
        refine g_get (ci := 0) (v := .ref a_town) h in_X0 0 1 rfl rfl (fle rfl) rfl q1112 rfl dX0_of_55 ?_
        refine g_getN (ci := 6) (v := .ref a_town_strength) h in_X6 7 1 rfl rfl (fle rfl) rfl q552 rfl dX0_of_58 ?_
        refine g_iload_n h 1 dX0_of_61 rfl rfl ?_
        obtain ⟨g6, hf⟩ := gn hf
        refine g_baload h 9 rfl g6 dX0_of_62 ?_
        obtain ⟨rfl, rfl, rfl⟩ := sj3 hf
        exact g_iret h hF [0, 1, 2, 3, 4, 5, 6, 7, 8, 9, 10, 11, 12, 13, 14] rfl rfl ⟨rfl, rfl⟩ (fle rfl) (fle rfl) dX0_of_63
      · refine hf_if hf (fun c7 hf => ?_) (fun c7 hf => ?_)
        · refine g_tabIn (c := 2) (tgt := 64) h dX0_of_11 c7 (by decide) (by decide) rfl rfl ?_
          refine g_aload_n h 0 dX0_of_64 rfl rfl ?_
          refine g_get (ci := 0) (v := .ref a_town) h in_X0 0 1 rfl rfl (fle rfl) rfl q1112 rfl dX0_of_65 ?_
          refine g_iload_n h 1 dX0_of_68 rfl rfl ?_
          obtain ⟨r_8, hv, hf⟩ := ob1 hf
          refine g_callV (ci := 6) (q0 := 7) (n := 1) (As := [.int x1]) (st := []) (wr := [(a, .inr (0, [.ref a_kinds, .ref a_town, .ref a_tried, .ref a_fell, .int falls, .int tears, .ref a_tape, .int typed, .int place, .ref a_read, .ref a_undos, .ref a_kept, .ref a_keptUndos, .int isKept, .ref a_sheets, .ref a_taken])), (a_kinds, .inl (X.E 5, 5, .inr (.inr (.inr (.inr (kq a_kinds_0 a_kinds_1 a_kinds_2 a_kinds_3 a_kinds_4)))))), (a_kinds_0, .inr (1, [])), (a_kinds_1, .inr (2, [])), (a_kinds_2, .inr (3, [])), (a_kinds_3, .inr (4, [])), (a_kinds_4, .inr (5, [])), (a_town_kind, .inl (X.E 0, 8, .inl town_kind)), (a_town_strength, .inl (X.E 0, 8, .inl town_strength)), (a_town_place, .inl (X.E 0, 8, .inl town_place)), (a_town_length, .inl (X.E 0, 8, .inl town_length)), (a_town_gives, .inl (X.E 0, 8, .inl town_gives)), (a_town_over, .inl (X.E 1, 8, .inl town_over)), (a_town_under, .inl (X.E 1, 8, .inl town_under))]) (isC := [7]) (isR := [0, 1, 2, 3, 4, 5, 6, 8, 9, 10, 11, 12, 13, 14]) h hR (ct_X6_holds (a := a_town) (a_kind := a_town_kind) (a_strength := a_town_strength) (a_place := a_town_place) (a_length := a_town_length) (a_gives := a_town_gives) (a_over := a_town_over) (a_under := a_town_under) (a_this0 := a) (x1 := x1) (n := town_n) (holders := town_holders) (cuts := town_cuts) (hour := town_hour) (bears := town_bears) (draw := town_draw) hv) rfl rfl (lw_V q155 q143 q144 q76 q145) (by decide +kernel) rfl ⟨rfl, rfl, rfl, rfl, by decide⟩ ⟨fle rfl, fle rfl, fle rfl, fle rfl, fle rfl⟩ rfl dX0_of_69 (pin (perm := [0, 1, 2, 3, 4, 5, 6, 14, 7, 8, 9, 10, 11, 12, 13]) (ws' := [(a, .inr (0, [.ref a_kinds, .ref a_town, .ref a_tried, .ref a_fell, .int falls, .int tears, .ref a_tape, .int typed, .int place, .ref a_read, .ref a_undos, .ref a_kept, .ref a_keptUndos, .int isKept, .ref a_sheets, .ref a_taken])), (a_kinds, .inl (X.E 5, 5, .inr (.inr (.inr (.inr (kq a_kinds_0 a_kinds_1 a_kinds_2 a_kinds_3 a_kinds_4)))))), (a_kinds_0, .inr (1, [])), (a_kinds_1, .inr (2, [])), (a_kinds_2, .inr (3, [])), (a_kinds_3, .inr (4, [])), (a_kinds_4, .inr (5, [])), (a_town, .inr (6, [.ref a_town_kind, .ref a_town_strength, .ref a_town_place, .ref a_town_length, .ref a_town_gives, .ref a_town_over, .ref a_town_under, .int town_n, .int town_holders, .int town_cuts, .int town_hour, .int town_bears, .int town_draw, .ref a])), (a_town_kind, .inl (X.E 0, 8, .inl town_kind)), (a_town_strength, .inl (X.E 0, 8, .inl town_strength)), (a_town_place, .inl (X.E 0, 8, .inl town_place)), (a_town_length, .inl (X.E 0, 8, .inl town_length)), (a_town_gives, .inl (X.E 0, 8, .inl town_gives)), (a_town_over, .inl (X.E 1, 8, .inl town_over)), (a_town_under, .inl (X.E 1, 8, .inl town_under))]) (stk := [.int r_8]) rfl rfl rfl ?_)
          clear hv
          refine g_if_eq (tgt := 79) h dX0_of_72 rfl hf (fun c9 hf => ?_) (fun c9 hf => ?_)
          · refine g_iconst (v := 0) h dX0_of_79 kiconst_0 ?_
            obtain ⟨rfl, rfl, rfl⟩ := sj3 hf
            exact g_iret h hF [0, 1, 2, 3, 4, 5, 6, 7, 8, 9, 10, 11, 12, 13, 14] rfl rfl ⟨rfl, rfl⟩ (fle rfl) (fle rfl) dX0_of_80
          · refine g_iconst (v := 1) h dX0_of_75 kiconst_1 ?_
            refine g_goto (tgt := 80) h dX0_of_76 rfl ?_
            obtain ⟨rfl, rfl, rfl⟩ := sj3 hf
            exact g_iret h hF [0, 1, 2, 3, 4, 5, 6, 7, 8, 9, 10, 11, 12, 13, 14] rfl rfl ⟨rfl, rfl⟩ (fle rfl) (fle rfl) dX0_of_80
        · refine hf_if hf (fun c10 hf => ?_) (fun c10 hf => ?_)
          · refine g_tabIn (c := 3) (tgt := 81) h dX0_of_11 c10 (by decide) (by decide) rfl rfl ?_
            refine g_aload_n h 0 dX0_of_81 rfl rfl ?_
            refine g_get (ci := 0) (v := .ref a_town) h in_X0 0 1 rfl rfl (fle rfl) rfl q1112 rfl dX0_of_82 ?_
            refine g_iload_n h 1 dX0_of_85 rfl rfl ?_
            obtain ⟨r_11, hv, hf⟩ := ob1 hf
            refine g_callV (ci := 6) (q0 := 7) (n := 1) (As := [.int x1]) (st := []) (wr := [(a_town_place, .inl (X.E 0, 8, .inl town_place)), (a_town_length, .inl (X.E 0, 8, .inl town_length)), (a_town_gives, .inl (X.E 0, 8, .inl town_gives)), (a_town_over, .inl (X.E 1, 8, .inl town_over)), (a_town_under, .inl (X.E 1, 8, .inl town_under))]) (isC := [7, 8, 9, 0, 1, 2, 3, 4, 5, 6]) (isR := [10, 11, 12, 13, 14]) h hR (ct_X6_holdsOut (a := a_town) (a_kind := a_town_kind) (a_strength := a_town_strength) (a_place := a_town_place) (a_length := a_town_length) (a_gives := a_town_gives) (a_over := a_town_over) (a_under := a_town_under) (a_this0 := a) (a_this0_kinds := a_kinds) (a_this0_town := a_town) (a_this0_tried := a_tried) (a_this0_fell := a_fell) (a_this0_tape := a_tape) (a_this0_read := a_read) (a_this0_undos := a_undos) (a_this0_kept := a_kept) (a_this0_keptUndos := a_keptUndos) (a_this0_sheets := a_sheets) (a_this0_taken := a_taken) (a_this0_kinds_0 := a_kinds_0) (a_this0_kinds_1 := a_kinds_1) (a_this0_kinds_2 := a_kinds_2) (a_this0_kinds_3 := a_kinds_3) (a_this0_kinds_4 := a_kinds_4) (x1 := x1) (n := town_n) (holders := town_holders) (cuts := town_cuts) (hour := town_hour) (bears := town_bears) (draw := town_draw) (kind := town_kind) (strength := town_strength) (this0_falls := falls) (this0_tears := tears) (this0_typed := typed) (this0_place := place) (this0_isKept := isKept) hv) rfl rfl (lw_V q167 q168 q169 q76 q170) (by decide +kernel) rfl ⟨rfl, rfl, rfl, rfl, by decide⟩ ⟨fle rfl, fle rfl, fle rfl, fle rfl, fle rfl⟩ rfl dX0_of_86 (pin (perm := [8, 9, 10, 11, 12, 13, 14, 5, 6, 7, 0, 1, 2, 3, 4]) (ws' := [(a, .inr (0, [.ref a_kinds, .ref a_town, .ref a_tried, .ref a_fell, .int falls, .int tears, .ref a_tape, .int typed, .int place, .ref a_read, .ref a_undos, .ref a_kept, .ref a_keptUndos, .int isKept, .ref a_sheets, .ref a_taken])), (a_kinds, .inl (X.E 5, 5, .inr (.inr (.inr (.inr (kq a_kinds_0 a_kinds_1 a_kinds_2 a_kinds_3 a_kinds_4)))))), (a_kinds_0, .inr (1, [])), (a_kinds_1, .inr (2, [])), (a_kinds_2, .inr (3, [])), (a_kinds_3, .inr (4, [])), (a_kinds_4, .inr (5, [])), (a_town, .inr (6, [.ref a_town_kind, .ref a_town_strength, .ref a_town_place, .ref a_town_length, .ref a_town_gives, .ref a_town_over, .ref a_town_under, .int town_n, .int town_holders, .int town_cuts, .int town_hour, .int town_bears, .int town_draw, .ref a])), (a_town_kind, .inl (X.E 0, 8, .inl town_kind)), (a_town_strength, .inl (X.E 0, 8, .inl town_strength)), (a_town_place, .inl (X.E 0, 8, .inl town_place)), (a_town_length, .inl (X.E 0, 8, .inl town_length)), (a_town_gives, .inl (X.E 0, 8, .inl town_gives)), (a_town_over, .inl (X.E 1, 8, .inl town_over)), (a_town_under, .inl (X.E 1, 8, .inl town_under))]) (stk := [.int r_11]) rfl rfl rfl ?_)
            clear hv
            obtain ⟨rfl, rfl, rfl⟩ := sj3 hf
            exact g_iret h hF [0, 1, 2, 3, 4, 5, 6, 7, 8, 9, 10, 11, 12, 13, 14] rfl rfl ⟨rfl, rfl⟩ (fle rfl) (fle rfl) dX0_of_89
          · refine hf_if hf (fun c12 hf => ?_) (fun c12 hf => ?_)
            · refine g_tabIn (c := 4) (tgt := 90) h dX0_of_11 c12 (by decide) (by decide) rfl rfl ?_
              refine g_aload_n h 0 dX0_of_90 rfl rfl ?_
              refine g_get (ci := 0) (v := .ref a_town) h in_X0 0 1 rfl rfl (fle rfl) rfl q1112 rfl dX0_of_91 ?_
              obtain ⟨town_over_13, town_under_14, hv, hf⟩ := ob2 hf
              refine g_callV (ci := 6) (q0 := 7) (n := 0) (As := []) (st := []) (wr := [(a, .inr (0, [.ref a_kinds, .ref a_town, .ref a_tried, .ref a_fell, .int falls, .int tears, .ref a_tape, .int typed, .int place, .ref a_read, .ref a_undos, .ref a_kept, .ref a_keptUndos, .int isKept, .ref a_sheets, .ref a_taken])), (a_kinds, .inl (X.E 5, 5, .inr (.inr (.inr (.inr (kq a_kinds_0 a_kinds_1 a_kinds_2 a_kinds_3 a_kinds_4)))))), (a_kinds_0, .inr (1, [])), (a_kinds_1, .inr (2, [])), (a_kinds_2, .inr (3, [])), (a_kinds_3, .inr (4, [])), (a_kinds_4, .inr (5, [])), (a_town_kind, .inl (X.E 0, 8, .inl town_kind)), (a_town_strength, .inl (X.E 0, 8, .inl town_strength))]) (isC := [7, 10, 11, 12, 13, 14]) (isR := [0, 1, 2, 3, 4, 5, 6, 8, 9]) h hR (ct_X6_measured (a := a_town) (a_kind := a_town_kind) (a_strength := a_town_strength) (a_place := a_town_place) (a_length := a_town_length) (a_gives := a_town_gives) (a_over := a_town_over) (a_under := a_town_under) (a_this0 := a) (n := town_n) (holders := town_holders) (cuts := town_cuts) (hour := town_hour) (bears := town_bears) (draw := town_draw) (place := town_place) (length := town_length) (gives := town_gives) (over := town_over) (under := town_under) hv) rfl rfl (lw_V q134 q135 q136 q76 q137) (by decide +kernel) rfl ⟨rfl, rfl, rfl, rfl, by decide⟩ ⟨fle rfl, fle rfl, fle rfl, fle rfl, fle rfl⟩ rfl dX0_of_94 (pin (perm := [0, 1, 2, 3, 4, 5, 6, 9, 7, 8, 10, 11, 12, 13, 14]) (ws' := [(a, .inr (0, [.ref a_kinds, .ref a_town, .ref a_tried, .ref a_fell, .int falls, .int tears, .ref a_tape, .int typed, .int place, .ref a_read, .ref a_undos, .ref a_kept, .ref a_keptUndos, .int isKept, .ref a_sheets, .ref a_taken])), (a_kinds, .inl (X.E 5, 5, .inr (.inr (.inr (.inr (kq a_kinds_0 a_kinds_1 a_kinds_2 a_kinds_3 a_kinds_4)))))), (a_kinds_0, .inr (1, [])), (a_kinds_1, .inr (2, [])), (a_kinds_2, .inr (3, [])), (a_kinds_3, .inr (4, [])), (a_kinds_4, .inr (5, [])), (a_town, .inr (6, [.ref a_town_kind, .ref a_town_strength, .ref a_town_place, .ref a_town_length, .ref a_town_gives, .ref a_town_over, .ref a_town_under, .int town_n, .int town_holders, .int town_cuts, .int town_hour, .int town_bears, .int town_draw, .ref a])), (a_town_kind, .inl (X.E 0, 8, .inl town_kind)), (a_town_strength, .inl (X.E 0, 8, .inl town_strength)), (a_town_place, .inl (X.E 0, 8, .inl town_place)), (a_town_length, .inl (X.E 0, 8, .inl town_length)), (a_town_gives, .inl (X.E 0, 8, .inl town_gives)), (a_town_over, .inl (X.E 1, 8, .inl town_over_13)), (a_town_under, .inl (X.E 1, 8, .inl town_under_14))]) (stk := [.ref a_town]) rfl rfl rfl ?_)
              clear hv
              refine g_iload_n h 1 dX0_of_97 rfl rfl ?_
              obtain ⟨r_15, hv, hf⟩ := ob1 hf
              refine g_callV (ci := 6) (q0 := 7) (n := 1) (As := [.int x1]) (st := []) (wr := [(a, .inr (0, [.ref a_kinds, .ref a_town, .ref a_tried, .ref a_fell, .int falls, .int tears, .ref a_tape, .int typed, .int place, .ref a_read, .ref a_undos, .ref a_kept, .ref a_keptUndos, .int isKept, .ref a_sheets, .ref a_taken])), (a_kinds, .inl (X.E 5, 5, .inr (.inr (.inr (.inr (kq a_kinds_0 a_kinds_1 a_kinds_2 a_kinds_3 a_kinds_4)))))), (a_kinds_0, .inr (1, [])), (a_kinds_1, .inr (2, [])), (a_kinds_2, .inr (3, [])), (a_kinds_3, .inr (4, [])), (a_kinds_4, .inr (5, [])), (a_town_kind, .inl (X.E 0, 8, .inl town_kind)), (a_town_strength, .inl (X.E 0, 8, .inl town_strength)), (a_town_place, .inl (X.E 0, 8, .inl town_place)), (a_town_length, .inl (X.E 0, 8, .inl town_length)), (a_town_gives, .inl (X.E 0, 8, .inl town_gives))]) (isC := [7, 13, 14]) (isR := [0, 1, 2, 3, 4, 5, 6, 8, 9, 10, 11, 12]) h hR (ct_X6_pulledBy (a := a_town) (a_kind := a_town_kind) (a_strength := a_town_strength) (a_place := a_town_place) (a_length := a_town_length) (a_gives := a_town_gives) (a_over := a_town_over) (a_under := a_town_under) (a_this0 := a) (x1 := x1) (n := town_n) (holders := town_holders) (cuts := town_cuts) (hour := town_hour) (bears := town_bears) (draw := town_draw) (over := town_over_13) (under := town_under_14) hv) rfl rfl (lw_V q156 q157 q158 q76 q159) (by decide +kernel) rfl ⟨rfl, rfl, rfl, rfl, by decide⟩ ⟨fle rfl, fle rfl, fle rfl, fle rfl, fle rfl⟩ rfl dX0_of_98 (pin (perm := [0, 1, 2, 3, 4, 5, 6, 12, 7, 8, 9, 10, 11, 13, 14]) (ws' := [(a, .inr (0, [.ref a_kinds, .ref a_town, .ref a_tried, .ref a_fell, .int falls, .int tears, .ref a_tape, .int typed, .int place, .ref a_read, .ref a_undos, .ref a_kept, .ref a_keptUndos, .int isKept, .ref a_sheets, .ref a_taken])), (a_kinds, .inl (X.E 5, 5, .inr (.inr (.inr (.inr (kq a_kinds_0 a_kinds_1 a_kinds_2 a_kinds_3 a_kinds_4)))))), (a_kinds_0, .inr (1, [])), (a_kinds_1, .inr (2, [])), (a_kinds_2, .inr (3, [])), (a_kinds_3, .inr (4, [])), (a_kinds_4, .inr (5, [])), (a_town, .inr (6, [.ref a_town_kind, .ref a_town_strength, .ref a_town_place, .ref a_town_length, .ref a_town_gives, .ref a_town_over, .ref a_town_under, .int town_n, .int town_holders, .int town_cuts, .int town_hour, .int town_bears, .int town_draw, .ref a])), (a_town_kind, .inl (X.E 0, 8, .inl town_kind)), (a_town_strength, .inl (X.E 0, 8, .inl town_strength)), (a_town_place, .inl (X.E 0, 8, .inl town_place)), (a_town_length, .inl (X.E 0, 8, .inl town_length)), (a_town_gives, .inl (X.E 0, 8, .inl town_gives)), (a_town_over, .inl (X.E 1, 8, .inl town_over_13)), (a_town_under, .inl (X.E 1, 8, .inl town_under_14))]) (stk := [.long r_15]) rfl rfl rfl ?_)
              clear hv
              refine g_lstore_n (lv' := [(3, .long r_15), (0, .ref a), (1, .int x1), (2, .int x2)]) h dX0_of_101 rfl (hL 4 (fle rfl)) rfl ?_
              refine g_lload_n h 0 dX0_of_102 rfl rfl ?_
              refine g_lconst (v := 0) h dX0_of_103 rfl ?_
              refine g_lcmp h dX0_of_104 ?_
              refine g_if_le (tgt := 112) h dX0_of_105 rfl hf (fun c16 hf => ?_) (fun c16 hf => ?_)
              · refine g_lload_n h 0 dX0_of_112 rfl rfl ?_
                refine g_lconst (v := 0) h dX0_of_113 rfl ?_
                refine g_lcmp h dX0_of_114 ?_
                refine g_if_ge (tgt := 122) h dX0_of_115 rfl hf (fun c17 hf => ?_) (fun c17 hf => ?_)
                · refine g_iconst (v := 0) h dX0_of_122 kiconst_0 ?_
                  obtain ⟨rfl, rfl, rfl⟩ := sj3 hf
                  exact g_iret h hF [0, 1, 2, 3, 4, 5, 6, 7, 8, 9, 10, 11, 12, 13, 14] rfl rfl ⟨rfl, rfl⟩ (fle rfl) (fle rfl) dX0_of_123
                · refine g_iconst (v := 2) h dX0_of_118 kiconst_2 ?_
                  refine g_goto (tgt := 123) h dX0_of_119 rfl ?_
                  obtain ⟨rfl, rfl, rfl⟩ := sj3 hf
                  exact g_iret h hF [0, 1, 2, 3, 4, 5, 6, 7, 8, 9, 10, 11, 12, 13, 14] rfl rfl ⟨rfl, rfl⟩ (fle rfl) (fle rfl) dX0_of_123
              · refine g_iconst (v := 1) h dX0_of_108 kiconst_1 ?_
                refine g_goto (tgt := 123) h dX0_of_109 rfl ?_
                obtain ⟨rfl, rfl, rfl⟩ := sj3 hf
                exact g_iret h hF [0, 1, 2, 3, 4, 5, 6, 7, 8, 9, 10, 11, 12, 13, 14] rfl rfl ⟨rfl, rfl⟩ (fle rfl) (fle rfl) dX0_of_123
            · refine g_tabOut (tgt := 124) h dX0_of_11 (tab_out 0 4 (by decide) (by intro c z1 z2; rcases (show c = 0 ∨ c = 1 ∨ c = 2 ∨ c = 3 ∨ c = 4 by omega) with rfl | rfl | rfl | rfl | rfl <;> assumption)) rfl ?_
              refine g_iconst (v := (-1)) h dX0_of_124 kiconst_m1 ?_
              obtain ⟨rfl, rfl, rfl⟩ := sj3 hf
              exact g_iret h hF [0, 1, 2, 3, 4, 5, 6, 7, 8, 9, 10, 11, 12, 13, 14] rfl rfl ⟨rfl, rfl⟩ (fle rfl) (fle rfl) dX0_of_125
set_option maxHeartbeats 4000000 in
set_option maxRecDepth 100000 in
theorem w_X9_common_L6 {X : Cx}   {ce sl : Nat} (h : Ok X cX9_common RX9) (hR : Rm X 0 0 0 0) (hL : ∀ i, i < 10 → i < X.nL) (hce : ce ≤ 0) (hsl : sl ≤ 0) : ∀ (n0 : Nat) (x4 : Int64) (x6 : Int64) {o_x4 : Int64}, f_X9_common_L6 n0 x4 x6 = some o_x4 → (G X [] [(4, .long o_x4)] ce sl 31 []) → G X [] [(4, .long x4), (6, .long x6)] ce sl 6 [] := by
  intro n0
  induction n0 with
  | zero => intro x4 x6 o_x4 hf; exact nomatch (show (none : Option _) = some _ from hf)
  | succ n0 ih =>
    intro x4 x6 o_x4 hf k0
    replace hf : t_X9_common_L6 (f_X9_common_L6 n0) x4 x6 = some o_x4 := hf
    unfold t_X9_common_L6 at hf
    refine g_lload h 1 dX9_common_6 rfl ?_
    refine g_lconst (v := 0) h dX9_common_8 rfl ?_
    refine g_lcmp h dX9_common_9 ?_
    refine g_if_eq (tgt := 31) h dX9_common_10 rfl hf (fun c1 hf => ?_) (fun c1 hf => ?_)
    · obtain rfl := sj1 hf
      exact G.lsub [0] rfl k0
    · refine g_lload h 0 dX9_common_13 rfl ?_
      refine g_lload h 1 dX9_common_15 rfl ?_
      obtain ⟨g2, hf⟩ := gn hf
      refine g_lrem h dX9_common_17 g2 ?_
      refine g_lstore (lv' := [(8, .long (x4 - x4 / x6 * x6)), (4, .long x4), (6, .long x6)]) h dX9_common_18 (hL 9 (fle rfl)) rfl ?_
      refine g_lload h 2 dX9_common_20 rfl ?_
      refine g_lstore (lv' := [(4, .long x6), (8, .long (x4 - x4 / x6 * x6)), (6, .long x6)]) h dX9_common_22 (hL 5 (fle rfl)) rfl ?_
      refine g_lload h 1 dX9_common_24 rfl ?_
      refine g_lstore (lv' := [(6, .long (x4 - x4 / x6 * x6)), (4, .long x6), (8, .long (x4 - x4 / x6 * x6))]) h dX9_common_26 (hL 7 (fle rfl)) rfl ?_
      refine g_goto (tgt := 6) h dX9_common_28 rfl ?_
      exact G.lsub [1, 0] rfl (ih _ _ hf k0)
set_option maxHeartbeats 4000000 in
set_option maxRecDepth 100000 in
theorem ct_X9_common {l : Launch} {D : va_G} {E : Ety}  {x0 : Int64} {x2 : Int64} {r_ : Int64} (hf : f_X9_common x0 x2 = some r_) : Ct l yX9_common cX9_common 10 (some .long) 0 0 0 0 D E [.long x0, .long x2] [] (Pn (some (.long r_)) []) := by
  refine ct_of (own := RX9) (plainFor_of_name (by decide)) rfl (fle rfl) rfl ?_
  intro X hl hD hE hnL hXF h hR hF hnm
  subst hl; subst hD; subst hE
  have hL : ∀ i, i < 10 → i < X.nL := fun i hi => by rw [hnL]; exact hi
  unfold f_X9_common at hf
  refine g_lload_n h 0 dX9_common_0 rfl rfl ?_
  refine g_lstore (lv' := [(4, .long x0), (0, .long x0), (2, .long x2)]) h dX9_common_1 (hL 5 (fle rfl)) rfl ?_
  refine g_lload_n h 2 dX9_common_3 rfl rfl ?_
  refine g_lstore (lv' := [(6, .long x2), (4, .long x0), (0, .long x0), (2, .long x2)]) h dX9_common_4 (hL 7 (fle rfl)) rfl ?_
  refine G.lsub (lv' := [(4, .long x0), (6, .long x2)]) [1, 0] rfl ?_
  obtain ⟨x4_3, hv, hf⟩ := ob1 hf
  refine w_X9_common_L6  h hR hL (fle rfl) (fle rfl) FU _ _ hv ?_
  · clear hv
    refine g_lload h 0 dX9_common_31 rfl ?_
    obtain rfl := sj1 hf
    exact g_lret h hF [] rfl rfl ⟨rfl, rfl⟩ (fle rfl) (fle rfl) dX9_common_33
set_option maxHeartbeats 4000000 in
set_option maxRecDepth 100000 in
theorem ct_X9_init {l : Launch} {D : va_G} {E : Ety} {a : Nat} {x1 : Int64} {x3 : Int64} {above : Int64} {below : Int64} {o_above : Int64} {o_below : Int64} (hf : f_X9_init x1 x3 = some (o_above, o_below)) : Ct l yX9_init cX9_init 7 none 1 29 0 0 D E [.ref a, .long x1, .long x3] [(a, .inr (9, [.long above, .long below]))] (Pn none [(a, .inr (9, [.long o_above, .long o_below]))]) := by
  refine ct_of (own := RX9) (plainFor_of_name (by decide)) rfl (fle rfl) rfl ?_
  intro X hl hD hE hnL hXF h hR hF hnm
  subst hl; subst hD; subst hE
  have hL : ∀ i, i < 7 → i < X.nL := fun i hi => by rw [hnL]; exact hi
  unfold f_X9_init at hf
  refine g_aload_n h 0 dX9_init_0 rfl rfl ?_
  refine g_objInit h hR q254 q255 q256 (fle rfl) (fle rfl) dX9_init_1 ?_
  refine g_lload_n h 1 dX9_init_4 rfl rfl ?_
  obtain ⟨r_1, hv, hf⟩ := ob1 hf
  refine g_callS (n := 1) (As := [.long x1]) (st := []) (wr := [(a, .inr (9, [.long above, .long below]))]) (isC := []) (isR := [0]) h hR (ct_J2_abs (x0 := x1) hv) (lw_S q257 q165 q81 q166) (by decide +kernel) rfl ⟨rfl, rfl, rfl, rfl, by decide⟩ ⟨fle rfl, fle rfl, fle rfl, fle rfl, fle rfl⟩ rfl dX9_init_5 (pin (perm := [0]) (ws' := [(a, .inr (9, [.long above, .long below]))]) (stk := [.long r_1]) rfl rfl rfl ?_)
  clear hv
  refine g_lload_n h 2 dX9_init_8 rfl rfl ?_
  obtain ⟨r_2, hv, hf⟩ := ob1 hf
  refine g_callS (n := 2) (As := [.long r_1, .long x3]) (st := []) (wr := [(a, .inr (9, [.long above, .long below]))]) (isC := []) (isR := [0]) h hR (ct_X9_common (x0 := r_1) (x2 := x3) hv) (lw_S q258 q259 q82 q260) (by decide +kernel) rfl ⟨rfl, rfl, rfl, rfl, by decide⟩ ⟨fle rfl, fle rfl, fle rfl, fle rfl, fle rfl⟩ rfl dX9_init_9 (pin (perm := [0]) (ws' := [(a, .inr (9, [.long above, .long below]))]) (stk := [.long r_2]) rfl rfl rfl ?_)
  clear hv
  refine g_lstore (lv' := [(5, .long r_2), (0, .ref a), (1, .long x1), (3, .long x3)]) h dX9_init_12 (hL 6 (fle rfl)) rfl ?_
  refine g_aload_n h 1 dX9_init_14 rfl rfl ?_
  refine g_lload_n h 2 dX9_init_15 rfl rfl ?_
  refine g_lload h 0 dX9_init_16 rfl ?_
  obtain ⟨g3, hf⟩ := gn hf
  refine g_ldiv h dX9_init_18 g3 ?_
  refine g_putF (ci := 9) (ty := tyX9 0) (ws' := [(a, .inr (9, [.long (x1 / r_2), .long below]))]) h in_X9 tyX9 tyX9_ok nmX9 hnm 0 0 rfl rfl (fle rfl) ⟨rfl, rfl, rfl⟩ q261 rfl rfl rfl (fle rfl) rfl dX9_init_19 ?_
  refine g_aload_n h 1 dX9_init_22 rfl rfl ?_
  refine g_lload_n h 3 dX9_init_23 rfl rfl ?_
  refine g_lload h 0 dX9_init_24 rfl ?_
  refine g_ldiv h dX9_init_26 g3 ?_
  refine g_putF (ci := 9) (ty := tyX9 1) (ws' := [(a, .inr (9, [.long (x1 / r_2), .long (x3 / r_2)]))]) h in_X9 tyX9 tyX9_ok nmX9 hnm 0 1 rfl rfl (fle rfl) ⟨rfl, rfl, rfl⟩ q262 rfl rfl rfl (fle rfl) rfl dX9_init_27 ?_
  obtain ⟨rfl, rfl⟩ := sj2 hf
  exact g_vret h hF [0] rfl rfl ⟨rfl, rfl⟩ (fle rfl) (fle rfl) dX9_init_30
set_option maxHeartbeats 4000000 in
set_option maxRecDepth 100000 in
theorem ct_X0_whole {l : Launch} {D : va_G} {E : Ety}  {x0 : Int64} {n_0 : Int64} {n_1 : Int64} (hf : f_X0_whole x0 = some (n_0, n_1)) : Ct l yX0_whole cX0_whole 2 (some (.object "OneElastic$Part")) 2 55 1 2 D E [.long x0] [] (Pr (fun q => [(q, .inr (9, [.long n_0, .long n_1]))])) := by
  refine ct_of (own := RX0) (plainFor_of_name (by decide)) rfl (fle rfl) rfl ?_
  intro X hl hD hE hnL hXF h hR hF hnm
  subst hl; subst hD; subst hE
  have hL : ∀ i, i < 2 → i < X.nL := fun i hi => by rw [hnL]; exact hi
  unfold f_X0_whole at hf
  refine g_new (ci := 9) (fs := [.long 0, .long 0]) h hR in_X9 tyX9 tyX9_ok q249 q250 q82 rfl df_X9 (fle rfl) (fle rfl) dX0_whole_0 (fun q1 => ?_)
  refine G.sub (ws' := [(q1, .inr (9, [.long 0, .long 0]))]) [0] rfl rfl ?_
  refine g_dup h dX0_whole_3 rfl ?_
  refine g_lload_n h 0 dX0_whole_4 rfl rfl ?_
  refine g_lconst (v := 1) h dX0_whole_5 rfl ?_
  obtain ⟨q1_f0_2, q1_f1_3, hv, hf⟩ := ob2 hf
  refine g_callI (n := 2) (As := [.long x0, .long 1]) (st := [.ref q1]) (wr := []) (isC := [0]) (isR := []) h hR (ct_X9_init (a := q1) (x1 := x0) (x3 := 1) (above := 0) (below := 0) hv) q253 q82 q251 q252 rfl (by decide +kernel) rfl ⟨rfl, rfl, rfl, rfl, by decide⟩ ⟨fle rfl, fle rfl, fle rfl, fle rfl, fle rfl⟩ rfl dX0_whole_6 (pin (perm := [0]) (ws' := [(q1, .inr (9, [.long q1_f0_2, .long q1_f1_3]))]) (stk := [.ref q1]) rfl rfl rfl ?_)
  clear hv
  obtain ⟨rfl, rfl⟩ := sj2 hf
  exact g_aret h hF (Or.inl ⟨_, rfl⟩) (Or.inr ⟨_, rfl⟩) [0] rfl rfl ⟨_, rfl, rfl⟩ (fle rfl) (fle rfl) dX0_whole_9
set_option maxHeartbeats 4000000 in
set_option maxRecDepth 100000 in
theorem w_X6_next_L2 {X : Cx} {a a_gives a_kind a_length a_over a_place a_strength a_this0 a_under : Nat} {x2 : Int32} {n : Int32} {holders : Int32} {cuts : Int32} {hour : Int32} {bears : Int32} {draw : Int32} {ce sl : Nat} (h : Ok X cX6_next RX6) (hR : Rm X 1 21 0 0) (hL : ∀ i, i < 5 → i < X.nL) (hce : ce ≤ 0) (hsl : sl ≤ 0) : ∀ (n0 : Nat) (x3 : Int32) {otag : Nat} {o_x3 : Int32}, f_X6_next_L2 x2 n holders cuts n0 x3 = some (otag, o_x3) → (otag = 0 → G X [(a, .inr (6, [.ref a_kind, .ref a_strength, .ref a_place, .ref a_length, .ref a_gives, .ref a_over, .ref a_under, .int n, .int holders, .int cuts, .int hour, .int bears, .int draw, .ref a_this0]))] [] ce sl 40 []) → (otag = 1 → G X [(a, .inr (6, [.ref a_kind, .ref a_strength, .ref a_place, .ref a_length, .ref a_gives, .ref a_over, .ref a_under, .int n, .int holders, .int cuts, .int hour, .int bears, .int draw, .ref a_this0]))] [(3, .int o_x3)] ce sl 51 []) → G X [(a, .inr (6, [.ref a_kind, .ref a_strength, .ref a_place, .ref a_length, .ref a_gives, .ref a_over, .ref a_under, .int n, .int holders, .int cuts, .int hour, .int bears, .int draw, .ref a_this0]))] [(0, .ref a), (2, .int x2), (3, .int x3)] ce sl 2 [] := by
  intro n0
  induction n0 with
  | zero => intro x3 otag o_x3 hf; exact nomatch (show (none : Option _) = some _ from hf)
  | succ n0 ih =>
    intro x3 otag o_x3 hf k0 k1
    replace hf : t_X6_next_L2 x2 n holders cuts (f_X6_next_L2 x2 n holders cuts n0) x3 = some (otag, o_x3) := hf
    unfold t_X6_next_L2 at hf
    refine g_iload_n h 1 dX6_next_2 rfl rfl ?_
    obtain ⟨z_2, hw, hf⟩ := ob1 hf
    have K3 : G X [(a, .inr (6, [.ref a_kind, .ref a_strength, .ref a_place, .ref a_length, .ref a_gives, .ref a_over, .ref a_under, .int n, .int holders, .int cuts, .int hour, .int bears, .int draw, .ref a_this0]))] [(0, .ref a), (2, .int x2), (3, .int x3)] ce sl 13 [.int z_2] := by
      clear hw
      refine g_istore (lv' := [(4, .int z_2), (0, .ref a), (2, .int x2), (3, .int x3)]) h dX6_next_13 (hL 4 (fle rfl)) rfl ?_
      refine g_iload_n h 3 dX6_next_15 rfl rfl ?_
      refine g_iload_n h 2 dX6_next_16 rfl rfl ?_
      refine g_iadd h dX6_next_17 ?_
      refine g_istore_n (lv' := [(3, .int (x3 + x2)), (4, .int z_2), (0, .ref a), (2, .int x2)]) h dX6_next_18 rfl (hL 3 (fle rfl)) rfl ?_
      refine g_iload_n h 0 dX6_next_19 rfl rfl ?_
      refine g_if_lt (tgt := 40) h dX6_next_20 rfl hf (fun c3 hf => ?_) (fun c3 hf => ?_)
      · obtain ⟨rfl, rfl⟩ := sj2 hf
        exact G.lsub [] rfl (k0 rfl)
      · refine g_iload_n h 0 dX6_next_23 rfl rfl ?_
        refine g_aload_n h 2 dX6_next_24 rfl rfl ?_
        refine g_get (ci := 6) (v := .int n) h in_X6 0 7 rfl rfl (fle rfl) rfl q563 rfl dX6_next_25 ?_
        refine g_icmp_ge (tgt := 40) h dX6_next_28 rfl hf (fun c4 hf => ?_) (fun c4 hf => ?_)
        · obtain ⟨rfl, rfl⟩ := sj2 hf
          exact G.lsub [] rfl (k0 rfl)
        · refine g_aload_n h 2 dX6_next_31 rfl rfl ?_
          refine g_iload h 1 dX6_next_32 rfl ?_
          obtain ⟨r_5, hv, hf⟩ := ob1 hf
          refine g_callV (ci := 6) (q0 := 0) (n := 1) (As := [.int z_2]) (st := []) (wr := []) (isC := [0]) (isR := []) h hR (ct_X6_isCut (a := a) (a_kind := a_kind) (a_strength := a_strength) (a_place := a_place) (a_length := a_length) (a_gives := a_gives) (a_over := a_over) (a_under := a_under) (a_this0 := a_this0) (x1 := z_2) (n := n) (holders := holders) (cuts := cuts) (hour := hour) (bears := bears) (draw := draw) hv) rfl rfl (lw_V q138 q139 q140 q76 q141) (by decide +kernel) rfl ⟨rfl, rfl, rfl, rfl, by decide⟩ ⟨hce, hsl, fle rfl, fle rfl, fle rfl⟩ rfl dX6_next_34 (pin (perm := [0]) (ws' := [(a, .inr (6, [.ref a_kind, .ref a_strength, .ref a_place, .ref a_length, .ref a_gives, .ref a_over, .ref a_under, .int n, .int holders, .int cuts, .int hour, .int bears, .int draw, .ref a_this0]))]) (stk := [.int r_5]) rfl rfl rfl ?_)
          clear hv
          refine g_if_eq (tgt := 43) h dX6_next_37 rfl hf (fun c6 hf => ?_) (fun c6 hf => ?_)
          · refine g_aload_n h 2 dX6_next_43 rfl rfl ?_
            refine g_iload_n h 0 dX6_next_44 rfl rfl ?_
            obtain ⟨r_7, hv, hf⟩ := ob1 hf
            refine g_callV (ci := 6) (q0 := 0) (n := 1) (As := [.int (x3 + x2)]) (st := []) (wr := []) (isC := [0]) (isR := []) h hR (ct_X6_holds (a := a) (a_kind := a_kind) (a_strength := a_strength) (a_place := a_place) (a_length := a_length) (a_gives := a_gives) (a_over := a_over) (a_under := a_under) (a_this0 := a_this0) (x1 := (x3 + x2)) (n := n) (holders := holders) (cuts := cuts) (hour := hour) (bears := bears) (draw := draw) hv) rfl rfl (lw_V q142 q143 q144 q76 q145) (by decide +kernel) rfl ⟨rfl, rfl, rfl, rfl, by decide⟩ ⟨hce, hsl, fle rfl, fle rfl, fle rfl⟩ rfl dX6_next_45 (pin (perm := [0]) (ws' := [(a, .inr (6, [.ref a_kind, .ref a_strength, .ref a_place, .ref a_length, .ref a_gives, .ref a_over, .ref a_under, .int n, .int holders, .int cuts, .int hour, .int bears, .int draw, .ref a_this0]))]) (stk := [.int r_7]) rfl rfl rfl ?_)
            clear hv
            refine g_if_eq (tgt := 53) h dX6_next_48 rfl hf (fun c8 hf => ?_) (fun c8 hf => ?_)
            · refine g_goto (tgt := 2) h dX6_next_53 rfl ?_
              exact G.lsub [2, 3, 0] rfl (ih _ hf k0 k1)
            · obtain ⟨rfl, rfl⟩ := sj2 hf
              exact G.lsub [0] rfl (k1 rfl)
          · obtain ⟨rfl, rfl⟩ := sj2 hf
            exact G.lsub [] rfl (k0 rfl)
    clear hf
    have hf := hw
    clear hw
    refine g_if_ge (tgt := 12) h dX6_next_3 rfl hf (fun c1 hf => ?_) (fun c1 hf => ?_)
    · refine g_iload_n h 2 dX6_next_12 rfl rfl ?_
      obtain rfl := sj1 hf
      exact G.lsub [0, 1, 2] rfl K3
    · refine g_iload_n h 2 dX6_next_6 rfl rfl ?_
      refine g_iconst (v := 1) h dX6_next_7 kiconst_1 ?_
      refine g_isub h dX6_next_8 ?_
      refine g_goto (tgt := 13) h dX6_next_9 rfl ?_
      obtain rfl := sj1 hf
      exact G.lsub [0, 1, 2] rfl K3
set_option maxHeartbeats 4000000 in
set_option maxRecDepth 100000 in
theorem ct_X6_next {l : Launch} {D : va_G} {E : Ety} {a a_kind a_strength a_place a_length a_gives a_over a_under a_this0 : Nat} {x1 : Int32} {x2 : Int32} {n : Int32} {holders : Int32} {cuts : Int32} {hour : Int32} {bears : Int32} {draw : Int32} {r_ : Int32} (hf : f_X6_next x1 x2 n holders cuts = some r_) : Ct l yX6_next cX6_next 5 (some .int) 1 21 0 0 D E [.ref a, .int x1, .int x2] [(a, .inr (6, [.ref a_kind, .ref a_strength, .ref a_place, .ref a_length, .ref a_gives, .ref a_over, .ref a_under, .int n, .int holders, .int cuts, .int hour, .int bears, .int draw, .ref a_this0]))] (Pn (some (.int r_)) [(a, .inr (6, [.ref a_kind, .ref a_strength, .ref a_place, .ref a_length, .ref a_gives, .ref a_over, .ref a_under, .int n, .int holders, .int cuts, .int hour, .int bears, .int draw, .ref a_this0]))]) := by
  refine ct_of (own := RX6) (plainFor_of_name (by decide)) rfl (fle rfl) rfl ?_
  intro X hl hD hE hnL hXF h hR hF hnm
  subst hl; subst hD; subst hE
  have hL : ∀ i, i < 5 → i < X.nL := fun i hi => by rw [hnL]; exact hi
  unfold f_X6_next at hf
  refine g_iload_n h 1 dX6_next_0 rfl rfl ?_
  refine g_istore_n (lv' := [(3, .int x1), (0, .ref a), (1, .int x1), (2, .int x2)]) h dX6_next_1 rfl (hL 3 (fle rfl)) rfl ?_
  refine G.lsub (lv' := [(0, .ref a), (2, .int x2), (3, .int x1)]) [1, 3, 0] rfl ?_
  obtain ⟨tag_9, x3_10, hv, hf⟩ := ob2 hf
  refine w_X6_next_L2 (x2 := x2) (n := n) (holders := holders) (cuts := cuts) (hour := hour) (bears := bears) (draw := draw) h hR hL (fle rfl) (fle rfl) FU _ hv ?_ ?_
  · intro ht
    have hf := (if_pos ht).symm.trans hf
    clear hv
    refine g_bipush (v := (-4)) h dX6_next_40 kbipush_m4 ?_
    obtain rfl := sj1 hf
    exact g_iret h hF [0] rfl rfl ⟨rfl, rfl⟩ (fle rfl) (fle rfl) dX6_next_42
  · intro ht
    have hf := (if_neg (show ¬ tag_9 = 0 from by rw [ht]; decide)).symm.trans hf
    clear hv
    refine g_iload_n h 0 dX6_next_51 rfl rfl ?_
    obtain rfl := sj1 hf
    exact g_iret h hF [0] rfl rfl ⟨rfl, rfl⟩ (fle rfl) (fle rfl) dX6_next_52
set_option maxHeartbeats 4000000 in
set_option maxRecDepth 100000 in
theorem ct_X9_plus {l : Launch} {D : va_G} {E : Ety} {a a_t1 : Nat} {above : Int64} {below : Int64} {t1_above : Int64} {t1_below : Int64} {n_0 : Int64} {n_1 : Int64} (hf : f_X9_plus above below t1_above t1_below = some (n_0, n_1)) : Ct l yX9_plus cX9_plus 2 (some (.object "OneElastic$Part")) 2 55 1 2 D E [.ref a, .ref a_t1] [(a, .inr (9, [.long above, .long below])), (a_t1, .inr (9, [.long t1_above, .long t1_below]))] (Pr (fun q => [(a, .inr (9, [.long above, .long below])), (a_t1, .inr (9, [.long t1_above, .long t1_below])), (q, .inr (9, [.long n_0, .long n_1]))])) := by
  refine ct_of (own := RX9) (plainFor_of_name (by decide)) rfl (fle rfl) rfl ?_
  intro X hl hD hE hnL hXF h hR hF hnm
  subst hl; subst hD; subst hE
  have hL : ∀ i, i < 2 → i < X.nL := fun i hi => by rw [hnL]; exact hi
  unfold f_X9_plus at hf
  refine g_new (ci := 9) (fs := [.long 0, .long 0]) h hR in_X9 tyX9 tyX9_ok q278 q250 q82 rfl df_X9 (fle rfl) (fle rfl) dX9_plus_0 (fun q1 => ?_)
  refine G.sub (ws' := [(a, .inr (9, [.long above, .long below])), (a_t1, .inr (9, [.long t1_above, .long t1_below])), (q1, .inr (9, [.long 0, .long 0]))]) [0, 1, 2] rfl rfl ?_
  refine g_dup h dX9_plus_3 rfl ?_
  refine g_aload_n h 0 dX9_plus_4 rfl rfl ?_
  refine g_get (ci := 9) (v := .long above) h in_X9 0 0 rfl rfl (fle rfl) rfl q261 rfl dX9_plus_5 ?_
  refine g_aload_n h 1 dX9_plus_8 rfl rfl ?_
  refine g_get (ci := 9) (v := .long t1_below) h in_X9 1 1 rfl rfl (fle rfl) rfl q262 rfl dX9_plus_9 ?_
  refine g_lmul h dX9_plus_12 ?_
  refine g_aload_n h 1 dX9_plus_13 rfl rfl ?_
  refine g_get (ci := 9) (v := .long t1_above) h in_X9 1 0 rfl rfl (fle rfl) rfl q261 rfl dX9_plus_14 ?_
  refine g_aload_n h 0 dX9_plus_17 rfl rfl ?_
  refine g_get (ci := 9) (v := .long below) h in_X9 0 1 rfl rfl (fle rfl) rfl q262 rfl dX9_plus_18 ?_
  refine g_lmul h dX9_plus_21 ?_
  refine g_ladd h dX9_plus_22 ?_
  refine g_aload_n h 0 dX9_plus_23 rfl rfl ?_
  refine g_get (ci := 9) (v := .long below) h in_X9 0 1 rfl rfl (fle rfl) rfl q262 rfl dX9_plus_24 ?_
  refine g_aload_n h 1 dX9_plus_27 rfl rfl ?_
  refine g_get (ci := 9) (v := .long t1_below) h in_X9 1 1 rfl rfl (fle rfl) rfl q262 rfl dX9_plus_28 ?_
  refine g_lmul h dX9_plus_31 ?_
  obtain ⟨q1_f0_2, q1_f1_3, hv, hf⟩ := ob2 hf
  refine g_callI (n := 2) (As := [.long ((above * t1_below) + (t1_above * below)), .long (below * t1_below)]) (st := [.ref q1]) (wr := [(a, .inr (9, [.long above, .long below])), (a_t1, .inr (9, [.long t1_above, .long t1_below]))]) (isC := [2]) (isR := [0, 1]) h hR (ct_X9_init (a := q1) (x1 := ((above * t1_below) + (t1_above * below))) (x3 := (below * t1_below)) (above := 0) (below := 0) hv) q253 q82 q279 q252 rfl (by decide +kernel) rfl ⟨rfl, rfl, rfl, rfl, by decide⟩ ⟨fle rfl, fle rfl, fle rfl, fle rfl, fle rfl⟩ rfl dX9_plus_32 (pin (perm := [0, 1, 2]) (ws' := [(a, .inr (9, [.long above, .long below])), (a_t1, .inr (9, [.long t1_above, .long t1_below])), (q1, .inr (9, [.long q1_f0_2, .long q1_f1_3]))]) (stk := [.ref q1]) rfl rfl rfl ?_)
  clear hv
  obtain ⟨rfl, rfl⟩ := sj2 hf
  exact g_aret h hF (Or.inl ⟨_, rfl⟩) (Or.inr ⟨_, rfl⟩) [0, 1, 2] rfl rfl ⟨_, rfl, rfl⟩ (fle rfl) (fle rfl) dX9_plus_35
set_option maxHeartbeats 4000000 in
set_option maxRecDepth 100000 in
theorem w_X6_placeOf_L96 {X : Cx} {a a_gives a_kind a_length a_over a_place a_strength a_this0 a_under : Nat} {x1 : Int32} {x2 : Int32} {n : Int32} {holders : Int32} {cuts : Int32} {hour : Int32} {bears : Int32} {draw : Int32} {place : Nat → Int32} {length : Nat → Int32} {gives : Nat → Int32} {over : Nat → Int32} {under : Nat → Int32} {ce sl : Nat} (h : Ok X cX6_placeOf RX6) (hR : Rm X 3 76 3 6) (hL : ∀ i, i < 9 → i < X.nL) (hce : ce ≤ 3) (hsl : sl ≤ 6) : ∀ (n0 : Nat) (x4 : Int64) (x6 : Int64) (x8 : Int32) {o_x4 : Int64} {o_x6 : Int64}, f_X6_placeOf_L96 x1 length gives over n0 x4 x6 x8 = some (o_x4, o_x6) → (G X [(a, .inr (6, [.ref a_kind, .ref a_strength, .ref a_place, .ref a_length, .ref a_gives, .ref a_over, .ref a_under, .int n, .int holders, .int cuts, .int hour, .int bears, .int draw, .ref a_this0])), (a_place, .inl (X.E 0, 8, .inl place)), (a_length, .inl (X.E 0, 8, .inl length)), (a_gives, .inl (X.E 0, 8, .inl gives)), (a_over, .inl (X.E 1, 8, .inl over)), (a_under, .inl (X.E 1, 8, .inl under))] [(0, .ref a), (2, .int x2), (4, .long o_x4), (6, .long o_x6)] ce sl 143 []) → G X [(a, .inr (6, [.ref a_kind, .ref a_strength, .ref a_place, .ref a_length, .ref a_gives, .ref a_over, .ref a_under, .int n, .int holders, .int cuts, .int hour, .int bears, .int draw, .ref a_this0])), (a_place, .inl (X.E 0, 8, .inl place)), (a_length, .inl (X.E 0, 8, .inl length)), (a_gives, .inl (X.E 0, 8, .inl gives)), (a_over, .inl (X.E 1, 8, .inl over)), (a_under, .inl (X.E 1, 8, .inl under))] [(0, .ref a), (1, .int x1), (2, .int x2), (4, .long x4), (6, .long x6), (8, .int x8)] ce sl 96 [] := by
  intro n0
  induction n0 with
  | zero => intro x4 x6 x8 o_x4 o_x6 hf; exact nomatch (show (none : Option _) = some _ from hf)
  | succ n0 ih =>
    intro x4 x6 x8 o_x4 o_x6 hf k0
    replace hf : t_X6_placeOf_L96 x1 length gives over (f_X6_placeOf_L96 x1 length gives over n0) x4 x6 x8 = some (o_x4, o_x6) := hf
    unfold t_X6_placeOf_L96 at hf
    refine g_iload h 5 dX6_placeOf_96 rfl ?_
    refine g_iload_n h 1 dX6_placeOf_98 rfl rfl ?_
    refine g_icmp_ge (tgt := 143) h dX6_placeOf_99 rfl hf (fun c23 hf => ?_) (fun c23 hf => ?_)
    · obtain ⟨rfl, rfl⟩ := sj2 hf
      exact G.lsub [0, 2, 3, 4] rfl k0
    · refine g_lload h 3 dX6_placeOf_102 rfl ?_
      refine g_aload_n h 0 dX6_placeOf_104 rfl rfl ?_
      refine g_get (ci := 6) (v := .ref a_length) h in_X6 0 3 rfl rfl (fle rfl) rfl q555 rfl dX6_placeOf_105 ?_
      refine g_iload h 5 dX6_placeOf_108 rfl ?_
      obtain ⟨g24, hf⟩ := gn hf
      refine g_baload h 2 rfl g24 dX6_placeOf_110 ?_
      refine g_i2l h dX6_placeOf_111 ?_
      refine g_ladd h dX6_placeOf_112 ?_
      refine nm_l (fun y_25 ey_25 => ?_)
      have hf := nm_at hf y_25 ey_25
      refine g_lstore (lv' := [(4, .long y_25), (0, .ref a), (1, .int x1), (2, .int x2), (6, .long x6), (8, .int x8)]) h dX6_placeOf_113 (hL 5 (fle rfl)) rfl ?_
      refine g_lload h 4 dX6_placeOf_115 rfl ?_
      refine g_aload_n h 1 dX6_placeOf_117 rfl rfl ?_
      refine g_get (ci := 6) (v := .ref a_over) h in_X6 0 5 rfl rfl (fle rfl) rfl q559 rfl dX6_placeOf_118 ?_
      refine g_iload h 5 dX6_placeOf_121 rfl ?_
      refine g_iaload h 4 rfl g24 dX6_placeOf_123 ?_
      refine g_i2l h dX6_placeOf_124 ?_
      refine g_aload_n h 1 dX6_placeOf_125 rfl rfl ?_
      refine g_get (ci := 6) (v := .ref a_gives) h in_X6 0 4 rfl rfl (fle rfl) rfl q557 rfl dX6_placeOf_126 ?_
      refine g_iload h 5 dX6_placeOf_129 rfl ?_
      refine g_baload h 3 rfl g24 dX6_placeOf_131 ?_
      refine g_i2l h dX6_placeOf_132 ?_
      refine g_lmul h dX6_placeOf_133 ?_
      refine g_ladd h dX6_placeOf_134 ?_
      refine nm_l (fun y_26 ey_26 => ?_)
      have hf := nm_at hf y_26 ey_26
      refine g_lstore (lv' := [(6, .long y_26), (4, .long y_25), (0, .ref a), (1, .int x1), (2, .int x2), (8, .int x8)]) h dX6_placeOf_135 (hL 7 (fle rfl)) rfl ?_
      refine g_iinc (j := 5) (v := (x8 + 1)) (lv' := [(8, .int (x8 + 1)), (6, .long y_26), (4, .long y_25), (0, .ref a), (1, .int x1), (2, .int x2)]) h dX6_placeOf_137 rfl (kinc_1 _) (hL 8 (fle rfl)) rfl ?_
      refine g_goto (tgt := 96) h dX6_placeOf_140 rfl ?_
      exact G.lsub [3, 4, 5, 2, 1, 0] rfl (ih _ _ _ hf k0)
set_option maxHeartbeats 4000000 in
set_option maxRecDepth 100000 in
theorem ct_X6_placeOf {l : Launch} {D : va_G} {E : Ety} {a a_kind a_strength a_place a_length a_gives a_over a_under a_this0 : Nat} {x1 : Int32} {n : Int32} {holders : Int32} {cuts : Int32} {hour : Int32} {bears : Int32} {draw : Int32} {place : Nat → Int32} {length : Nat → Int32} {gives : Nat → Int32} {over : Nat → Int32} {under : Nat → Int32} {n_0 : Int64} {n_1 : Int64} (hf : f_X6_placeOf x1 n holders cuts place length gives over under = some (n_0, n_1)) : Ct l yX6_placeOf cX6_placeOf 9 (some (.object "OneElastic$Part")) 3 76 3 6 D E [.ref a, .int x1] [(a, .inr (6, [.ref a_kind, .ref a_strength, .ref a_place, .ref a_length, .ref a_gives, .ref a_over, .ref a_under, .int n, .int holders, .int cuts, .int hour, .int bears, .int draw, .ref a_this0])), (a_place, .inl (E 0, 8, .inl place)), (a_length, .inl (E 0, 8, .inl length)), (a_gives, .inl (E 0, 8, .inl gives)), (a_over, .inl (E 1, 8, .inl over)), (a_under, .inl (E 1, 8, .inl under))] (Pr (fun q => [(a, .inr (6, [.ref a_kind, .ref a_strength, .ref a_place, .ref a_length, .ref a_gives, .ref a_over, .ref a_under, .int n, .int holders, .int cuts, .int hour, .int bears, .int draw, .ref a_this0])), (a_place, .inl (E 0, 8, .inl place)), (a_length, .inl (E 0, 8, .inl length)), (a_gives, .inl (E 0, 8, .inl gives)), (a_over, .inl (E 1, 8, .inl over)), (a_under, .inl (E 1, 8, .inl under)), (q, .inr (9, [.long n_0, .long n_1]))])) := by
  refine ct_of (own := RX6) (plainFor_of_name (by decide)) rfl (fle rfl) rfl ?_
  intro X hl hD hE hnL hXF h hR hF hnm
  subst hl; subst hD; subst hE
  have hL : ∀ i, i < 9 → i < X.nL := fun i hi => by rw [hnL]; exact hi
  unfold f_X6_placeOf at hf
  refine g_aload_n h 0 dX6_placeOf_0 rfl rfl ?_
  refine g_iload_n h 1 dX6_placeOf_1 rfl rfl ?_
  obtain ⟨r_1, hv, hf⟩ := ob1 hf
  refine g_callV (ci := 6) (q0 := 0) (n := 1) (As := [.int x1]) (st := []) (wr := [(a_place, .inl (X.E 0, 8, .inl place)), (a_length, .inl (X.E 0, 8, .inl length)), (a_gives, .inl (X.E 0, 8, .inl gives)), (a_over, .inl (X.E 1, 8, .inl over)), (a_under, .inl (X.E 1, 8, .inl under))]) (isC := [0]) (isR := [1, 2, 3, 4, 5]) h hR (ct_X6_holds (a := a) (a_kind := a_kind) (a_strength := a_strength) (a_place := a_place) (a_length := a_length) (a_gives := a_gives) (a_over := a_over) (a_under := a_under) (a_this0 := a_this0) (x1 := x1) (n := n) (holders := holders) (cuts := cuts) (hour := hour) (bears := bears) (draw := draw) hv) rfl rfl (lw_V q142 q143 q144 q76 q145) (by decide +kernel) rfl ⟨rfl, rfl, rfl, rfl, by decide⟩ ⟨fle rfl, fle rfl, fle rfl, fle rfl, fle rfl⟩ rfl dX6_placeOf_2 (pin (perm := [5, 0, 1, 2, 3, 4]) (ws' := [(a, .inr (6, [.ref a_kind, .ref a_strength, .ref a_place, .ref a_length, .ref a_gives, .ref a_over, .ref a_under, .int n, .int holders, .int cuts, .int hour, .int bears, .int draw, .ref a_this0])), (a_place, .inl (X.E 0, 8, .inl place)), (a_length, .inl (X.E 0, 8, .inl length)), (a_gives, .inl (X.E 0, 8, .inl gives)), (a_over, .inl (X.E 1, 8, .inl over)), (a_under, .inl (X.E 1, 8, .inl under))]) (stk := [.int r_1]) rfl rfl rfl ?_)
  clear hv
  refine g_if_eq (tgt := 19) h dX6_placeOf_5 rfl hf (fun c2 hf => ?_) (fun c2 hf => ?_)
  · refine g_aload_n h 0 dX6_placeOf_19 rfl rfl ?_
    refine g_iload_n h 1 dX6_placeOf_20 rfl rfl ?_
    refine g_iconst (v := (-1)) h dX6_placeOf_21 kiconst_m1 ?_
    obtain ⟨r_3, hv, hf⟩ := ob1 hf
    refine g_callV (ci := 6) (q0 := 0) (n := 2) (As := [.int x1, .int (-1)]) (st := []) (wr := [(a_place, .inl (X.E 0, 8, .inl place)), (a_length, .inl (X.E 0, 8, .inl length)), (a_gives, .inl (X.E 0, 8, .inl gives)), (a_over, .inl (X.E 1, 8, .inl over)), (a_under, .inl (X.E 1, 8, .inl under))]) (isC := [0]) (isR := [1, 2, 3, 4, 5]) h hR (ct_X6_next (a := a) (a_kind := a_kind) (a_strength := a_strength) (a_place := a_place) (a_length := a_length) (a_gives := a_gives) (a_over := a_over) (a_under := a_under) (a_this0 := a_this0) (x1 := x1) (x2 := (-1)) (n := n) (holders := holders) (cuts := cuts) (hour := hour) (bears := bears) (draw := draw) hv) rfl rfl (lw_V q268 q269 q270 q76 q271) (by decide +kernel) rfl ⟨rfl, rfl, rfl, rfl, by decide⟩ ⟨fle rfl, fle rfl, fle rfl, fle rfl, fle rfl⟩ rfl dX6_placeOf_22 (pin (perm := [5, 0, 1, 2, 3, 4]) (ws' := [(a, .inr (6, [.ref a_kind, .ref a_strength, .ref a_place, .ref a_length, .ref a_gives, .ref a_over, .ref a_under, .int n, .int holders, .int cuts, .int hour, .int bears, .int draw, .ref a_this0])), (a_place, .inl (X.E 0, 8, .inl place)), (a_length, .inl (X.E 0, 8, .inl length)), (a_gives, .inl (X.E 0, 8, .inl gives)), (a_over, .inl (X.E 1, 8, .inl over)), (a_under, .inl (X.E 1, 8, .inl under))]) (stk := [.int r_3]) rfl rfl rfl ?_)
    clear hv
    refine g_istore_n (lv' := [(2, .int r_3), (0, .ref a), (1, .int x1)]) h dX6_placeOf_25 rfl (hL 2 (fle rfl)) rfl ?_
    refine g_aload_n h 1 dX6_placeOf_26 rfl rfl ?_
    refine g_iload_n h 2 dX6_placeOf_27 rfl rfl ?_
    refine g_iconst (v := 1) h dX6_placeOf_28 kiconst_1 ?_
    obtain ⟨r_4, hv, hf⟩ := ob1 hf
    refine g_callV (ci := 6) (q0 := 0) (n := 2) (As := [.int x1, .int 1]) (st := []) (wr := [(a_place, .inl (X.E 0, 8, .inl place)), (a_length, .inl (X.E 0, 8, .inl length)), (a_gives, .inl (X.E 0, 8, .inl gives)), (a_over, .inl (X.E 1, 8, .inl over)), (a_under, .inl (X.E 1, 8, .inl under))]) (isC := [0]) (isR := [1, 2, 3, 4, 5]) h hR (ct_X6_next (a := a) (a_kind := a_kind) (a_strength := a_strength) (a_place := a_place) (a_length := a_length) (a_gives := a_gives) (a_over := a_over) (a_under := a_under) (a_this0 := a_this0) (x1 := x1) (x2 := 1) (n := n) (holders := holders) (cuts := cuts) (hour := hour) (bears := bears) (draw := draw) hv) rfl rfl (lw_V q268 q269 q270 q76 q271) (by decide +kernel) rfl ⟨rfl, rfl, rfl, rfl, by decide⟩ ⟨fle rfl, fle rfl, fle rfl, fle rfl, fle rfl⟩ rfl dX6_placeOf_29 (pin (perm := [5, 0, 1, 2, 3, 4]) (ws' := [(a, .inr (6, [.ref a_kind, .ref a_strength, .ref a_place, .ref a_length, .ref a_gives, .ref a_over, .ref a_under, .int n, .int holders, .int cuts, .int hour, .int bears, .int draw, .ref a_this0])), (a_place, .inl (X.E 0, 8, .inl place)), (a_length, .inl (X.E 0, 8, .inl length)), (a_gives, .inl (X.E 0, 8, .inl gives)), (a_over, .inl (X.E 1, 8, .inl over)), (a_under, .inl (X.E 1, 8, .inl under))]) (stk := [.int r_4]) rfl rfl rfl ?_)
    clear hv
    refine g_istore_n (lv' := [(3, .int r_4), (2, .int r_3), (0, .ref a), (1, .int x1)]) h dX6_placeOf_32 rfl (hL 3 (fle rfl)) rfl ?_
    refine g_iload_n h 1 dX6_placeOf_33 rfl rfl ?_
    refine g_bipush (v := (-4)) h dX6_placeOf_34 kbipush_m4 ?_
    refine g_icmp_ne (tgt := 60) h dX6_placeOf_36 rfl hf (fun c5 hf => ?_) (fun c5 hf => ?_)
    · refine g_iload_n h 0 dX6_placeOf_39 rfl rfl ?_
      refine g_bipush (v := (-4)) h dX6_placeOf_40 kbipush_m4 ?_
      refine g_icmp_ne (tgt := 49) h dX6_placeOf_42 rfl hf (fun c6 hf => ?_) (fun c6 hf => ?_)
      · refine g_lconst (v := 0) h dX6_placeOf_45 rfl ?_
        refine g_goto (tgt := 56) h dX6_placeOf_46 rfl ?_
        obtain ⟨r_7, r_8, hv, hf⟩ := ob2 hf
        refine g_callSN (n := 1) (As := [.long 0]) (st := []) (wr := [(a, .inr (6, [.ref a_kind, .ref a_strength, .ref a_place, .ref a_length, .ref a_gives, .ref a_over, .ref a_under, .int n, .int holders, .int cuts, .int hour, .int bears, .int draw, .ref a_this0])), (a_place, .inl (X.E 0, 8, .inl place)), (a_length, .inl (X.E 0, 8, .inl length)), (a_gives, .inl (X.E 0, 8, .inl gives)), (a_over, .inl (X.E 1, 8, .inl over)), (a_under, .inl (X.E 1, 8, .inl under))]) (isC := []) (isR := [0, 1, 2, 3, 4, 5]) h hR (ct_X0_whole (x0 := 0) hv) q248 q70 q246 q247 (by decide +kernel) rfl ⟨rfl, rfl, rfl, rfl, by decide⟩ ⟨fle rfl, fle rfl, fle rfl, fle rfl, fle rfl⟩ rfl dX6_placeOf_56 (pinr (fun q9 => G.sub (ws' := [(a, .inr (6, [.ref a_kind, .ref a_strength, .ref a_place, .ref a_length, .ref a_gives, .ref a_over, .ref a_under, .int n, .int holders, .int cuts, .int hour, .int bears, .int draw, .ref a_this0])), (a_place, .inl (X.E 0, 8, .inl place)), (a_length, .inl (X.E 0, 8, .inl length)), (a_gives, .inl (X.E 0, 8, .inl gives)), (a_over, .inl (X.E 1, 8, .inl over)), (a_under, .inl (X.E 1, 8, .inl under)), (q9, .inr (9, [.long r_7, .long r_8]))]) [0, 1, 2, 3, 4, 5, 6] rfl rfl ?_))
        clear hv
        obtain ⟨rfl, rfl⟩ := sj2 hf
        exact g_aret h hF (Or.inl ⟨_, rfl⟩) (Or.inr ⟨_, rfl⟩) [0, 1, 2, 3, 4, 5, 6] rfl rfl ⟨_, rfl, rfl⟩ (fle rfl) (fle rfl) dX6_placeOf_59
      · refine g_aload_n h 2 dX6_placeOf_49 rfl rfl ?_
        refine g_get (ci := 6) (v := .ref a_place) h in_X6 0 2 rfl rfl (fle rfl) rfl q553 rfl dX6_placeOf_50 ?_
        refine g_iload_n h 0 dX6_placeOf_53 rfl rfl ?_
        obtain ⟨g10, hf⟩ := gn hf
        refine g_baload h 1 rfl g10 dX6_placeOf_54 ?_
        refine g_i2l h dX6_placeOf_55 ?_
        obtain ⟨r_11, r_12, hv, hf⟩ := ob2 hf
        refine g_callSN (n := 1) (As := [.long ((place r_4.toNatClampNeg).toInt64)]) (st := []) (wr := [(a, .inr (6, [.ref a_kind, .ref a_strength, .ref a_place, .ref a_length, .ref a_gives, .ref a_over, .ref a_under, .int n, .int holders, .int cuts, .int hour, .int bears, .int draw, .ref a_this0])), (a_place, .inl (X.E 0, 8, .inl place)), (a_length, .inl (X.E 0, 8, .inl length)), (a_gives, .inl (X.E 0, 8, .inl gives)), (a_over, .inl (X.E 1, 8, .inl over)), (a_under, .inl (X.E 1, 8, .inl under))]) (isC := []) (isR := [0, 1, 2, 3, 4, 5]) h hR (ct_X0_whole (x0 := (place r_4.toNatClampNeg).toInt64) hv) q248 q70 q246 q247 (by decide +kernel) rfl ⟨rfl, rfl, rfl, rfl, by decide⟩ ⟨fle rfl, fle rfl, fle rfl, fle rfl, fle rfl⟩ rfl dX6_placeOf_56 (pinr (fun q13 => G.sub (ws' := [(a, .inr (6, [.ref a_kind, .ref a_strength, .ref a_place, .ref a_length, .ref a_gives, .ref a_over, .ref a_under, .int n, .int holders, .int cuts, .int hour, .int bears, .int draw, .ref a_this0])), (a_place, .inl (X.E 0, 8, .inl place)), (a_length, .inl (X.E 0, 8, .inl length)), (a_gives, .inl (X.E 0, 8, .inl gives)), (a_over, .inl (X.E 1, 8, .inl over)), (a_under, .inl (X.E 1, 8, .inl under)), (q13, .inr (9, [.long r_11, .long r_12]))]) [0, 1, 2, 3, 4, 5, 6] rfl rfl ?_))
        clear hv
        obtain ⟨rfl, rfl⟩ := sj2 hf
        exact g_aret h hF (Or.inl ⟨_, rfl⟩) (Or.inr ⟨_, rfl⟩) [0, 1, 2, 3, 4, 5, 6] rfl rfl ⟨_, rfl, rfl⟩ (fle rfl) (fle rfl) dX6_placeOf_59
    · refine g_aload_n h 2 dX6_placeOf_60 rfl rfl ?_
      refine g_get (ci := 6) (v := .ref a_place) h in_X6 0 2 rfl rfl (fle rfl) rfl q553 rfl dX6_placeOf_61 ?_
      refine g_iload_n h 1 dX6_placeOf_64 rfl rfl ?_
      obtain ⟨g14, hf⟩ := gn hf
      refine g_baload h 1 rfl g14 dX6_placeOf_65 ?_
      refine g_i2l h dX6_placeOf_66 ?_
      refine g_lstore (lv' := [(4, .long ((place r_3.toNatClampNeg).toInt64)), (3, .int r_4), (2, .int r_3), (0, .ref a), (1, .int x1)]) h dX6_placeOf_67 (hL 5 (fle rfl)) rfl ?_
      refine g_iload_n h 1 dX6_placeOf_69 rfl rfl ?_
      refine g_bipush (v := (-4)) h dX6_placeOf_70 kbipush_m4 ?_
      refine g_icmp_eq (tgt := 84) h dX6_placeOf_72 rfl hf (fun c15 hf => ?_) (fun c15 hf => ?_)
      · refine g_lload h 0 dX6_placeOf_84 rfl ?_
        obtain ⟨r_16, r_17, hv, hf⟩ := ob2 hf
        refine g_callSN (n := 1) (As := [.long ((place r_3.toNatClampNeg).toInt64)]) (st := []) (wr := [(a, .inr (6, [.ref a_kind, .ref a_strength, .ref a_place, .ref a_length, .ref a_gives, .ref a_over, .ref a_under, .int n, .int holders, .int cuts, .int hour, .int bears, .int draw, .ref a_this0])), (a_place, .inl (X.E 0, 8, .inl place)), (a_length, .inl (X.E 0, 8, .inl length)), (a_gives, .inl (X.E 0, 8, .inl gives)), (a_over, .inl (X.E 1, 8, .inl over)), (a_under, .inl (X.E 1, 8, .inl under))]) (isC := []) (isR := [0, 1, 2, 3, 4, 5]) h hR (ct_X0_whole (x0 := (place r_3.toNatClampNeg).toInt64) hv) q248 q70 q246 q247 (by decide +kernel) rfl ⟨rfl, rfl, rfl, rfl, by decide⟩ ⟨fle rfl, fle rfl, fle rfl, fle rfl, fle rfl⟩ rfl dX6_placeOf_86 (pinr (fun q18 => G.sub (ws' := [(a, .inr (6, [.ref a_kind, .ref a_strength, .ref a_place, .ref a_length, .ref a_gives, .ref a_over, .ref a_under, .int n, .int holders, .int cuts, .int hour, .int bears, .int draw, .ref a_this0])), (a_place, .inl (X.E 0, 8, .inl place)), (a_length, .inl (X.E 0, 8, .inl length)), (a_gives, .inl (X.E 0, 8, .inl gives)), (a_over, .inl (X.E 1, 8, .inl over)), (a_under, .inl (X.E 1, 8, .inl under)), (q18, .inr (9, [.long r_16, .long r_17]))]) [0, 1, 2, 3, 4, 5, 6] rfl rfl ?_))
        clear hv
        obtain ⟨rfl, rfl⟩ := sj2 hf
        exact g_aret h hF (Or.inl ⟨_, rfl⟩) (Or.inr ⟨_, rfl⟩) [0, 1, 2, 3, 4, 5, 6] rfl rfl ⟨_, rfl, rfl⟩ (fle rfl) (fle rfl) dX6_placeOf_89
      · refine g_aload_n h 3 dX6_placeOf_75 rfl rfl ?_
        refine g_get (ci := 6) (v := .ref a_over) h in_X6 0 5 rfl rfl (fle rfl) rfl q559 rfl dX6_placeOf_76 ?_
        refine g_iload_n h 2 dX6_placeOf_79 rfl rfl ?_
        refine g_iaload h 4 rfl g14 dX6_placeOf_80 ?_
        refine g_if_ne (tgt := 90) h dX6_placeOf_81 rfl hf (fun c19 hf => ?_) (fun c19 hf => ?_)
        · refine g_lload h 0 dX6_placeOf_84 rfl ?_
          obtain ⟨r_20, r_21, hv, hf⟩ := ob2 hf
          refine g_callSN (n := 1) (As := [.long ((place r_3.toNatClampNeg).toInt64)]) (st := []) (wr := [(a, .inr (6, [.ref a_kind, .ref a_strength, .ref a_place, .ref a_length, .ref a_gives, .ref a_over, .ref a_under, .int n, .int holders, .int cuts, .int hour, .int bears, .int draw, .ref a_this0])), (a_place, .inl (X.E 0, 8, .inl place)), (a_length, .inl (X.E 0, 8, .inl length)), (a_gives, .inl (X.E 0, 8, .inl gives)), (a_over, .inl (X.E 1, 8, .inl over)), (a_under, .inl (X.E 1, 8, .inl under))]) (isC := []) (isR := [0, 1, 2, 3, 4, 5]) h hR (ct_X0_whole (x0 := (place r_3.toNatClampNeg).toInt64) hv) q248 q70 q246 q247 (by decide +kernel) rfl ⟨rfl, rfl, rfl, rfl, by decide⟩ ⟨fle rfl, fle rfl, fle rfl, fle rfl, fle rfl⟩ rfl dX6_placeOf_86 (pinr (fun q22 => G.sub (ws' := [(a, .inr (6, [.ref a_kind, .ref a_strength, .ref a_place, .ref a_length, .ref a_gives, .ref a_over, .ref a_under, .int n, .int holders, .int cuts, .int hour, .int bears, .int draw, .ref a_this0])), (a_place, .inl (X.E 0, 8, .inl place)), (a_length, .inl (X.E 0, 8, .inl length)), (a_gives, .inl (X.E 0, 8, .inl gives)), (a_over, .inl (X.E 1, 8, .inl over)), (a_under, .inl (X.E 1, 8, .inl under)), (q22, .inr (9, [.long r_20, .long r_21]))]) [0, 1, 2, 3, 4, 5, 6] rfl rfl ?_))
          clear hv
          obtain ⟨rfl, rfl⟩ := sj2 hf
          exact g_aret h hF (Or.inl ⟨_, rfl⟩) (Or.inr ⟨_, rfl⟩) [0, 1, 2, 3, 4, 5, 6] rfl rfl ⟨_, rfl, rfl⟩ (fle rfl) (fle rfl) dX6_placeOf_89
        · refine g_lconst (v := 0) h dX6_placeOf_90 rfl ?_
          refine g_lstore (lv' := [(6, .long 0), (4, .long ((place r_3.toNatClampNeg).toInt64)), (3, .int r_4), (2, .int r_3), (0, .ref a), (1, .int x1)]) h dX6_placeOf_91 (hL 7 (fle rfl)) rfl ?_
          refine g_iload_n h 3 dX6_placeOf_93 rfl rfl ?_
          refine g_istore (lv' := [(8, .int r_3), (6, .long 0), (4, .long ((place r_3.toNatClampNeg).toInt64)), (3, .int r_4), (2, .int r_3), (0, .ref a), (1, .int x1)]) h dX6_placeOf_94 (hL 8 (fle rfl)) rfl ?_
          refine G.lsub (lv' := [(0, .ref a), (1, .int x1), (2, .int r_3), (4, .long ((place r_3.toNatClampNeg).toInt64)), (6, .long 0), (8, .int r_3)]) [5, 6, 4, 2, 1, 0] rfl ?_
          obtain ⟨x4_27, x6_28, hv, hf⟩ := ob2 hf
          refine w_X6_placeOf_L96 (x1 := x1) (x2 := r_3) (n := n) (holders := holders) (cuts := cuts) (hour := hour) (bears := bears) (draw := draw) (place := place) (length := length) (gives := gives) (over := over) (under := under) h hR hL (fle rfl) (fle rfl) FU _ _ _ hv ?_
          · clear hv
            refine g_new (ci := 9) (fs := [.long 0, .long 0]) h hR in_X9 tyX9 tyX9_ok q272 q250 q82 rfl df_X9 (fle rfl) (fle rfl) dX6_placeOf_143 (fun q29 => ?_)
            refine G.sub (ws' := [(a, .inr (6, [.ref a_kind, .ref a_strength, .ref a_place, .ref a_length, .ref a_gives, .ref a_over, .ref a_under, .int n, .int holders, .int cuts, .int hour, .int bears, .int draw, .ref a_this0])), (a_place, .inl (X.E 0, 8, .inl place)), (a_length, .inl (X.E 0, 8, .inl length)), (a_gives, .inl (X.E 0, 8, .inl gives)), (a_over, .inl (X.E 1, 8, .inl over)), (a_under, .inl (X.E 1, 8, .inl under)), (q29, .inr (9, [.long 0, .long 0]))]) [0, 1, 2, 3, 4, 5, 6] rfl rfl ?_
            refine g_dup h dX6_placeOf_146 rfl ?_
            refine g_lload h 3 dX6_placeOf_147 rfl ?_
            refine g_aload_n h 0 dX6_placeOf_149 rfl rfl ?_
            refine g_get (ci := 6) (v := .ref a_under) h in_X6 0 6 rfl rfl (fle rfl) rfl q561 rfl dX6_placeOf_150 ?_
            refine g_iload_n h 1 dX6_placeOf_153 rfl rfl ?_
            refine g_iaload h 5 rfl g14 dX6_placeOf_154 ?_
            refine g_i2l h dX6_placeOf_155 ?_
            obtain ⟨q29_f0_30, q29_f1_31, hv, hf⟩ := ob2 hf
            refine g_callI (n := 2) (As := [.long x6_28, .long ((under r_3.toNatClampNeg).toInt64)]) (st := [.ref q29]) (wr := [(a, .inr (6, [.ref a_kind, .ref a_strength, .ref a_place, .ref a_length, .ref a_gives, .ref a_over, .ref a_under, .int n, .int holders, .int cuts, .int hour, .int bears, .int draw, .ref a_this0])), (a_place, .inl (X.E 0, 8, .inl place)), (a_length, .inl (X.E 0, 8, .inl length)), (a_gives, .inl (X.E 0, 8, .inl gives)), (a_over, .inl (X.E 1, 8, .inl over)), (a_under, .inl (X.E 1, 8, .inl under))]) (isC := [6]) (isR := [0, 1, 2, 3, 4, 5]) h hR (ct_X9_init (a := q29) (x1 := x6_28) (x3 := (under r_3.toNatClampNeg).toInt64) (above := 0) (below := 0) hv) q253 q82 q273 q252 rfl (by decide +kernel) rfl ⟨rfl, rfl, rfl, rfl, by decide⟩ ⟨fle rfl, fle rfl, fle rfl, fle rfl, fle rfl⟩ rfl dX6_placeOf_156 (pin (perm := [0, 1, 2, 3, 4, 5, 6]) (ws' := [(a, .inr (6, [.ref a_kind, .ref a_strength, .ref a_place, .ref a_length, .ref a_gives, .ref a_over, .ref a_under, .int n, .int holders, .int cuts, .int hour, .int bears, .int draw, .ref a_this0])), (a_place, .inl (X.E 0, 8, .inl place)), (a_length, .inl (X.E 0, 8, .inl length)), (a_gives, .inl (X.E 0, 8, .inl gives)), (a_over, .inl (X.E 1, 8, .inl over)), (a_under, .inl (X.E 1, 8, .inl under)), (q29, .inr (9, [.long q29_f0_30, .long q29_f1_31]))]) (stk := [.ref q29]) rfl rfl rfl ?_)
            clear hv
            refine g_lload h 2 dX6_placeOf_159 rfl ?_
            obtain ⟨r_32, r_33, hv, hf⟩ := ob2 hf
            refine g_callSN (n := 1) (As := [.long x4_27]) (st := [.ref q29]) (wr := [(a, .inr (6, [.ref a_kind, .ref a_strength, .ref a_place, .ref a_length, .ref a_gives, .ref a_over, .ref a_under, .int n, .int holders, .int cuts, .int hour, .int bears, .int draw, .ref a_this0])), (a_place, .inl (X.E 0, 8, .inl place)), (a_length, .inl (X.E 0, 8, .inl length)), (a_gives, .inl (X.E 0, 8, .inl gives)), (a_over, .inl (X.E 1, 8, .inl over)), (a_under, .inl (X.E 1, 8, .inl under)), (q29, .inr (9, [.long q29_f0_30, .long q29_f1_31]))]) (isC := []) (isR := [0, 1, 2, 3, 4, 5, 6]) h hR (ct_X0_whole (x0 := x4_27) hv) q248 q70 q246 q247 (by decide +kernel) rfl ⟨rfl, rfl, rfl, rfl, by decide⟩ ⟨fle rfl, fle rfl, fle rfl, fle rfl, fle rfl⟩ rfl dX6_placeOf_161 (pinr (fun q34 => G.sub (ws' := [(a, .inr (6, [.ref a_kind, .ref a_strength, .ref a_place, .ref a_length, .ref a_gives, .ref a_over, .ref a_under, .int n, .int holders, .int cuts, .int hour, .int bears, .int draw, .ref a_this0])), (a_place, .inl (X.E 0, 8, .inl place)), (a_length, .inl (X.E 0, 8, .inl length)), (a_gives, .inl (X.E 0, 8, .inl gives)), (a_over, .inl (X.E 1, 8, .inl over)), (a_under, .inl (X.E 1, 8, .inl under)), (q29, .inr (9, [.long q29_f0_30, .long q29_f1_31])), (q34, .inr (9, [.long r_32, .long r_33]))]) [0, 1, 2, 3, 4, 5, 6, 7] rfl rfl ?_))
            clear hv
            obtain ⟨r_35, r_36, hv, hf⟩ := ob2 hf
            refine g_callV (ci := 9) (q0 := 6) (n := 1) (As := [.ref q34]) (st := []) (wr := [(a, .inr (6, [.ref a_kind, .ref a_strength, .ref a_place, .ref a_length, .ref a_gives, .ref a_over, .ref a_under, .int n, .int holders, .int cuts, .int hour, .int bears, .int draw, .ref a_this0])), (a_place, .inl (X.E 0, 8, .inl place)), (a_length, .inl (X.E 0, 8, .inl length)), (a_gives, .inl (X.E 0, 8, .inl gives)), (a_over, .inl (X.E 1, 8, .inl over)), (a_under, .inl (X.E 1, 8, .inl under))]) (isC := [6, 7]) (isR := [0, 1, 2, 3, 4, 5]) h hR (ct_X9_plus (a := q29) (a_t1 := q34) (above := q29_f0_30) (below := q29_f1_31) (t1_above := r_32) (t1_below := r_33) hv) rfl rfl (lw_V q274 q275 q276 q82 q277) (by decide +kernel) rfl ⟨rfl, rfl, rfl, rfl, by decide⟩ ⟨fle rfl, fle rfl, fle rfl, fle rfl, fle rfl⟩ rfl dX6_placeOf_164 (pinr (fun q37 => G.sub (ws' := [(a, .inr (6, [.ref a_kind, .ref a_strength, .ref a_place, .ref a_length, .ref a_gives, .ref a_over, .ref a_under, .int n, .int holders, .int cuts, .int hour, .int bears, .int draw, .ref a_this0])), (a_place, .inl (X.E 0, 8, .inl place)), (a_length, .inl (X.E 0, 8, .inl length)), (a_gives, .inl (X.E 0, 8, .inl gives)), (a_over, .inl (X.E 1, 8, .inl over)), (a_under, .inl (X.E 1, 8, .inl under)), (q29, .inr (9, [.long q29_f0_30, .long q29_f1_31])), (q34, .inr (9, [.long r_32, .long r_33])), (q37, .inr (9, [.long r_35, .long r_36]))]) [0, 1, 2, 3, 4, 5, 6, 7, 8] rfl rfl ?_))
            clear hv
            obtain ⟨rfl, rfl⟩ := sj2 hf
            exact g_aret h hF (Or.inl ⟨_, rfl⟩) (Or.inr ⟨_, rfl⟩) [0, 1, 2, 3, 4, 5, 8] rfl rfl ⟨_, rfl, rfl⟩ (fle rfl) (fle rfl) dX6_placeOf_167
  · refine g_aload_n h 0 dX6_placeOf_8 rfl rfl ?_
    refine g_get (ci := 6) (v := .ref a_place) h in_X6 0 2 rfl rfl (fle rfl) rfl q553 rfl dX6_placeOf_9 ?_
    refine g_iload_n h 1 dX6_placeOf_12 rfl rfl ?_
    obtain ⟨g38, hf⟩ := gn hf
    refine g_baload h 1 rfl g38 dX6_placeOf_13 ?_
    refine g_i2l h dX6_placeOf_14 ?_
    obtain ⟨r_39, r_40, hv, hf⟩ := ob2 hf
    refine g_callSN (n := 1) (As := [.long ((place x1.toNatClampNeg).toInt64)]) (st := []) (wr := [(a, .inr (6, [.ref a_kind, .ref a_strength, .ref a_place, .ref a_length, .ref a_gives, .ref a_over, .ref a_under, .int n, .int holders, .int cuts, .int hour, .int bears, .int draw, .ref a_this0])), (a_place, .inl (X.E 0, 8, .inl place)), (a_length, .inl (X.E 0, 8, .inl length)), (a_gives, .inl (X.E 0, 8, .inl gives)), (a_over, .inl (X.E 1, 8, .inl over)), (a_under, .inl (X.E 1, 8, .inl under))]) (isC := []) (isR := [0, 1, 2, 3, 4, 5]) h hR (ct_X0_whole (x0 := (place x1.toNatClampNeg).toInt64) hv) q248 q70 q246 q247 (by decide +kernel) rfl ⟨rfl, rfl, rfl, rfl, by decide⟩ ⟨fle rfl, fle rfl, fle rfl, fle rfl, fle rfl⟩ rfl dX6_placeOf_15 (pinr (fun q41 => G.sub (ws' := [(a, .inr (6, [.ref a_kind, .ref a_strength, .ref a_place, .ref a_length, .ref a_gives, .ref a_over, .ref a_under, .int n, .int holders, .int cuts, .int hour, .int bears, .int draw, .ref a_this0])), (a_place, .inl (X.E 0, 8, .inl place)), (a_length, .inl (X.E 0, 8, .inl length)), (a_gives, .inl (X.E 0, 8, .inl gives)), (a_over, .inl (X.E 1, 8, .inl over)), (a_under, .inl (X.E 1, 8, .inl under)), (q41, .inr (9, [.long r_39, .long r_40]))]) [0, 1, 2, 3, 4, 5, 6] rfl rfl ?_))
    clear hv
    obtain ⟨rfl, rfl⟩ := sj2 hf
    exact g_aret h hF (Or.inl ⟨_, rfl⟩) (Or.inr ⟨_, rfl⟩) [0, 1, 2, 3, 4, 5, 6] rfl rfl ⟨_, rfl, rfl⟩ (fle rfl) (fle rfl) dX6_placeOf_18
set_option maxHeartbeats 4000000 in
set_option maxRecDepth 100000 in
theorem ct_X9_told {l : Launch} {D : va_G} {E : Ety} {a : Nat} {x1 : Int32} {above : Int64} {below : Int64} {r_ : Int32} (hf : f_X9_told x1 above below = some r_) : Ct l yX9_told cX9_told 2 (some .int) 0 0 0 0 D E [.ref a, .int x1] [(a, .inr (9, [.long above, .long below]))] (Pn (some (.int r_)) [(a, .inr (9, [.long above, .long below]))]) := by
  refine ct_of (own := RX9) (plainFor_of_name (by decide)) rfl (fle rfl) rfl ?_
  intro X hl hD hE hnL hXF h hR hF hnm
  subst hl; subst hD; subst hE
  have hL : ∀ i, i < 2 → i < X.nL := fun i hi => by rw [hnL]; exact hi
  unfold f_X9_told at hf
  refine g_iload_n h 1 dX9_told_0 rfl rfl ?_
  refine g_if_ne (tgt := 11) h dX9_told_1 rfl hf (fun c1 hf => ?_) (fun c1 hf => ?_)
  · refine g_aload_n h 0 dX9_told_4 rfl rfl ?_
    refine g_get (ci := 9) (v := .long above) h in_X9 0 0 rfl rfl (fle rfl) rfl q261 rfl dX9_told_5 ?_
    refine g_goto (tgt := 15) h dX9_told_8 rfl ?_
    refine g_l2i h dX9_told_15 ?_
    obtain rfl := sj1 hf
    exact g_iret h hF [0] rfl rfl ⟨rfl, rfl⟩ (fle rfl) (fle rfl) dX9_told_16
  · refine g_aload_n h 0 dX9_told_11 rfl rfl ?_
    refine g_get (ci := 9) (v := .long below) h in_X9 0 1 rfl rfl (fle rfl) rfl q262 rfl dX9_told_12 ?_
    refine g_l2i h dX9_told_15 ?_
    obtain rfl := sj1 hf
    exact g_iret h hF [0] rfl rfl ⟨rfl, rfl⟩ (fle rfl) (fle rfl) dX9_told_16
set_option maxHeartbeats 4000000 in
set_option maxRecDepth 100000 in
theorem ct_X0_place {l : Launch} {D : va_G} {E : Ety} {a a_kinds a_town a_tried a_fell a_tape a_read a_undos a_kept a_keptUndos a_sheets a_taken a_town_kind a_town_strength a_town_place a_town_length a_town_gives a_town_over a_town_under : Nat} {x1 : Int32} {x2 : Int32} {falls : Int32} {tears : Int32} {typed : Int32} {place : Int32} {isKept : Int32} {town_n : Int32} {town_holders : Int32} {town_cuts : Int32} {town_hour : Int32} {town_bears : Int32} {town_draw : Int32} {town_place : Nat → Int32} {town_length : Nat → Int32} {town_gives : Nat → Int32} {town_over : Nat → Int32} {town_under : Nat → Int32} {r_ : Int32} {o_town_over : Nat → Int32} {o_town_under : Nat → Int32} (hf : f_X0_place x1 x2 town_n town_holders town_cuts town_place town_length town_gives town_over town_under = some (r_, o_town_over, o_town_under)) : Ct l yX0_place cX0_place 3 (some .int) 4 104 3 6 D E [.ref a, .int x1, .int x2] [(a, .inr (0, [.ref a_kinds, .ref a_town, .ref a_tried, .ref a_fell, .int falls, .int tears, .ref a_tape, .int typed, .int place, .ref a_read, .ref a_undos, .ref a_kept, .ref a_keptUndos, .int isKept, .ref a_sheets, .ref a_taken])), (a_town, .inr (6, [.ref a_town_kind, .ref a_town_strength, .ref a_town_place, .ref a_town_length, .ref a_town_gives, .ref a_town_over, .ref a_town_under, .int town_n, .int town_holders, .int town_cuts, .int town_hour, .int town_bears, .int town_draw, .ref a])), (a_town_place, .inl (E 0, 8, .inl town_place)), (a_town_length, .inl (E 0, 8, .inl town_length)), (a_town_gives, .inl (E 0, 8, .inl town_gives)), (a_town_over, .inl (E 1, 8, .inl town_over)), (a_town_under, .inl (E 1, 8, .inl town_under))] (Pn (some (.int r_)) [(a, .inr (0, [.ref a_kinds, .ref a_town, .ref a_tried, .ref a_fell, .int falls, .int tears, .ref a_tape, .int typed, .int place, .ref a_read, .ref a_undos, .ref a_kept, .ref a_keptUndos, .int isKept, .ref a_sheets, .ref a_taken])), (a_town, .inr (6, [.ref a_town_kind, .ref a_town_strength, .ref a_town_place, .ref a_town_length, .ref a_town_gives, .ref a_town_over, .ref a_town_under, .int town_n, .int town_holders, .int town_cuts, .int town_hour, .int town_bears, .int town_draw, .ref a])), (a_town_place, .inl (E 0, 8, .inl town_place)), (a_town_length, .inl (E 0, 8, .inl town_length)), (a_town_gives, .inl (E 0, 8, .inl town_gives)), (a_town_over, .inl (E 1, 8, .inl o_town_over)), (a_town_under, .inl (E 1, 8, .inl o_town_under))]) := by
  refine ct_of (own := RX0) (plainFor_of_name (by decide)) rfl (fle rfl) rfl ?_
  intro X hl hD hE hnL hXF h hR hF hnm
  subst hl; subst hD; subst hE
  have hL : ∀ i, i < 3 → i < X.nL := fun i hi => by rw [hnL]; exact hi
  unfold f_X0_place at hf
  refine g_aload_n h 0 dX0_place_0 rfl rfl ?_
  refine g_iload_n h 1 dX0_place_1 rfl rfl ?_
  obtain ⟨r_1, hv, hf⟩ := ob1 hf
  refine g_callV (ci := 0) (q0 := 0) (n := 1) (As := [.int x1]) (st := []) (wr := [(a_town_place, .inl (X.E 0, 8, .inl town_place)), (a_town_length, .inl (X.E 0, 8, .inl town_length)), (a_town_gives, .inl (X.E 0, 8, .inl town_gives)), (a_town_over, .inl (X.E 1, 8, .inl town_over)), (a_town_under, .inl (X.E 1, 8, .inl town_under))]) (isC := [0, 1]) (isR := [2, 3, 4, 5, 6]) h hR (ct_X0_isPerson (a := a) (a_kinds := a_kinds) (a_town := a_town) (a_tried := a_tried) (a_fell := a_fell) (a_tape := a_tape) (a_read := a_read) (a_undos := a_undos) (a_kept := a_kept) (a_keptUndos := a_keptUndos) (a_sheets := a_sheets) (a_taken := a_taken) (a_town_kind := a_town_kind) (a_town_strength := a_town_strength) (a_town_place := a_town_place) (a_town_length := a_town_length) (a_town_gives := a_town_gives) (a_town_over := a_town_over) (a_town_under := a_town_under) (x1 := x1) (falls := falls) (tears := tears) (typed := typed) (place := place) (isKept := isKept) (town_n := town_n) (town_holders := town_holders) (town_cuts := town_cuts) (town_hour := town_hour) (town_bears := town_bears) (town_draw := town_draw) hv) rfl rfl (lw_V q234 q236 qs5 q70 q237) (by decide +kernel) rfl ⟨rfl, rfl, rfl, rfl, by decide⟩ ⟨fle rfl, fle rfl, fle rfl, fle rfl, fle rfl⟩ rfl dX0_place_2 (pin (perm := [5, 6, 0, 1, 2, 3, 4]) (ws' := [(a, .inr (0, [.ref a_kinds, .ref a_town, .ref a_tried, .ref a_fell, .int falls, .int tears, .ref a_tape, .int typed, .int place, .ref a_read, .ref a_undos, .ref a_kept, .ref a_keptUndos, .int isKept, .ref a_sheets, .ref a_taken])), (a_town, .inr (6, [.ref a_town_kind, .ref a_town_strength, .ref a_town_place, .ref a_town_length, .ref a_town_gives, .ref a_town_over, .ref a_town_under, .int town_n, .int town_holders, .int town_cuts, .int town_hour, .int town_bears, .int town_draw, .ref a])), (a_town_place, .inl (X.E 0, 8, .inl town_place)), (a_town_length, .inl (X.E 0, 8, .inl town_length)), (a_town_gives, .inl (X.E 0, 8, .inl town_gives)), (a_town_over, .inl (X.E 1, 8, .inl town_over)), (a_town_under, .inl (X.E 1, 8, .inl town_under))]) (stk := [.int r_1]) rfl rfl rfl ?_)
  clear hv
  refine g_if_eq (tgt := 36) h dX0_place_5 rfl hf (fun c2 hf => ?_) (fun c2 hf => ?_)
  · refine g_iconst (v := (-1)) h dX0_place_36 kiconst_m1 ?_
    obtain ⟨rfl, rfl, rfl⟩ := sj3 hf
    exact g_iret h hF [0, 1, 2, 3, 4, 5, 6] rfl rfl ⟨rfl, rfl⟩ (fle rfl) (fle rfl) dX0_place_37
  · refine g_iload_n h 2 dX0_place_8 rfl rfl ?_
    refine g_i2l h dX0_place_9 ?_
    refine g_lconst (v := 0) h dX0_place_10 rfl ?_
    refine g_lconst (v := 1) h dX0_place_11 rfl ?_
    obtain ⟨r_3, hv, hf⟩ := ob1 hf
    refine g_callS (n := 3) (As := [.long x2.toInt64, .long 0, .long 1]) (st := []) (wr := [(a, .inr (0, [.ref a_kinds, .ref a_town, .ref a_tried, .ref a_fell, .int falls, .int tears, .ref a_tape, .int typed, .int place, .ref a_read, .ref a_undos, .ref a_kept, .ref a_keptUndos, .int isKept, .ref a_sheets, .ref a_taken])), (a_town, .inr (6, [.ref a_town_kind, .ref a_town_strength, .ref a_town_place, .ref a_town_length, .ref a_town_gives, .ref a_town_over, .ref a_town_under, .int town_n, .int town_holders, .int town_cuts, .int town_hour, .int town_bears, .int town_draw, .ref a])), (a_town_place, .inl (X.E 0, 8, .inl town_place)), (a_town_length, .inl (X.E 0, 8, .inl town_length)), (a_town_gives, .inl (X.E 0, 8, .inl town_gives)), (a_town_over, .inl (X.E 1, 8, .inl town_over)), (a_town_under, .inl (X.E 1, 8, .inl town_under))]) (isC := []) (isR := [0, 1, 2, 3, 4, 5, 6]) h hR (ct_X0_in (x0 := x2.toInt64) (x2 := 0) (x4 := 1) hv) (lw_S q107 q108 q70 q109) (by decide +kernel) rfl ⟨rfl, rfl, rfl, rfl, by decide⟩ ⟨fle rfl, fle rfl, fle rfl, fle rfl, fle rfl⟩ rfl dX0_place_12 (pin (perm := [0, 1, 2, 3, 4, 5, 6]) (ws' := [(a, .inr (0, [.ref a_kinds, .ref a_town, .ref a_tried, .ref a_fell, .int falls, .int tears, .ref a_tape, .int typed, .int place, .ref a_read, .ref a_undos, .ref a_kept, .ref a_keptUndos, .int isKept, .ref a_sheets, .ref a_taken])), (a_town, .inr (6, [.ref a_town_kind, .ref a_town_strength, .ref a_town_place, .ref a_town_length, .ref a_town_gives, .ref a_town_over, .ref a_town_under, .int town_n, .int town_holders, .int town_cuts, .int town_hour, .int town_bears, .int town_draw, .ref a])), (a_town_place, .inl (X.E 0, 8, .inl town_place)), (a_town_length, .inl (X.E 0, 8, .inl town_length)), (a_town_gives, .inl (X.E 0, 8, .inl town_gives)), (a_town_over, .inl (X.E 1, 8, .inl town_over)), (a_town_under, .inl (X.E 1, 8, .inl town_under))]) (stk := [.int r_3]) rfl rfl rfl ?_)
    clear hv
    refine g_if_eq (tgt := 36) h dX0_place_15 rfl hf (fun c4 hf => ?_) (fun c4 hf => ?_)
    · refine g_iconst (v := (-1)) h dX0_place_36 kiconst_m1 ?_
      obtain ⟨rfl, rfl, rfl⟩ := sj3 hf
      exact g_iret h hF [0, 1, 2, 3, 4, 5, 6] rfl rfl ⟨rfl, rfl⟩ (fle rfl) (fle rfl) dX0_place_37
    · refine g_aload_n h 0 dX0_place_18 rfl rfl ?_
      refine g_get (ci := 0) (v := .ref a_town) h in_X0 0 1 rfl rfl (fle rfl) rfl q1112 rfl dX0_place_19 ?_
      obtain ⟨town_over_5, town_under_6, hv, hf⟩ := ob2 hf
      refine g_callV (ci := 6) (q0 := 1) (n := 0) (As := []) (st := []) (wr := [(a, .inr (0, [.ref a_kinds, .ref a_town, .ref a_tried, .ref a_fell, .int falls, .int tears, .ref a_tape, .int typed, .int place, .ref a_read, .ref a_undos, .ref a_kept, .ref a_keptUndos, .int isKept, .ref a_sheets, .ref a_taken]))]) (isC := [1, 2, 3, 4, 5, 6]) (isR := [0]) h hR (ct_X6_measured (a := a_town) (a_kind := a_town_kind) (a_strength := a_town_strength) (a_place := a_town_place) (a_length := a_town_length) (a_gives := a_town_gives) (a_over := a_town_over) (a_under := a_town_under) (a_this0 := a) (n := town_n) (holders := town_holders) (cuts := town_cuts) (hour := town_hour) (bears := town_bears) (draw := town_draw) (place := town_place) (length := town_length) (gives := town_gives) (over := town_over) (under := town_under) hv) rfl rfl (lw_V q134 q135 q136 q76 q137) (by decide +kernel) rfl ⟨rfl, rfl, rfl, rfl, by decide⟩ ⟨fle rfl, fle rfl, fle rfl, fle rfl, fle rfl⟩ rfl dX0_place_22 (pin (perm := [0, 1, 2, 3, 4, 5, 6]) (ws' := [(a, .inr (0, [.ref a_kinds, .ref a_town, .ref a_tried, .ref a_fell, .int falls, .int tears, .ref a_tape, .int typed, .int place, .ref a_read, .ref a_undos, .ref a_kept, .ref a_keptUndos, .int isKept, .ref a_sheets, .ref a_taken])), (a_town, .inr (6, [.ref a_town_kind, .ref a_town_strength, .ref a_town_place, .ref a_town_length, .ref a_town_gives, .ref a_town_over, .ref a_town_under, .int town_n, .int town_holders, .int town_cuts, .int town_hour, .int town_bears, .int town_draw, .ref a])), (a_town_place, .inl (X.E 0, 8, .inl town_place)), (a_town_length, .inl (X.E 0, 8, .inl town_length)), (a_town_gives, .inl (X.E 0, 8, .inl town_gives)), (a_town_over, .inl (X.E 1, 8, .inl town_over_5)), (a_town_under, .inl (X.E 1, 8, .inl town_under_6))]) (stk := [.ref a_town]) rfl rfl rfl ?_)
      clear hv
      refine g_iload_n h 1 dX0_place_25 rfl rfl ?_
      obtain ⟨r_7, r_8, hv, hf⟩ := ob2 hf
      refine g_callV (ci := 6) (q0 := 1) (n := 1) (As := [.int x1]) (st := []) (wr := [(a, .inr (0, [.ref a_kinds, .ref a_town, .ref a_tried, .ref a_fell, .int falls, .int tears, .ref a_tape, .int typed, .int place, .ref a_read, .ref a_undos, .ref a_kept, .ref a_keptUndos, .int isKept, .ref a_sheets, .ref a_taken]))]) (isC := [1, 2, 3, 4, 5, 6]) (isR := [0]) h hR (ct_X6_placeOf (a := a_town) (a_kind := a_town_kind) (a_strength := a_town_strength) (a_place := a_town_place) (a_length := a_town_length) (a_gives := a_town_gives) (a_over := a_town_over) (a_under := a_town_under) (a_this0 := a) (x1 := x1) (n := town_n) (holders := town_holders) (cuts := town_cuts) (hour := town_hour) (bears := town_bears) (draw := town_draw) (place := town_place) (length := town_length) (gives := town_gives) (over := town_over_5) (under := town_under_6) hv) rfl rfl (lw_V q242 q243 q244 q76 q245) (by decide +kernel) rfl ⟨rfl, rfl, rfl, rfl, by decide⟩ ⟨fle rfl, fle rfl, fle rfl, fle rfl, fle rfl⟩ rfl dX0_place_26 (pinr (fun q9 => G.sub (ws' := [(a, .inr (0, [.ref a_kinds, .ref a_town, .ref a_tried, .ref a_fell, .int falls, .int tears, .ref a_tape, .int typed, .int place, .ref a_read, .ref a_undos, .ref a_kept, .ref a_keptUndos, .int isKept, .ref a_sheets, .ref a_taken])), (a_town, .inr (6, [.ref a_town_kind, .ref a_town_strength, .ref a_town_place, .ref a_town_length, .ref a_town_gives, .ref a_town_over, .ref a_town_under, .int town_n, .int town_holders, .int town_cuts, .int town_hour, .int town_bears, .int town_draw, .ref a])), (a_town_place, .inl (X.E 0, 8, .inl town_place)), (a_town_length, .inl (X.E 0, 8, .inl town_length)), (a_town_gives, .inl (X.E 0, 8, .inl town_gives)), (a_town_over, .inl (X.E 1, 8, .inl town_over_5)), (a_town_under, .inl (X.E 1, 8, .inl town_under_6)), (q9, .inr (9, [.long r_7, .long r_8]))]) [0, 1, 2, 3, 4, 5, 6, 7] rfl rfl ?_))
      clear hv
      refine g_iload_n h 2 dX0_place_29 rfl rfl ?_
      obtain ⟨r_10, hv, hf⟩ := ob1 hf
      refine g_callV (ci := 9) (q0 := 7) (n := 1) (As := [.int x2]) (st := []) (wr := [(a, .inr (0, [.ref a_kinds, .ref a_town, .ref a_tried, .ref a_fell, .int falls, .int tears, .ref a_tape, .int typed, .int place, .ref a_read, .ref a_undos, .ref a_kept, .ref a_keptUndos, .int isKept, .ref a_sheets, .ref a_taken])), (a_town, .inr (6, [.ref a_town_kind, .ref a_town_strength, .ref a_town_place, .ref a_town_length, .ref a_town_gives, .ref a_town_over, .ref a_town_under, .int town_n, .int town_holders, .int town_cuts, .int town_hour, .int town_bears, .int town_draw, .ref a])), (a_town_place, .inl (X.E 0, 8, .inl town_place)), (a_town_length, .inl (X.E 0, 8, .inl town_length)), (a_town_gives, .inl (X.E 0, 8, .inl town_gives)), (a_town_over, .inl (X.E 1, 8, .inl town_over_5)), (a_town_under, .inl (X.E 1, 8, .inl town_under_6))]) (isC := [7]) (isR := [0, 1, 2, 3, 4, 5, 6]) h hR (ct_X9_told (a := q9) (x1 := x2) (above := r_7) (below := r_8) hv) rfl rfl (lw_V q280 q281 q282 q82 q283) (by decide +kernel) rfl ⟨rfl, rfl, rfl, rfl, by decide⟩ ⟨fle rfl, fle rfl, fle rfl, fle rfl, fle rfl⟩ rfl dX0_place_30 (pin (perm := [0, 1, 2, 3, 4, 5, 6, 7]) (ws' := [(a, .inr (0, [.ref a_kinds, .ref a_town, .ref a_tried, .ref a_fell, .int falls, .int tears, .ref a_tape, .int typed, .int place, .ref a_read, .ref a_undos, .ref a_kept, .ref a_keptUndos, .int isKept, .ref a_sheets, .ref a_taken])), (a_town, .inr (6, [.ref a_town_kind, .ref a_town_strength, .ref a_town_place, .ref a_town_length, .ref a_town_gives, .ref a_town_over, .ref a_town_under, .int town_n, .int town_holders, .int town_cuts, .int town_hour, .int town_bears, .int town_draw, .ref a])), (a_town_place, .inl (X.E 0, 8, .inl town_place)), (a_town_length, .inl (X.E 0, 8, .inl town_length)), (a_town_gives, .inl (X.E 0, 8, .inl town_gives)), (a_town_over, .inl (X.E 1, 8, .inl town_over_5)), (a_town_under, .inl (X.E 1, 8, .inl town_under_6)), (q9, .inr (9, [.long r_7, .long r_8]))]) (stk := [.int r_10]) rfl rfl rfl ?_)
      clear hv
      refine g_goto (tgt := 37) h dX0_place_33 rfl ?_
      obtain ⟨rfl, rfl, rfl⟩ := sj3 hf
      exact g_iret h hF [0, 1, 2, 3, 4, 5, 6] rfl rfl ⟨rfl, rfl⟩ (fle rfl) (fle rfl) dX0_place_37
set_option maxHeartbeats 4000000 in
set_option maxRecDepth 100000 in
theorem ct_X0_pulled {l : Launch} {D : va_G} {E : Ety} {a a_kinds a_town a_tried a_fell a_tape a_read a_undos a_kept a_keptUndos a_sheets a_taken a_town_kind a_town_strength a_town_place a_town_length a_town_gives a_town_over a_town_under : Nat} {x1 : Int32} {x2 : Int32} {falls : Int32} {tears : Int32} {typed : Int32} {place : Int32} {isKept : Int32} {town_n : Int32} {town_holders : Int32} {town_cuts : Int32} {town_hour : Int32} {town_bears : Int32} {town_draw : Int32} {town_place : Nat → Int32} {town_length : Nat → Int32} {town_gives : Nat → Int32} {town_over : Nat → Int32} {town_under : Nat → Int32} {r_ : Int32} {o_town_over : Nat → Int32} {o_town_under : Nat → Int32} (hf : f_X0_pulled x1 x2 town_n town_holders town_cuts town_place town_length town_gives town_over town_under = some (r_, o_town_over, o_town_under)) : Ct l yX0_pulled cX0_pulled 3 (some .int) 2 55 1 2 D E [.ref a, .int x1, .int x2] [(a, .inr (0, [.ref a_kinds, .ref a_town, .ref a_tried, .ref a_fell, .int falls, .int tears, .ref a_tape, .int typed, .int place, .ref a_read, .ref a_undos, .ref a_kept, .ref a_keptUndos, .int isKept, .ref a_sheets, .ref a_taken])), (a_town, .inr (6, [.ref a_town_kind, .ref a_town_strength, .ref a_town_place, .ref a_town_length, .ref a_town_gives, .ref a_town_over, .ref a_town_under, .int town_n, .int town_holders, .int town_cuts, .int town_hour, .int town_bears, .int town_draw, .ref a])), (a_town_place, .inl (E 0, 8, .inl town_place)), (a_town_length, .inl (E 0, 8, .inl town_length)), (a_town_gives, .inl (E 0, 8, .inl town_gives)), (a_town_over, .inl (E 1, 8, .inl town_over)), (a_town_under, .inl (E 1, 8, .inl town_under))] (Pn (some (.int r_)) [(a, .inr (0, [.ref a_kinds, .ref a_town, .ref a_tried, .ref a_fell, .int falls, .int tears, .ref a_tape, .int typed, .int place, .ref a_read, .ref a_undos, .ref a_kept, .ref a_keptUndos, .int isKept, .ref a_sheets, .ref a_taken])), (a_town, .inr (6, [.ref a_town_kind, .ref a_town_strength, .ref a_town_place, .ref a_town_length, .ref a_town_gives, .ref a_town_over, .ref a_town_under, .int town_n, .int town_holders, .int town_cuts, .int town_hour, .int town_bears, .int town_draw, .ref a])), (a_town_place, .inl (E 0, 8, .inl town_place)), (a_town_length, .inl (E 0, 8, .inl town_length)), (a_town_gives, .inl (E 0, 8, .inl town_gives)), (a_town_over, .inl (E 1, 8, .inl o_town_over)), (a_town_under, .inl (E 1, 8, .inl o_town_under))]) := by
  refine ct_of (own := RX0) (plainFor_of_name (by decide)) rfl (fle rfl) rfl ?_
  intro X hl hD hE hnL hXF h hR hF hnm
  subst hl; subst hD; subst hE
  have hL : ∀ i, i < 3 → i < X.nL := fun i hi => by rw [hnL]; exact hi
  unfold f_X0_pulled at hf
  refine g_aload_n h 0 dX0_pulled_0 rfl rfl ?_
  refine g_iload_n h 1 dX0_pulled_1 rfl rfl ?_
  obtain ⟨r_1, hv, hf⟩ := ob1 hf
  refine g_callV (ci := 0) (q0 := 0) (n := 1) (As := [.int x1]) (st := []) (wr := [(a_town_place, .inl (X.E 0, 8, .inl town_place)), (a_town_length, .inl (X.E 0, 8, .inl town_length)), (a_town_gives, .inl (X.E 0, 8, .inl town_gives)), (a_town_over, .inl (X.E 1, 8, .inl town_over)), (a_town_under, .inl (X.E 1, 8, .inl town_under))]) (isC := [0, 1]) (isR := [2, 3, 4, 5, 6]) h hR (ct_X0_isPerson (a := a) (a_kinds := a_kinds) (a_town := a_town) (a_tried := a_tried) (a_fell := a_fell) (a_tape := a_tape) (a_read := a_read) (a_undos := a_undos) (a_kept := a_kept) (a_keptUndos := a_keptUndos) (a_sheets := a_sheets) (a_taken := a_taken) (a_town_kind := a_town_kind) (a_town_strength := a_town_strength) (a_town_place := a_town_place) (a_town_length := a_town_length) (a_town_gives := a_town_gives) (a_town_over := a_town_over) (a_town_under := a_town_under) (x1 := x1) (falls := falls) (tears := tears) (typed := typed) (place := place) (isKept := isKept) (town_n := town_n) (town_holders := town_holders) (town_cuts := town_cuts) (town_hour := town_hour) (town_bears := town_bears) (town_draw := town_draw) hv) rfl rfl (lw_V q234 q236 qs5 q70 q237) (by decide +kernel) rfl ⟨rfl, rfl, rfl, rfl, by decide⟩ ⟨fle rfl, fle rfl, fle rfl, fle rfl, fle rfl⟩ rfl dX0_pulled_2 (pin (perm := [5, 6, 0, 1, 2, 3, 4]) (ws' := [(a, .inr (0, [.ref a_kinds, .ref a_town, .ref a_tried, .ref a_fell, .int falls, .int tears, .ref a_tape, .int typed, .int place, .ref a_read, .ref a_undos, .ref a_kept, .ref a_keptUndos, .int isKept, .ref a_sheets, .ref a_taken])), (a_town, .inr (6, [.ref a_town_kind, .ref a_town_strength, .ref a_town_place, .ref a_town_length, .ref a_town_gives, .ref a_town_over, .ref a_town_under, .int town_n, .int town_holders, .int town_cuts, .int town_hour, .int town_bears, .int town_draw, .ref a])), (a_town_place, .inl (X.E 0, 8, .inl town_place)), (a_town_length, .inl (X.E 0, 8, .inl town_length)), (a_town_gives, .inl (X.E 0, 8, .inl town_gives)), (a_town_over, .inl (X.E 1, 8, .inl town_over)), (a_town_under, .inl (X.E 1, 8, .inl town_under))]) (stk := [.int r_1]) rfl rfl rfl ?_)
  clear hv
  refine g_if_eq (tgt := 54) h dX0_pulled_5 rfl hf (fun c2 hf => ?_) (fun c2 hf => ?_)
  · refine g_iconst (v := (-1)) h dX0_pulled_54 kiconst_m1 ?_
    obtain ⟨rfl, rfl, rfl⟩ := sj3 hf
    exact g_iret h hF [0, 1, 2, 3, 4, 5, 6] rfl rfl ⟨rfl, rfl⟩ (fle rfl) (fle rfl) dX0_pulled_55
  · refine g_iload_n h 2 dX0_pulled_8 rfl rfl ?_
    refine g_i2l h dX0_pulled_9 ?_
    refine g_lconst (v := 0) h dX0_pulled_10 rfl ?_
    refine g_lconst (v := 1) h dX0_pulled_11 rfl ?_
    obtain ⟨r_3, hv, hf⟩ := ob1 hf
    refine g_callS (n := 3) (As := [.long x2.toInt64, .long 0, .long 1]) (st := []) (wr := [(a, .inr (0, [.ref a_kinds, .ref a_town, .ref a_tried, .ref a_fell, .int falls, .int tears, .ref a_tape, .int typed, .int place, .ref a_read, .ref a_undos, .ref a_kept, .ref a_keptUndos, .int isKept, .ref a_sheets, .ref a_taken])), (a_town, .inr (6, [.ref a_town_kind, .ref a_town_strength, .ref a_town_place, .ref a_town_length, .ref a_town_gives, .ref a_town_over, .ref a_town_under, .int town_n, .int town_holders, .int town_cuts, .int town_hour, .int town_bears, .int town_draw, .ref a])), (a_town_place, .inl (X.E 0, 8, .inl town_place)), (a_town_length, .inl (X.E 0, 8, .inl town_length)), (a_town_gives, .inl (X.E 0, 8, .inl town_gives)), (a_town_over, .inl (X.E 1, 8, .inl town_over)), (a_town_under, .inl (X.E 1, 8, .inl town_under))]) (isC := []) (isR := [0, 1, 2, 3, 4, 5, 6]) h hR (ct_X0_in (x0 := x2.toInt64) (x2 := 0) (x4 := 1) hv) (lw_S q107 q108 q70 q109) (by decide +kernel) rfl ⟨rfl, rfl, rfl, rfl, by decide⟩ ⟨fle rfl, fle rfl, fle rfl, fle rfl, fle rfl⟩ rfl dX0_pulled_12 (pin (perm := [0, 1, 2, 3, 4, 5, 6]) (ws' := [(a, .inr (0, [.ref a_kinds, .ref a_town, .ref a_tried, .ref a_fell, .int falls, .int tears, .ref a_tape, .int typed, .int place, .ref a_read, .ref a_undos, .ref a_kept, .ref a_keptUndos, .int isKept, .ref a_sheets, .ref a_taken])), (a_town, .inr (6, [.ref a_town_kind, .ref a_town_strength, .ref a_town_place, .ref a_town_length, .ref a_town_gives, .ref a_town_over, .ref a_town_under, .int town_n, .int town_holders, .int town_cuts, .int town_hour, .int town_bears, .int town_draw, .ref a])), (a_town_place, .inl (X.E 0, 8, .inl town_place)), (a_town_length, .inl (X.E 0, 8, .inl town_length)), (a_town_gives, .inl (X.E 0, 8, .inl town_gives)), (a_town_over, .inl (X.E 1, 8, .inl town_over)), (a_town_under, .inl (X.E 1, 8, .inl town_under))]) (stk := [.int r_3]) rfl rfl rfl ?_)
    clear hv
    refine g_if_eq (tgt := 54) h dX0_pulled_15 rfl hf (fun c4 hf => ?_) (fun c4 hf => ?_)
    · refine g_iconst (v := (-1)) h dX0_pulled_54 kiconst_m1 ?_
      obtain ⟨rfl, rfl, rfl⟩ := sj3 hf
      exact g_iret h hF [0, 1, 2, 3, 4, 5, 6] rfl rfl ⟨rfl, rfl⟩ (fle rfl) (fle rfl) dX0_pulled_55
    · refine g_new (ci := 9) (fs := [.long 0, .long 0]) h hR in_X9 tyX9 tyX9_ok q249 q250 q82 rfl df_X9 (fle rfl) (fle rfl) dX0_pulled_18 (fun q5 => ?_)
      refine G.sub (ws' := [(a, .inr (0, [.ref a_kinds, .ref a_town, .ref a_tried, .ref a_fell, .int falls, .int tears, .ref a_tape, .int typed, .int place, .ref a_read, .ref a_undos, .ref a_kept, .ref a_keptUndos, .int isKept, .ref a_sheets, .ref a_taken])), (a_town, .inr (6, [.ref a_town_kind, .ref a_town_strength, .ref a_town_place, .ref a_town_length, .ref a_town_gives, .ref a_town_over, .ref a_town_under, .int town_n, .int town_holders, .int town_cuts, .int town_hour, .int town_bears, .int town_draw, .ref a])), (a_town_place, .inl (X.E 0, 8, .inl town_place)), (a_town_length, .inl (X.E 0, 8, .inl town_length)), (a_town_gives, .inl (X.E 0, 8, .inl town_gives)), (a_town_over, .inl (X.E 1, 8, .inl town_over)), (a_town_under, .inl (X.E 1, 8, .inl town_under)), (q5, .inr (9, [.long 0, .long 0]))]) [0, 1, 2, 3, 4, 5, 6, 7] rfl rfl ?_
      refine g_dup h dX0_pulled_21 rfl ?_
      refine g_aload_n h 0 dX0_pulled_22 rfl rfl ?_
      refine g_get (ci := 0) (v := .ref a_town) h in_X0 0 1 rfl rfl (fle rfl) rfl q1112 rfl dX0_pulled_23 ?_
      obtain ⟨town_over_6, town_under_7, hv, hf⟩ := ob2 hf
      refine g_callV (ci := 6) (q0 := 1) (n := 0) (As := []) (st := [.ref q5, .ref q5]) (wr := [(a, .inr (0, [.ref a_kinds, .ref a_town, .ref a_tried, .ref a_fell, .int falls, .int tears, .ref a_tape, .int typed, .int place, .ref a_read, .ref a_undos, .ref a_kept, .ref a_keptUndos, .int isKept, .ref a_sheets, .ref a_taken])), (q5, .inr (9, [.long 0, .long 0]))]) (isC := [1, 2, 3, 4, 5, 6]) (isR := [0, 7]) h hR (ct_X6_measured (a := a_town) (a_kind := a_town_kind) (a_strength := a_town_strength) (a_place := a_town_place) (a_length := a_town_length) (a_gives := a_town_gives) (a_over := a_town_over) (a_under := a_town_under) (a_this0 := a) (n := town_n) (holders := town_holders) (cuts := town_cuts) (hour := town_hour) (bears := town_bears) (draw := town_draw) (place := town_place) (length := town_length) (gives := town_gives) (over := town_over) (under := town_under) hv) rfl rfl (lw_V q134 q135 q136 q76 q137) (by decide +kernel) rfl ⟨rfl, rfl, rfl, rfl, by decide⟩ ⟨fle rfl, fle rfl, fle rfl, fle rfl, fle rfl⟩ rfl dX0_pulled_26 (pin (perm := [0, 2, 3, 4, 5, 6, 7, 1]) (ws' := [(a, .inr (0, [.ref a_kinds, .ref a_town, .ref a_tried, .ref a_fell, .int falls, .int tears, .ref a_tape, .int typed, .int place, .ref a_read, .ref a_undos, .ref a_kept, .ref a_keptUndos, .int isKept, .ref a_sheets, .ref a_taken])), (a_town, .inr (6, [.ref a_town_kind, .ref a_town_strength, .ref a_town_place, .ref a_town_length, .ref a_town_gives, .ref a_town_over, .ref a_town_under, .int town_n, .int town_holders, .int town_cuts, .int town_hour, .int town_bears, .int town_draw, .ref a])), (a_town_place, .inl (X.E 0, 8, .inl town_place)), (a_town_length, .inl (X.E 0, 8, .inl town_length)), (a_town_gives, .inl (X.E 0, 8, .inl town_gives)), (a_town_over, .inl (X.E 1, 8, .inl town_over_6)), (a_town_under, .inl (X.E 1, 8, .inl town_under_7)), (q5, .inr (9, [.long 0, .long 0]))]) (stk := [.ref a_town, .ref q5, .ref q5]) rfl rfl rfl ?_)
      clear hv
      refine g_iload_n h 1 dX0_pulled_29 rfl rfl ?_
      obtain ⟨r_8, hv, hf⟩ := ob1 hf
      refine g_callV (ci := 6) (q0 := 1) (n := 1) (As := [.int x1]) (st := [.ref q5, .ref q5]) (wr := [(a, .inr (0, [.ref a_kinds, .ref a_town, .ref a_tried, .ref a_fell, .int falls, .int tears, .ref a_tape, .int typed, .int place, .ref a_read, .ref a_undos, .ref a_kept, .ref a_keptUndos, .int isKept, .ref a_sheets, .ref a_taken])), (a_town_place, .inl (X.E 0, 8, .inl town_place)), (a_town_length, .inl (X.E 0, 8, .inl town_length)), (a_town_gives, .inl (X.E 0, 8, .inl town_gives)), (q5, .inr (9, [.long 0, .long 0]))]) (isC := [1, 5, 6]) (isR := [0, 2, 3, 4, 7]) h hR (ct_X6_pulledBy (a := a_town) (a_kind := a_town_kind) (a_strength := a_town_strength) (a_place := a_town_place) (a_length := a_town_length) (a_gives := a_town_gives) (a_over := a_town_over) (a_under := a_town_under) (a_this0 := a) (x1 := x1) (n := town_n) (holders := town_holders) (cuts := town_cuts) (hour := town_hour) (bears := town_bears) (draw := town_draw) (over := town_over_6) (under := town_under_7) hv) rfl rfl (lw_V q156 q157 q158 q76 q159) (by decide +kernel) rfl ⟨rfl, rfl, rfl, rfl, by decide⟩ ⟨fle rfl, fle rfl, fle rfl, fle rfl, fle rfl⟩ rfl dX0_pulled_30 (pin (perm := [0, 5, 1, 2, 3, 6, 7, 4]) (ws' := [(a, .inr (0, [.ref a_kinds, .ref a_town, .ref a_tried, .ref a_fell, .int falls, .int tears, .ref a_tape, .int typed, .int place, .ref a_read, .ref a_undos, .ref a_kept, .ref a_keptUndos, .int isKept, .ref a_sheets, .ref a_taken])), (a_town, .inr (6, [.ref a_town_kind, .ref a_town_strength, .ref a_town_place, .ref a_town_length, .ref a_town_gives, .ref a_town_over, .ref a_town_under, .int town_n, .int town_holders, .int town_cuts, .int town_hour, .int town_bears, .int town_draw, .ref a])), (a_town_place, .inl (X.E 0, 8, .inl town_place)), (a_town_length, .inl (X.E 0, 8, .inl town_length)), (a_town_gives, .inl (X.E 0, 8, .inl town_gives)), (a_town_over, .inl (X.E 1, 8, .inl town_over_6)), (a_town_under, .inl (X.E 1, 8, .inl town_under_7)), (q5, .inr (9, [.long 0, .long 0]))]) (stk := [.long r_8, .ref q5, .ref q5]) rfl rfl rfl ?_)
      clear hv
      obtain ⟨r_9, hv, hf⟩ := ob1 hf
      refine g_callS (n := 1) (As := [.long r_8]) (st := [.ref q5, .ref q5]) (wr := [(a, .inr (0, [.ref a_kinds, .ref a_town, .ref a_tried, .ref a_fell, .int falls, .int tears, .ref a_tape, .int typed, .int place, .ref a_read, .ref a_undos, .ref a_kept, .ref a_keptUndos, .int isKept, .ref a_sheets, .ref a_taken])), (a_town, .inr (6, [.ref a_town_kind, .ref a_town_strength, .ref a_town_place, .ref a_town_length, .ref a_town_gives, .ref a_town_over, .ref a_town_under, .int town_n, .int town_holders, .int town_cuts, .int town_hour, .int town_bears, .int town_draw, .ref a])), (a_town_place, .inl (X.E 0, 8, .inl town_place)), (a_town_length, .inl (X.E 0, 8, .inl town_length)), (a_town_gives, .inl (X.E 0, 8, .inl town_gives)), (a_town_over, .inl (X.E 1, 8, .inl town_over_6)), (a_town_under, .inl (X.E 1, 8, .inl town_under_7)), (q5, .inr (9, [.long 0, .long 0]))]) (isC := []) (isR := [0, 1, 2, 3, 4, 5, 6, 7]) h hR (ct_J2_abs (x0 := r_8) hv) (lw_S q164 q165 q81 q166) (by decide +kernel) rfl ⟨rfl, rfl, rfl, rfl, by decide⟩ ⟨fle rfl, fle rfl, fle rfl, fle rfl, fle rfl⟩ rfl dX0_pulled_33 (pin (perm := [0, 1, 2, 3, 4, 5, 6, 7]) (ws' := [(a, .inr (0, [.ref a_kinds, .ref a_town, .ref a_tried, .ref a_fell, .int falls, .int tears, .ref a_tape, .int typed, .int place, .ref a_read, .ref a_undos, .ref a_kept, .ref a_keptUndos, .int isKept, .ref a_sheets, .ref a_taken])), (a_town, .inr (6, [.ref a_town_kind, .ref a_town_strength, .ref a_town_place, .ref a_town_length, .ref a_town_gives, .ref a_town_over, .ref a_town_under, .int town_n, .int town_holders, .int town_cuts, .int town_hour, .int town_bears, .int town_draw, .ref a])), (a_town_place, .inl (X.E 0, 8, .inl town_place)), (a_town_length, .inl (X.E 0, 8, .inl town_length)), (a_town_gives, .inl (X.E 0, 8, .inl town_gives)), (a_town_over, .inl (X.E 1, 8, .inl town_over_6)), (a_town_under, .inl (X.E 1, 8, .inl town_under_7)), (q5, .inr (9, [.long 0, .long 0]))]) (stk := [.long r_9, .ref q5, .ref q5]) rfl rfl rfl ?_)
      clear hv
      refine g_aload_n h 0 dX0_pulled_36 rfl rfl ?_
      refine g_get (ci := 0) (v := .ref a_town) h in_X0 0 1 rfl rfl (fle rfl) rfl q1112 rfl dX0_pulled_37 ?_
      refine g_iload_n h 1 dX0_pulled_40 rfl rfl ?_
      obtain ⟨r_10, hv, hf⟩ := ob1 hf
      refine g_callV (ci := 6) (q0 := 1) (n := 1) (As := [.int x1]) (st := [.long r_9, .ref q5, .ref q5]) (wr := [(a, .inr (0, [.ref a_kinds, .ref a_town, .ref a_tried, .ref a_fell, .int falls, .int tears, .ref a_tape, .int typed, .int place, .ref a_read, .ref a_undos, .ref a_kept, .ref a_keptUndos, .int isKept, .ref a_sheets, .ref a_taken])), (a_town_place, .inl (X.E 0, 8, .inl town_place)), (a_town_length, .inl (X.E 0, 8, .inl town_length)), (a_town_gives, .inl (X.E 0, 8, .inl town_gives)), (a_town_over, .inl (X.E 1, 8, .inl town_over_6)), (q5, .inr (9, [.long 0, .long 0]))]) (isC := [1, 6]) (isR := [0, 2, 3, 4, 5, 7]) h hR (ct_X6_pulledBelow (a := a_town) (a_kind := a_town_kind) (a_strength := a_town_strength) (a_place := a_town_place) (a_length := a_town_length) (a_gives := a_town_gives) (a_over := a_town_over) (a_under := a_town_under) (a_this0 := a) (x1 := x1) (n := town_n) (holders := town_holders) (cuts := town_cuts) (hour := town_hour) (bears := town_bears) (draw := town_draw) (under := town_under_7) hv) rfl rfl (lw_V q222 q223 q224 q76 q225) (by decide +kernel) rfl ⟨rfl, rfl, rfl, rfl, by decide⟩ ⟨fle rfl, fle rfl, fle rfl, fle rfl, fle rfl⟩ rfl dX0_pulled_41 (pin (perm := [0, 6, 1, 2, 3, 4, 7, 5]) (ws' := [(a, .inr (0, [.ref a_kinds, .ref a_town, .ref a_tried, .ref a_fell, .int falls, .int tears, .ref a_tape, .int typed, .int place, .ref a_read, .ref a_undos, .ref a_kept, .ref a_keptUndos, .int isKept, .ref a_sheets, .ref a_taken])), (a_town, .inr (6, [.ref a_town_kind, .ref a_town_strength, .ref a_town_place, .ref a_town_length, .ref a_town_gives, .ref a_town_over, .ref a_town_under, .int town_n, .int town_holders, .int town_cuts, .int town_hour, .int town_bears, .int town_draw, .ref a])), (a_town_place, .inl (X.E 0, 8, .inl town_place)), (a_town_length, .inl (X.E 0, 8, .inl town_length)), (a_town_gives, .inl (X.E 0, 8, .inl town_gives)), (a_town_over, .inl (X.E 1, 8, .inl town_over_6)), (a_town_under, .inl (X.E 1, 8, .inl town_under_7)), (q5, .inr (9, [.long 0, .long 0]))]) (stk := [.long r_10, .long r_9, .ref q5, .ref q5]) rfl rfl rfl ?_)
      clear hv
      obtain ⟨q5_f0_11, q5_f1_12, hv, hf⟩ := ob2 hf
      refine g_callI (n := 2) (As := [.long r_9, .long r_10]) (st := [.ref q5]) (wr := [(a, .inr (0, [.ref a_kinds, .ref a_town, .ref a_tried, .ref a_fell, .int falls, .int tears, .ref a_tape, .int typed, .int place, .ref a_read, .ref a_undos, .ref a_kept, .ref a_keptUndos, .int isKept, .ref a_sheets, .ref a_taken])), (a_town, .inr (6, [.ref a_town_kind, .ref a_town_strength, .ref a_town_place, .ref a_town_length, .ref a_town_gives, .ref a_town_over, .ref a_town_under, .int town_n, .int town_holders, .int town_cuts, .int town_hour, .int town_bears, .int town_draw, .ref a])), (a_town_place, .inl (X.E 0, 8, .inl town_place)), (a_town_length, .inl (X.E 0, 8, .inl town_length)), (a_town_gives, .inl (X.E 0, 8, .inl town_gives)), (a_town_over, .inl (X.E 1, 8, .inl town_over_6)), (a_town_under, .inl (X.E 1, 8, .inl town_under_7))]) (isC := [7]) (isR := [0, 1, 2, 3, 4, 5, 6]) h hR (ct_X9_init (a := q5) (x1 := r_9) (x3 := r_10) (above := 0) (below := 0) hv) q253 q82 q251 q252 rfl (by decide +kernel) rfl ⟨rfl, rfl, rfl, rfl, by decide⟩ ⟨fle rfl, fle rfl, fle rfl, fle rfl, fle rfl⟩ rfl dX0_pulled_44 (pin (perm := [0, 1, 2, 3, 4, 5, 6, 7]) (ws' := [(a, .inr (0, [.ref a_kinds, .ref a_town, .ref a_tried, .ref a_fell, .int falls, .int tears, .ref a_tape, .int typed, .int place, .ref a_read, .ref a_undos, .ref a_kept, .ref a_keptUndos, .int isKept, .ref a_sheets, .ref a_taken])), (a_town, .inr (6, [.ref a_town_kind, .ref a_town_strength, .ref a_town_place, .ref a_town_length, .ref a_town_gives, .ref a_town_over, .ref a_town_under, .int town_n, .int town_holders, .int town_cuts, .int town_hour, .int town_bears, .int town_draw, .ref a])), (a_town_place, .inl (X.E 0, 8, .inl town_place)), (a_town_length, .inl (X.E 0, 8, .inl town_length)), (a_town_gives, .inl (X.E 0, 8, .inl town_gives)), (a_town_over, .inl (X.E 1, 8, .inl town_over_6)), (a_town_under, .inl (X.E 1, 8, .inl town_under_7)), (q5, .inr (9, [.long q5_f0_11, .long q5_f1_12]))]) (stk := [.ref q5]) rfl rfl rfl ?_)
      clear hv
      refine g_iload_n h 2 dX0_pulled_47 rfl rfl ?_
      obtain ⟨r_13, hv, hf⟩ := ob1 hf
      refine g_callV (ci := 9) (q0 := 7) (n := 1) (As := [.int x2]) (st := []) (wr := [(a, .inr (0, [.ref a_kinds, .ref a_town, .ref a_tried, .ref a_fell, .int falls, .int tears, .ref a_tape, .int typed, .int place, .ref a_read, .ref a_undos, .ref a_kept, .ref a_keptUndos, .int isKept, .ref a_sheets, .ref a_taken])), (a_town, .inr (6, [.ref a_town_kind, .ref a_town_strength, .ref a_town_place, .ref a_town_length, .ref a_town_gives, .ref a_town_over, .ref a_town_under, .int town_n, .int town_holders, .int town_cuts, .int town_hour, .int town_bears, .int town_draw, .ref a])), (a_town_place, .inl (X.E 0, 8, .inl town_place)), (a_town_length, .inl (X.E 0, 8, .inl town_length)), (a_town_gives, .inl (X.E 0, 8, .inl town_gives)), (a_town_over, .inl (X.E 1, 8, .inl town_over_6)), (a_town_under, .inl (X.E 1, 8, .inl town_under_7))]) (isC := [7]) (isR := [0, 1, 2, 3, 4, 5, 6]) h hR (ct_X9_told (a := q5) (x1 := x2) (above := q5_f0_11) (below := q5_f1_12) hv) rfl rfl (lw_V q280 q281 q282 q82 q283) (by decide +kernel) rfl ⟨rfl, rfl, rfl, rfl, by decide⟩ ⟨fle rfl, fle rfl, fle rfl, fle rfl, fle rfl⟩ rfl dX0_pulled_48 (pin (perm := [0, 1, 2, 3, 4, 5, 6, 7]) (ws' := [(a, .inr (0, [.ref a_kinds, .ref a_town, .ref a_tried, .ref a_fell, .int falls, .int tears, .ref a_tape, .int typed, .int place, .ref a_read, .ref a_undos, .ref a_kept, .ref a_keptUndos, .int isKept, .ref a_sheets, .ref a_taken])), (a_town, .inr (6, [.ref a_town_kind, .ref a_town_strength, .ref a_town_place, .ref a_town_length, .ref a_town_gives, .ref a_town_over, .ref a_town_under, .int town_n, .int town_holders, .int town_cuts, .int town_hour, .int town_bears, .int town_draw, .ref a])), (a_town_place, .inl (X.E 0, 8, .inl town_place)), (a_town_length, .inl (X.E 0, 8, .inl town_length)), (a_town_gives, .inl (X.E 0, 8, .inl town_gives)), (a_town_over, .inl (X.E 1, 8, .inl town_over_6)), (a_town_under, .inl (X.E 1, 8, .inl town_under_7)), (q5, .inr (9, [.long q5_f0_11, .long q5_f1_12]))]) (stk := [.int r_13]) rfl rfl rfl ?_)
      clear hv
      refine g_goto (tgt := 55) h dX0_pulled_51 rfl ?_
      obtain ⟨rfl, rfl, rfl⟩ := sj3 hf
      exact g_iret h hF [0, 1, 2, 3, 4, 5, 6] rfl rfl ⟨rfl, rfl⟩ (fle rfl) (fle rfl) dX0_pulled_55
set_option maxHeartbeats 4000000 in
set_option maxRecDepth 100000 in
theorem ct_X0_isSeam {l : Launch} {D : va_G} {E : Ety} {a a_kinds a_town a_tried a_fell a_tape a_read a_undos a_kept a_keptUndos a_sheets a_taken a_town_kind a_town_strength a_town_place a_town_length a_town_gives a_town_over a_town_under : Nat} {x1 : Int32} {falls : Int32} {tears : Int32} {typed : Int32} {place : Int32} {isKept : Int32} {town_n : Int32} {town_holders : Int32} {town_cuts : Int32} {town_hour : Int32} {town_bears : Int32} {town_draw : Int32} {r_ : Int32} (hf : f_X0_isSeam x1 town_n = some r_) : Ct l yX0_isSeam cX0_isSeam 2 (some .boolean) 1 25 0 0 D E [.ref a, .int x1] [(a, .inr (0, [.ref a_kinds, .ref a_town, .ref a_tried, .ref a_fell, .int falls, .int tears, .ref a_tape, .int typed, .int place, .ref a_read, .ref a_undos, .ref a_kept, .ref a_keptUndos, .int isKept, .ref a_sheets, .ref a_taken])), (a_town, .inr (6, [.ref a_town_kind, .ref a_town_strength, .ref a_town_place, .ref a_town_length, .ref a_town_gives, .ref a_town_over, .ref a_town_under, .int town_n, .int town_holders, .int town_cuts, .int town_hour, .int town_bears, .int town_draw, .ref a]))] (Pn (some (.int r_)) [(a, .inr (0, [.ref a_kinds, .ref a_town, .ref a_tried, .ref a_fell, .int falls, .int tears, .ref a_tape, .int typed, .int place, .ref a_read, .ref a_undos, .ref a_kept, .ref a_keptUndos, .int isKept, .ref a_sheets, .ref a_taken])), (a_town, .inr (6, [.ref a_town_kind, .ref a_town_strength, .ref a_town_place, .ref a_town_length, .ref a_town_gives, .ref a_town_over, .ref a_town_under, .int town_n, .int town_holders, .int town_cuts, .int town_hour, .int town_bears, .int town_draw, .ref a]))]) := by
  refine ct_of (own := RX0) (plainFor_of_name (by decide)) rfl (fle rfl) rfl ?_
  intro X hl hD hE hnL hXF h hR hF hnm
  subst hl; subst hD; subst hE
  have hL : ∀ i, i < 2 → i < X.nL := fun i hi => by rw [hnL]; exact hi
  unfold f_X0_isSeam at hf
  refine g_iload_n h 1 dX0_isSeam_0 rfl rfl ?_
  refine g_i2l h dX0_isSeam_1 ?_
  refine g_lconst (v := 0) h dX0_isSeam_2 rfl ?_
  refine g_aload_n h 0 dX0_isSeam_3 rfl rfl ?_
  refine g_get (ci := 0) (v := .ref a_town) h in_X0 0 1 rfl rfl (fle rfl) rfl q1112 rfl dX0_isSeam_4 ?_
  refine g_getN (ci := 6) (v := .int town_n) h in_X6 1 7 rfl rfl (fle rfl) rfl q564 rfl dX0_isSeam_7 ?_
  refine g_iconst (v := 2) h dX0_isSeam_10 kiconst_2 ?_
  refine g_isub h dX0_isSeam_11 ?_
  refine g_i2l h dX0_isSeam_12 ?_
  obtain ⟨r_1, hv, hf⟩ := ob1 hf
  refine g_callS (n := 3) (As := [.long x1.toInt64, .long 0, .long ((town_n - 2).toInt64)]) (st := []) (wr := [(a, .inr (0, [.ref a_kinds, .ref a_town, .ref a_tried, .ref a_fell, .int falls, .int tears, .ref a_tape, .int typed, .int place, .ref a_read, .ref a_undos, .ref a_kept, .ref a_keptUndos, .int isKept, .ref a_sheets, .ref a_taken])), (a_town, .inr (6, [.ref a_town_kind, .ref a_town_strength, .ref a_town_place, .ref a_town_length, .ref a_town_gives, .ref a_town_over, .ref a_town_under, .int town_n, .int town_holders, .int town_cuts, .int town_hour, .int town_bears, .int town_draw, .ref a]))]) (isC := []) (isR := [0, 1]) h hR (ct_X0_in (x0 := x1.toInt64) (x2 := 0) (x4 := (town_n - 2).toInt64) hv) (lw_S q107 q108 q70 q109) (by decide +kernel) rfl ⟨rfl, rfl, rfl, rfl, by decide⟩ ⟨fle rfl, fle rfl, fle rfl, fle rfl, fle rfl⟩ rfl dX0_isSeam_13 (pin (perm := [0, 1]) (ws' := [(a, .inr (0, [.ref a_kinds, .ref a_town, .ref a_tried, .ref a_fell, .int falls, .int tears, .ref a_tape, .int typed, .int place, .ref a_read, .ref a_undos, .ref a_kept, .ref a_keptUndos, .int isKept, .ref a_sheets, .ref a_taken])), (a_town, .inr (6, [.ref a_town_kind, .ref a_town_strength, .ref a_town_place, .ref a_town_length, .ref a_town_gives, .ref a_town_over, .ref a_town_under, .int town_n, .int town_holders, .int town_cuts, .int town_hour, .int town_bears, .int town_draw, .ref a]))]) (stk := [.int r_1]) rfl rfl rfl ?_)
  clear hv
  obtain ⟨gz, hf⟩ := gy hf
  obtain rfl := sj1 hf
  exact g_zret h hF (nz gz) [0, 1] rfl rfl ⟨rfl, rfl⟩ (fle rfl) (fle rfl) dX0_isSeam_16
set_option maxHeartbeats 4000000 in
set_option maxRecDepth 100000 in
theorem ct_X0_pull {l : Launch} {D : va_G} {E : Ety} {a a_kinds a_town a_tried a_fell a_tape a_read a_undos a_kept a_keptUndos a_sheets a_taken a_town_kind a_town_strength a_town_place a_town_length a_town_gives a_town_over a_town_under : Nat} {x1 : Int32} {x2 : Int32} {falls : Int32} {tears : Int32} {typed : Int32} {place : Int32} {isKept : Int32} {town_n : Int32} {town_holders : Int32} {town_cuts : Int32} {town_hour : Int32} {town_bears : Int32} {town_draw : Int32} {town_place : Nat → Int32} {town_length : Nat → Int32} {town_gives : Nat → Int32} {town_over : Nat → Int32} {town_under : Nat → Int32} {r_ : Int32} {o_town_over : Nat → Int32} {o_town_under : Nat → Int32} (hf : f_X0_pull x1 x2 town_n town_holders town_cuts town_place town_length town_gives town_over town_under = some (r_, o_town_over, o_town_under)) : Ct l yX0_pull cX0_pull 3 (some .int) 2 55 1 2 D E [.ref a, .int x1, .int x2] [(a, .inr (0, [.ref a_kinds, .ref a_town, .ref a_tried, .ref a_fell, .int falls, .int tears, .ref a_tape, .int typed, .int place, .ref a_read, .ref a_undos, .ref a_kept, .ref a_keptUndos, .int isKept, .ref a_sheets, .ref a_taken])), (a_town, .inr (6, [.ref a_town_kind, .ref a_town_strength, .ref a_town_place, .ref a_town_length, .ref a_town_gives, .ref a_town_over, .ref a_town_under, .int town_n, .int town_holders, .int town_cuts, .int town_hour, .int town_bears, .int town_draw, .ref a])), (a_town_place, .inl (E 0, 8, .inl town_place)), (a_town_length, .inl (E 0, 8, .inl town_length)), (a_town_gives, .inl (E 0, 8, .inl town_gives)), (a_town_over, .inl (E 1, 8, .inl town_over)), (a_town_under, .inl (E 1, 8, .inl town_under))] (Pn (some (.int r_)) [(a, .inr (0, [.ref a_kinds, .ref a_town, .ref a_tried, .ref a_fell, .int falls, .int tears, .ref a_tape, .int typed, .int place, .ref a_read, .ref a_undos, .ref a_kept, .ref a_keptUndos, .int isKept, .ref a_sheets, .ref a_taken])), (a_town, .inr (6, [.ref a_town_kind, .ref a_town_strength, .ref a_town_place, .ref a_town_length, .ref a_town_gives, .ref a_town_over, .ref a_town_under, .int town_n, .int town_holders, .int town_cuts, .int town_hour, .int town_bears, .int town_draw, .ref a])), (a_town_place, .inl (E 0, 8, .inl town_place)), (a_town_length, .inl (E 0, 8, .inl town_length)), (a_town_gives, .inl (E 0, 8, .inl town_gives)), (a_town_over, .inl (E 1, 8, .inl o_town_over)), (a_town_under, .inl (E 1, 8, .inl o_town_under))]) := by
  refine ct_of (own := RX0) (plainFor_of_name (by decide)) rfl (fle rfl) rfl ?_
  intro X hl hD hE hnL hXF h hR hF hnm
  subst hl; subst hD; subst hE
  have hL : ∀ i, i < 3 → i < X.nL := fun i hi => by rw [hnL]; exact hi
  unfold f_X0_pull at hf
  refine g_aload_n h 0 dX0_pull_0 rfl rfl ?_
  refine g_iload_n h 1 dX0_pull_1 rfl rfl ?_
  obtain ⟨r_1, hv, hf⟩ := ob1 hf
  refine g_callV (ci := 0) (q0 := 0) (n := 1) (As := [.int x1]) (st := []) (wr := [(a_town_place, .inl (X.E 0, 8, .inl town_place)), (a_town_length, .inl (X.E 0, 8, .inl town_length)), (a_town_gives, .inl (X.E 0, 8, .inl town_gives)), (a_town_over, .inl (X.E 1, 8, .inl town_over)), (a_town_under, .inl (X.E 1, 8, .inl town_under))]) (isC := [0, 1]) (isR := [2, 3, 4, 5, 6]) h hR (ct_X0_isSeam (a := a) (a_kinds := a_kinds) (a_town := a_town) (a_tried := a_tried) (a_fell := a_fell) (a_tape := a_tape) (a_read := a_read) (a_undos := a_undos) (a_kept := a_kept) (a_keptUndos := a_keptUndos) (a_sheets := a_sheets) (a_taken := a_taken) (a_town_kind := a_town_kind) (a_town_strength := a_town_strength) (a_town_place := a_town_place) (a_town_length := a_town_length) (a_town_gives := a_town_gives) (a_town_over := a_town_over) (a_town_under := a_town_under) (x1 := x1) (falls := falls) (tears := tears) (typed := typed) (place := place) (isKept := isKept) (town_n := town_n) (town_holders := town_holders) (town_cuts := town_cuts) (town_hour := town_hour) (town_bears := town_bears) (town_draw := town_draw) hv) rfl rfl (lw_V q292 q294 qs6 q70 q295) (by decide +kernel) rfl ⟨rfl, rfl, rfl, rfl, by decide⟩ ⟨fle rfl, fle rfl, fle rfl, fle rfl, fle rfl⟩ rfl dX0_pull_2 (pin (perm := [5, 6, 0, 1, 2, 3, 4]) (ws' := [(a, .inr (0, [.ref a_kinds, .ref a_town, .ref a_tried, .ref a_fell, .int falls, .int tears, .ref a_tape, .int typed, .int place, .ref a_read, .ref a_undos, .ref a_kept, .ref a_keptUndos, .int isKept, .ref a_sheets, .ref a_taken])), (a_town, .inr (6, [.ref a_town_kind, .ref a_town_strength, .ref a_town_place, .ref a_town_length, .ref a_town_gives, .ref a_town_over, .ref a_town_under, .int town_n, .int town_holders, .int town_cuts, .int town_hour, .int town_bears, .int town_draw, .ref a])), (a_town_place, .inl (X.E 0, 8, .inl town_place)), (a_town_length, .inl (X.E 0, 8, .inl town_length)), (a_town_gives, .inl (X.E 0, 8, .inl town_gives)), (a_town_over, .inl (X.E 1, 8, .inl town_over)), (a_town_under, .inl (X.E 1, 8, .inl town_under))]) (stk := [.int r_1]) rfl rfl rfl ?_)
  clear hv
  refine g_if_eq (tgt := 55) h dX0_pull_5 rfl hf (fun c2 hf => ?_) (fun c2 hf => ?_)
  · refine g_iconst (v := (-1)) h dX0_pull_55 kiconst_m1 ?_
    obtain ⟨rfl, rfl, rfl⟩ := sj3 hf
    exact g_iret h hF [0, 1, 2, 3, 4, 5, 6] rfl rfl ⟨rfl, rfl⟩ (fle rfl) (fle rfl) dX0_pull_56
  · refine g_iload_n h 2 dX0_pull_8 rfl rfl ?_
    refine g_i2l h dX0_pull_9 ?_
    refine g_lconst (v := 0) h dX0_pull_10 rfl ?_
    refine g_lconst (v := 1) h dX0_pull_11 rfl ?_
    obtain ⟨r_3, hv, hf⟩ := ob1 hf
    refine g_callS (n := 3) (As := [.long x2.toInt64, .long 0, .long 1]) (st := []) (wr := [(a, .inr (0, [.ref a_kinds, .ref a_town, .ref a_tried, .ref a_fell, .int falls, .int tears, .ref a_tape, .int typed, .int place, .ref a_read, .ref a_undos, .ref a_kept, .ref a_keptUndos, .int isKept, .ref a_sheets, .ref a_taken])), (a_town, .inr (6, [.ref a_town_kind, .ref a_town_strength, .ref a_town_place, .ref a_town_length, .ref a_town_gives, .ref a_town_over, .ref a_town_under, .int town_n, .int town_holders, .int town_cuts, .int town_hour, .int town_bears, .int town_draw, .ref a])), (a_town_place, .inl (X.E 0, 8, .inl town_place)), (a_town_length, .inl (X.E 0, 8, .inl town_length)), (a_town_gives, .inl (X.E 0, 8, .inl town_gives)), (a_town_over, .inl (X.E 1, 8, .inl town_over)), (a_town_under, .inl (X.E 1, 8, .inl town_under))]) (isC := []) (isR := [0, 1, 2, 3, 4, 5, 6]) h hR (ct_X0_in (x0 := x2.toInt64) (x2 := 0) (x4 := 1) hv) (lw_S q107 q108 q70 q109) (by decide +kernel) rfl ⟨rfl, rfl, rfl, rfl, by decide⟩ ⟨fle rfl, fle rfl, fle rfl, fle rfl, fle rfl⟩ rfl dX0_pull_12 (pin (perm := [0, 1, 2, 3, 4, 5, 6]) (ws' := [(a, .inr (0, [.ref a_kinds, .ref a_town, .ref a_tried, .ref a_fell, .int falls, .int tears, .ref a_tape, .int typed, .int place, .ref a_read, .ref a_undos, .ref a_kept, .ref a_keptUndos, .int isKept, .ref a_sheets, .ref a_taken])), (a_town, .inr (6, [.ref a_town_kind, .ref a_town_strength, .ref a_town_place, .ref a_town_length, .ref a_town_gives, .ref a_town_over, .ref a_town_under, .int town_n, .int town_holders, .int town_cuts, .int town_hour, .int town_bears, .int town_draw, .ref a])), (a_town_place, .inl (X.E 0, 8, .inl town_place)), (a_town_length, .inl (X.E 0, 8, .inl town_length)), (a_town_gives, .inl (X.E 0, 8, .inl town_gives)), (a_town_over, .inl (X.E 1, 8, .inl town_over)), (a_town_under, .inl (X.E 1, 8, .inl town_under))]) (stk := [.int r_3]) rfl rfl rfl ?_)
    clear hv
    refine g_if_eq (tgt := 55) h dX0_pull_15 rfl hf (fun c4 hf => ?_) (fun c4 hf => ?_)
    · refine g_iconst (v := (-1)) h dX0_pull_55 kiconst_m1 ?_
      obtain ⟨rfl, rfl, rfl⟩ := sj3 hf
      exact g_iret h hF [0, 1, 2, 3, 4, 5, 6] rfl rfl ⟨rfl, rfl⟩ (fle rfl) (fle rfl) dX0_pull_56
    · refine g_new (ci := 9) (fs := [.long 0, .long 0]) h hR in_X9 tyX9 tyX9_ok q249 q250 q82 rfl df_X9 (fle rfl) (fle rfl) dX0_pull_18 (fun q5 => ?_)
      refine G.sub (ws' := [(a, .inr (0, [.ref a_kinds, .ref a_town, .ref a_tried, .ref a_fell, .int falls, .int tears, .ref a_tape, .int typed, .int place, .ref a_read, .ref a_undos, .ref a_kept, .ref a_keptUndos, .int isKept, .ref a_sheets, .ref a_taken])), (a_town, .inr (6, [.ref a_town_kind, .ref a_town_strength, .ref a_town_place, .ref a_town_length, .ref a_town_gives, .ref a_town_over, .ref a_town_under, .int town_n, .int town_holders, .int town_cuts, .int town_hour, .int town_bears, .int town_draw, .ref a])), (a_town_place, .inl (X.E 0, 8, .inl town_place)), (a_town_length, .inl (X.E 0, 8, .inl town_length)), (a_town_gives, .inl (X.E 0, 8, .inl town_gives)), (a_town_over, .inl (X.E 1, 8, .inl town_over)), (a_town_under, .inl (X.E 1, 8, .inl town_under)), (q5, .inr (9, [.long 0, .long 0]))]) [0, 1, 2, 3, 4, 5, 6, 7] rfl rfl ?_
      refine g_dup h dX0_pull_21 rfl ?_
      refine g_aload_n h 0 dX0_pull_22 rfl rfl ?_
      refine g_get (ci := 0) (v := .ref a_town) h in_X0 0 1 rfl rfl (fle rfl) rfl q1112 rfl dX0_pull_23 ?_
      obtain ⟨town_over_6, town_under_7, hv, hf⟩ := ob2 hf
      refine g_callV (ci := 6) (q0 := 1) (n := 0) (As := []) (st := [.ref q5, .ref q5]) (wr := [(a, .inr (0, [.ref a_kinds, .ref a_town, .ref a_tried, .ref a_fell, .int falls, .int tears, .ref a_tape, .int typed, .int place, .ref a_read, .ref a_undos, .ref a_kept, .ref a_keptUndos, .int isKept, .ref a_sheets, .ref a_taken])), (q5, .inr (9, [.long 0, .long 0]))]) (isC := [1, 2, 3, 4, 5, 6]) (isR := [0, 7]) h hR (ct_X6_measured (a := a_town) (a_kind := a_town_kind) (a_strength := a_town_strength) (a_place := a_town_place) (a_length := a_town_length) (a_gives := a_town_gives) (a_over := a_town_over) (a_under := a_town_under) (a_this0 := a) (n := town_n) (holders := town_holders) (cuts := town_cuts) (hour := town_hour) (bears := town_bears) (draw := town_draw) (place := town_place) (length := town_length) (gives := town_gives) (over := town_over) (under := town_under) hv) rfl rfl (lw_V q134 q135 q136 q76 q137) (by decide +kernel) rfl ⟨rfl, rfl, rfl, rfl, by decide⟩ ⟨fle rfl, fle rfl, fle rfl, fle rfl, fle rfl⟩ rfl dX0_pull_26 (pin (perm := [0, 2, 3, 4, 5, 6, 7, 1]) (ws' := [(a, .inr (0, [.ref a_kinds, .ref a_town, .ref a_tried, .ref a_fell, .int falls, .int tears, .ref a_tape, .int typed, .int place, .ref a_read, .ref a_undos, .ref a_kept, .ref a_keptUndos, .int isKept, .ref a_sheets, .ref a_taken])), (a_town, .inr (6, [.ref a_town_kind, .ref a_town_strength, .ref a_town_place, .ref a_town_length, .ref a_town_gives, .ref a_town_over, .ref a_town_under, .int town_n, .int town_holders, .int town_cuts, .int town_hour, .int town_bears, .int town_draw, .ref a])), (a_town_place, .inl (X.E 0, 8, .inl town_place)), (a_town_length, .inl (X.E 0, 8, .inl town_length)), (a_town_gives, .inl (X.E 0, 8, .inl town_gives)), (a_town_over, .inl (X.E 1, 8, .inl town_over_6)), (a_town_under, .inl (X.E 1, 8, .inl town_under_7)), (q5, .inr (9, [.long 0, .long 0]))]) (stk := [.ref a_town, .ref q5, .ref q5]) rfl rfl rfl ?_)
      clear hv
      refine g_getN (ci := 6) (v := .ref a_town_over) h in_X6 1 5 rfl rfl (fle rfl) rfl q560 rfl dX0_pull_29 ?_
      refine g_iload_n h 1 dX0_pull_32 rfl rfl ?_
      obtain ⟨g8, hf⟩ := gn hf
      refine g_iaload h 5 rfl g8 dX0_pull_33 ?_
      refine g_i2l h dX0_pull_34 ?_
      refine g_aload_n h 0 dX0_pull_35 rfl rfl ?_
      refine g_get (ci := 0) (v := .ref a_town) h in_X0 0 1 rfl rfl (fle rfl) rfl q1112 rfl dX0_pull_36 ?_
      refine g_getN (ci := 6) (v := .ref a_town_under) h in_X6 1 6 rfl rfl (fle rfl) rfl q562 rfl dX0_pull_39 ?_
      refine g_iload_n h 1 dX0_pull_42 rfl rfl ?_
      refine g_iaload h 6 rfl g8 dX0_pull_43 ?_
      refine g_i2l h dX0_pull_44 ?_
      obtain ⟨q5_f0_9, q5_f1_10, hv, hf⟩ := ob2 hf
      refine g_callI (n := 2) (As := [.long ((town_over_6 x1.toNatClampNeg).toInt64), .long ((town_under_7 x1.toNatClampNeg).toInt64)]) (st := [.ref q5]) (wr := [(a, .inr (0, [.ref a_kinds, .ref a_town, .ref a_tried, .ref a_fell, .int falls, .int tears, .ref a_tape, .int typed, .int place, .ref a_read, .ref a_undos, .ref a_kept, .ref a_keptUndos, .int isKept, .ref a_sheets, .ref a_taken])), (a_town, .inr (6, [.ref a_town_kind, .ref a_town_strength, .ref a_town_place, .ref a_town_length, .ref a_town_gives, .ref a_town_over, .ref a_town_under, .int town_n, .int town_holders, .int town_cuts, .int town_hour, .int town_bears, .int town_draw, .ref a])), (a_town_place, .inl (X.E 0, 8, .inl town_place)), (a_town_length, .inl (X.E 0, 8, .inl town_length)), (a_town_gives, .inl (X.E 0, 8, .inl town_gives)), (a_town_over, .inl (X.E 1, 8, .inl town_over_6)), (a_town_under, .inl (X.E 1, 8, .inl town_under_7))]) (isC := [7]) (isR := [0, 1, 2, 3, 4, 5, 6]) h hR (ct_X9_init (a := q5) (x1 := (town_over_6 x1.toNatClampNeg).toInt64) (x3 := (town_under_7 x1.toNatClampNeg).toInt64) (above := 0) (below := 0) hv) q253 q82 q251 q252 rfl (by decide +kernel) rfl ⟨rfl, rfl, rfl, rfl, by decide⟩ ⟨fle rfl, fle rfl, fle rfl, fle rfl, fle rfl⟩ rfl dX0_pull_45 (pin (perm := [0, 1, 2, 3, 4, 5, 6, 7]) (ws' := [(a, .inr (0, [.ref a_kinds, .ref a_town, .ref a_tried, .ref a_fell, .int falls, .int tears, .ref a_tape, .int typed, .int place, .ref a_read, .ref a_undos, .ref a_kept, .ref a_keptUndos, .int isKept, .ref a_sheets, .ref a_taken])), (a_town, .inr (6, [.ref a_town_kind, .ref a_town_strength, .ref a_town_place, .ref a_town_length, .ref a_town_gives, .ref a_town_over, .ref a_town_under, .int town_n, .int town_holders, .int town_cuts, .int town_hour, .int town_bears, .int town_draw, .ref a])), (a_town_place, .inl (X.E 0, 8, .inl town_place)), (a_town_length, .inl (X.E 0, 8, .inl town_length)), (a_town_gives, .inl (X.E 0, 8, .inl town_gives)), (a_town_over, .inl (X.E 1, 8, .inl town_over_6)), (a_town_under, .inl (X.E 1, 8, .inl town_under_7)), (q5, .inr (9, [.long q5_f0_9, .long q5_f1_10]))]) (stk := [.ref q5]) rfl rfl rfl ?_)
      clear hv
      refine g_iload_n h 2 dX0_pull_48 rfl rfl ?_
      obtain ⟨r_11, hv, hf⟩ := ob1 hf
      refine g_callV (ci := 9) (q0 := 7) (n := 1) (As := [.int x2]) (st := []) (wr := [(a, .inr (0, [.ref a_kinds, .ref a_town, .ref a_tried, .ref a_fell, .int falls, .int tears, .ref a_tape, .int typed, .int place, .ref a_read, .ref a_undos, .ref a_kept, .ref a_keptUndos, .int isKept, .ref a_sheets, .ref a_taken])), (a_town, .inr (6, [.ref a_town_kind, .ref a_town_strength, .ref a_town_place, .ref a_town_length, .ref a_town_gives, .ref a_town_over, .ref a_town_under, .int town_n, .int town_holders, .int town_cuts, .int town_hour, .int town_bears, .int town_draw, .ref a])), (a_town_place, .inl (X.E 0, 8, .inl town_place)), (a_town_length, .inl (X.E 0, 8, .inl town_length)), (a_town_gives, .inl (X.E 0, 8, .inl town_gives)), (a_town_over, .inl (X.E 1, 8, .inl town_over_6)), (a_town_under, .inl (X.E 1, 8, .inl town_under_7))]) (isC := [7]) (isR := [0, 1, 2, 3, 4, 5, 6]) h hR (ct_X9_told (a := q5) (x1 := x2) (above := q5_f0_9) (below := q5_f1_10) hv) rfl rfl (lw_V q280 q281 q282 q82 q283) (by decide +kernel) rfl ⟨rfl, rfl, rfl, rfl, by decide⟩ ⟨fle rfl, fle rfl, fle rfl, fle rfl, fle rfl⟩ rfl dX0_pull_49 (pin (perm := [0, 1, 2, 3, 4, 5, 6, 7]) (ws' := [(a, .inr (0, [.ref a_kinds, .ref a_town, .ref a_tried, .ref a_fell, .int falls, .int tears, .ref a_tape, .int typed, .int place, .ref a_read, .ref a_undos, .ref a_kept, .ref a_keptUndos, .int isKept, .ref a_sheets, .ref a_taken])), (a_town, .inr (6, [.ref a_town_kind, .ref a_town_strength, .ref a_town_place, .ref a_town_length, .ref a_town_gives, .ref a_town_over, .ref a_town_under, .int town_n, .int town_holders, .int town_cuts, .int town_hour, .int town_bears, .int town_draw, .ref a])), (a_town_place, .inl (X.E 0, 8, .inl town_place)), (a_town_length, .inl (X.E 0, 8, .inl town_length)), (a_town_gives, .inl (X.E 0, 8, .inl town_gives)), (a_town_over, .inl (X.E 1, 8, .inl town_over_6)), (a_town_under, .inl (X.E 1, 8, .inl town_under_7)), (q5, .inr (9, [.long q5_f0_9, .long q5_f1_10]))]) (stk := [.int r_11]) rfl rfl rfl ?_)
      clear hv
      refine g_goto (tgt := 56) h dX0_pull_52 rfl ?_
      obtain ⟨rfl, rfl, rfl⟩ := sj3 hf
      exact g_iret h hF [0, 1, 2, 3, 4, 5, 6] rfl rfl ⟨rfl, rfl⟩ (fle rfl) (fle rfl) dX0_pull_56
set_option maxHeartbeats 4000000 in
set_option maxRecDepth 100000 in
theorem ct_X0_seam {l : Launch} {D : va_G} {E : Ety} {a a_kinds a_town a_tried a_fell a_tape a_read a_undos a_kept a_keptUndos a_sheets a_taken a_town_kind a_town_strength a_town_place a_town_length a_town_gives a_town_over a_town_under : Nat} {x1 : Int32} {x2 : Int32} {falls : Int32} {tears : Int32} {typed : Int32} {place : Int32} {isKept : Int32} {town_n : Int32} {town_holders : Int32} {town_cuts : Int32} {town_hour : Int32} {town_bears : Int32} {town_draw : Int32} {town_length : Nat → Int32} {town_gives : Nat → Int32} {r_ : Int32} (hf : f_X0_seam x1 x2 town_n town_cuts town_length town_gives = some r_) : Ct l yX0_seam cX0_seam 3 (some .int) 2 46 0 0 D E [.ref a, .int x1, .int x2] [(a, .inr (0, [.ref a_kinds, .ref a_town, .ref a_tried, .ref a_fell, .int falls, .int tears, .ref a_tape, .int typed, .int place, .ref a_read, .ref a_undos, .ref a_kept, .ref a_keptUndos, .int isKept, .ref a_sheets, .ref a_taken])), (a_town, .inr (6, [.ref a_town_kind, .ref a_town_strength, .ref a_town_place, .ref a_town_length, .ref a_town_gives, .ref a_town_over, .ref a_town_under, .int town_n, .int town_holders, .int town_cuts, .int town_hour, .int town_bears, .int town_draw, .ref a])), (a_town_length, .inl (E 0, 8, .inl town_length)), (a_town_gives, .inl (E 0, 8, .inl town_gives))] (Pn (some (.int r_)) [(a, .inr (0, [.ref a_kinds, .ref a_town, .ref a_tried, .ref a_fell, .int falls, .int tears, .ref a_tape, .int typed, .int place, .ref a_read, .ref a_undos, .ref a_kept, .ref a_keptUndos, .int isKept, .ref a_sheets, .ref a_taken])), (a_town, .inr (6, [.ref a_town_kind, .ref a_town_strength, .ref a_town_place, .ref a_town_length, .ref a_town_gives, .ref a_town_over, .ref a_town_under, .int town_n, .int town_holders, .int town_cuts, .int town_hour, .int town_bears, .int town_draw, .ref a])), (a_town_length, .inl (E 0, 8, .inl town_length)), (a_town_gives, .inl (E 0, 8, .inl town_gives))]) := by
  refine ct_of (own := RX0) (plainFor_of_name (by decide)) rfl (fle rfl) rfl ?_
  intro X hl hD hE hnL hXF h hR hF hnm
  subst hl; subst hD; subst hE
  have hL : ∀ i, i < 3 → i < X.nL := fun i hi => by rw [hnL]; exact hi
  unfold f_X0_seam at hf
  refine g_aload_n h 0 dX0_seam_0 rfl rfl ?_
  refine g_iload_n h 1 dX0_seam_1 rfl rfl ?_
  obtain ⟨r_1, hv, hf⟩ := ob1 hf
  refine g_callV (ci := 0) (q0 := 0) (n := 1) (As := [.int x1]) (st := []) (wr := [(a_town_length, .inl (X.E 0, 8, .inl town_length)), (a_town_gives, .inl (X.E 0, 8, .inl town_gives))]) (isC := [0, 1]) (isR := [2, 3]) h hR (ct_X0_isSeam (a := a) (a_kinds := a_kinds) (a_town := a_town) (a_tried := a_tried) (a_fell := a_fell) (a_tape := a_tape) (a_read := a_read) (a_undos := a_undos) (a_kept := a_kept) (a_keptUndos := a_keptUndos) (a_sheets := a_sheets) (a_taken := a_taken) (a_town_kind := a_town_kind) (a_town_strength := a_town_strength) (a_town_place := a_town_place) (a_town_length := a_town_length) (a_town_gives := a_town_gives) (a_town_over := a_town_over) (a_town_under := a_town_under) (x1 := x1) (falls := falls) (tears := tears) (typed := typed) (place := place) (isKept := isKept) (town_n := town_n) (town_holders := town_holders) (town_cuts := town_cuts) (town_hour := town_hour) (town_bears := town_bears) (town_draw := town_draw) hv) rfl rfl (lw_V q292 q294 qs6 q70 q295) (by decide +kernel) rfl ⟨rfl, rfl, rfl, rfl, by decide⟩ ⟨fle rfl, fle rfl, fle rfl, fle rfl, fle rfl⟩ rfl dX0_seam_2 (pin (perm := [2, 3, 0, 1]) (ws' := [(a, .inr (0, [.ref a_kinds, .ref a_town, .ref a_tried, .ref a_fell, .int falls, .int tears, .ref a_tape, .int typed, .int place, .ref a_read, .ref a_undos, .ref a_kept, .ref a_keptUndos, .int isKept, .ref a_sheets, .ref a_taken])), (a_town, .inr (6, [.ref a_town_kind, .ref a_town_strength, .ref a_town_place, .ref a_town_length, .ref a_town_gives, .ref a_town_over, .ref a_town_under, .int town_n, .int town_holders, .int town_cuts, .int town_hour, .int town_bears, .int town_draw, .ref a])), (a_town_length, .inl (X.E 0, 8, .inl town_length)), (a_town_gives, .inl (X.E 0, 8, .inl town_gives))]) (stk := [.int r_1]) rfl rfl rfl ?_)
  clear hv
  refine g_if_ne (tgt := 10) h dX0_seam_5 rfl hf (fun c2 hf => ?_) (fun c2 hf => ?_)
  · refine g_iconst (v := (-1)) h dX0_seam_8 kiconst_m1 ?_
    obtain rfl := sj1 hf
    exact g_iret h hF [0, 1, 2, 3] rfl rfl ⟨rfl, rfl⟩ (fle rfl) (fle rfl) dX0_seam_9
  · refine g_iload_n h 2 dX0_seam_10 rfl rfl ?_
    refine hf_if hf (fun c3 hf => ?_) (fun c3 hf => ?_)
    · refine g_tabIn (c := 0) (tgt := 36) h dX0_seam_11 c3 (by decide) (by decide) rfl rfl ?_
      refine g_aload_n h 0 dX0_seam_36 rfl rfl ?_
      refine g_get (ci := 0) (v := .ref a_town) h in_X0 0 1 rfl rfl (fle rfl) rfl q1112 rfl dX0_seam_37 ?_
      refine g_getN (ci := 6) (v := .ref a_town_length) h in_X6 1 3 rfl rfl (fle rfl) rfl q556 rfl dX0_seam_40 ?_
      refine g_iload_n h 1 dX0_seam_43 rfl rfl ?_
      obtain ⟨g4, hf⟩ := gn hf
      refine g_baload h 2 rfl g4 dX0_seam_44 ?_
      obtain rfl := sj1 hf
      exact g_iret h hF [0, 1, 2, 3] rfl rfl ⟨rfl, rfl⟩ (fle rfl) (fle rfl) dX0_seam_45
    · refine hf_if hf (fun c5 hf => ?_) (fun c5 hf => ?_)
      · refine g_tabIn (c := 1) (tgt := 46) h dX0_seam_11 c5 (by decide) (by decide) rfl rfl ?_
        refine g_aload_n h 0 dX0_seam_46 rfl rfl ?_
        refine g_get (ci := 0) (v := .ref a_town) h in_X0 0 1 rfl rfl (fle rfl) rfl q1112 rfl dX0_seam_47 ?_
        refine g_getN (ci := 6) (v := .ref a_town_gives) h in_X6 1 4 rfl rfl (fle rfl) rfl q558 rfl dX0_seam_50 ?_
        refine g_iload_n h 1 dX0_seam_53 rfl rfl ?_
        obtain ⟨g6, hf⟩ := gn hf
        refine g_baload h 3 rfl g6 dX0_seam_54 ?_
        obtain rfl := sj1 hf
        exact g_iret h hF [0, 1, 2, 3] rfl rfl ⟨rfl, rfl⟩ (fle rfl) (fle rfl) dX0_seam_55
      · refine hf_if hf (fun c7 hf => ?_) (fun c7 hf => ?_)
        · refine g_tabIn (c := 2) (tgt := 56) h dX0_seam_11 c7 (by decide) (by decide) rfl rfl ?_
          refine g_aload_n h 0 dX0_seam_56 rfl rfl ?_
          refine g_get (ci := 0) (v := .ref a_town) h in_X0 0 1 rfl rfl (fle rfl) rfl q1112 rfl dX0_seam_57 ?_
          refine g_iload_n h 1 dX0_seam_60 rfl rfl ?_
          obtain ⟨r_8, hv, hf⟩ := ob1 hf
          refine g_callV (ci := 6) (q0 := 1) (n := 1) (As := [.int x1]) (st := []) (wr := [(a, .inr (0, [.ref a_kinds, .ref a_town, .ref a_tried, .ref a_fell, .int falls, .int tears, .ref a_tape, .int typed, .int place, .ref a_read, .ref a_undos, .ref a_kept, .ref a_keptUndos, .int isKept, .ref a_sheets, .ref a_taken])), (a_town_length, .inl (X.E 0, 8, .inl town_length)), (a_town_gives, .inl (X.E 0, 8, .inl town_gives))]) (isC := [1]) (isR := [0, 2, 3]) h hR (ct_X6_isCut (a := a_town) (a_kind := a_town_kind) (a_strength := a_town_strength) (a_place := a_town_place) (a_length := a_town_length) (a_gives := a_town_gives) (a_over := a_town_over) (a_under := a_town_under) (a_this0 := a) (x1 := x1) (n := town_n) (holders := town_holders) (cuts := town_cuts) (hour := town_hour) (bears := town_bears) (draw := town_draw) hv) rfl rfl (lw_V q300 q139 q140 q76 q141) (by decide +kernel) rfl ⟨rfl, rfl, rfl, rfl, by decide⟩ ⟨fle rfl, fle rfl, fle rfl, fle rfl, fle rfl⟩ rfl dX0_seam_61 (pin (perm := [0, 3, 1, 2]) (ws' := [(a, .inr (0, [.ref a_kinds, .ref a_town, .ref a_tried, .ref a_fell, .int falls, .int tears, .ref a_tape, .int typed, .int place, .ref a_read, .ref a_undos, .ref a_kept, .ref a_keptUndos, .int isKept, .ref a_sheets, .ref a_taken])), (a_town, .inr (6, [.ref a_town_kind, .ref a_town_strength, .ref a_town_place, .ref a_town_length, .ref a_town_gives, .ref a_town_over, .ref a_town_under, .int town_n, .int town_holders, .int town_cuts, .int town_hour, .int town_bears, .int town_draw, .ref a])), (a_town_length, .inl (X.E 0, 8, .inl town_length)), (a_town_gives, .inl (X.E 0, 8, .inl town_gives))]) (stk := [.int r_8]) rfl rfl rfl ?_)
          clear hv
          refine g_if_eq (tgt := 71) h dX0_seam_64 rfl hf (fun c9 hf => ?_) (fun c9 hf => ?_)
          · refine g_iconst (v := 0) h dX0_seam_71 kiconst_0 ?_
            obtain rfl := sj1 hf
            exact g_iret h hF [0, 1, 2, 3] rfl rfl ⟨rfl, rfl⟩ (fle rfl) (fle rfl) dX0_seam_72
          · refine g_iconst (v := 1) h dX0_seam_67 kiconst_1 ?_
            refine g_goto (tgt := 72) h dX0_seam_68 rfl ?_
            obtain rfl := sj1 hf
            exact g_iret h hF [0, 1, 2, 3] rfl rfl ⟨rfl, rfl⟩ (fle rfl) (fle rfl) dX0_seam_72
        · refine g_tabOut (tgt := 73) h dX0_seam_11 (tab_out 0 2 (by decide) (by intro c z1 z2; rcases (show c = 0 ∨ c = 1 ∨ c = 2 by omega) with rfl | rfl | rfl <;> assumption)) rfl ?_
          refine g_iconst (v := (-1)) h dX0_seam_73 kiconst_m1 ?_
          obtain rfl := sj1 hf
          exact g_iret h hF [0, 1, 2, 3] rfl rfl ⟨rfl, rfl⟩ (fle rfl) (fle rfl) dX0_seam_74
set_option maxHeartbeats 4000000 in
set_option maxRecDepth 100000 in
theorem w_X0_taut_L12 {X : Cx} {a a_fell a_kept a_keptUndos a_kinds a_read a_sheets a_taken a_tape a_town a_town_gives a_town_kind a_town_length a_town_over a_town_place a_town_strength a_town_under a_tried a_undos : Nat} {falls : Int32} {tears : Int32} {typed : Int32} {place : Int32} {isKept : Int32} {town_n : Int32} {town_holders : Int32} {town_cuts : Int32} {town_hour : Int32} {town_bears : Int32} {town_draw : Int32} {town_place : Nat → Int32} {town_length : Nat → Int32} {town_gives : Nat → Int32} {town_over : Nat → Int32} {town_under : Nat → Int32} {ce sl : Nat} (h : Ok X cX0_taut RX0) (hR : Rm X 2 47 0 0) (hL : ∀ i, i < 3 → i < X.nL) (hce : ce ≤ 0) (hsl : sl ≤ 0) : ∀ (n0 : Nat) (x1 : Int32) (x2 : Int32) {o_x1 : Int32}, f_X0_taut_L12 town_n town_over n0 x1 x2 = some o_x1 → (G X [(a, .inr (0, [.ref a_kinds, .ref a_town, .ref a_tried, .ref a_fell, .int falls, .int tears, .ref a_tape, .int typed, .int place, .ref a_read, .ref a_undos, .ref a_kept, .ref a_keptUndos, .int isKept, .ref a_sheets, .ref a_taken])), (a_town, .inr (6, [.ref a_town_kind, .ref a_town_strength, .ref a_town_place, .ref a_town_length, .ref a_town_gives, .ref a_town_over, .ref a_town_under, .int town_n, .int town_holders, .int town_cuts, .int town_hour, .int town_bears, .int town_draw, .ref a])), (a_town_place, .inl (X.E 0, 8, .inl town_place)), (a_town_length, .inl (X.E 0, 8, .inl town_length)), (a_town_gives, .inl (X.E 0, 8, .inl town_gives)), (a_town_over, .inl (X.E 1, 8, .inl town_over)), (a_town_under, .inl (X.E 1, 8, .inl town_under))] [(1, .int o_x1)] ce sl 49 []) → G X [(a, .inr (0, [.ref a_kinds, .ref a_town, .ref a_tried, .ref a_fell, .int falls, .int tears, .ref a_tape, .int typed, .int place, .ref a_read, .ref a_undos, .ref a_kept, .ref a_keptUndos, .int isKept, .ref a_sheets, .ref a_taken])), (a_town, .inr (6, [.ref a_town_kind, .ref a_town_strength, .ref a_town_place, .ref a_town_length, .ref a_town_gives, .ref a_town_over, .ref a_town_under, .int town_n, .int town_holders, .int town_cuts, .int town_hour, .int town_bears, .int town_draw, .ref a])), (a_town_place, .inl (X.E 0, 8, .inl town_place)), (a_town_length, .inl (X.E 0, 8, .inl town_length)), (a_town_gives, .inl (X.E 0, 8, .inl town_gives)), (a_town_over, .inl (X.E 1, 8, .inl town_over)), (a_town_under, .inl (X.E 1, 8, .inl town_under))] [(0, .ref a), (1, .int x1), (2, .int x2)] ce sl 12 [] := by
  intro n0
  induction n0 with
  | zero => intro x1 x2 o_x1 hf; exact nomatch (show (none : Option _) = some _ from hf)
  | succ n0 ih =>
    intro x1 x2 o_x1 hf k0
    replace hf : t_X0_taut_L12 town_n town_over (f_X0_taut_L12 town_n town_over n0) x1 x2 = some o_x1 := hf
    unfold t_X0_taut_L12 at hf
    refine g_iload_n h 2 dX0_taut_12 rfl rfl ?_
    refine g_aload_n h 0 dX0_taut_13 rfl rfl ?_
    refine g_get (ci := 0) (v := .ref a_town) h in_X0 0 1 rfl rfl (fle rfl) rfl q1112 rfl dX0_taut_14 ?_
    refine g_getN (ci := 6) (v := .int town_n) h in_X6 1 7 rfl rfl (fle rfl) rfl q564 rfl dX0_taut_17 ?_
    refine g_iconst (v := 1) h dX0_taut_20 kiconst_1 ?_
    refine g_isub h dX0_taut_21 ?_
    refine g_icmp_ge (tgt := 49) h dX0_taut_22 rfl hf (fun c3 hf => ?_) (fun c3 hf => ?_)
    · obtain rfl := sj1 hf
      exact G.lsub [1] rfl k0
    · refine g_aload_n h 0 dX0_taut_25 rfl rfl ?_
      refine g_get (ci := 0) (v := .ref a_town) h in_X0 0 1 rfl rfl (fle rfl) rfl q1112 rfl dX0_taut_26 ?_
      refine g_getN (ci := 6) (v := .ref a_town_over) h in_X6 1 5 rfl rfl (fle rfl) rfl q560 rfl dX0_taut_29 ?_
      refine g_iload_n h 2 dX0_taut_32 rfl rfl ?_
      obtain ⟨g4, hf⟩ := gn hf
      refine g_iaload h 5 rfl g4 dX0_taut_33 ?_
      refine g_if_le (tgt := 43) h dX0_taut_34 rfl hf (fun c5 hf => ?_) (fun c5 hf => ?_)
      · refine g_iinc (j := 2) (v := (x2 + 1)) (lv' := [(2, .int (x2 + 1)), (0, .ref a), (1, .int x1)]) h dX0_taut_43 rfl (kinc_1 _) (hL 2 (fle rfl)) rfl ?_
        refine g_goto (tgt := 12) h dX0_taut_46 rfl ?_
        exact G.lsub [1, 2, 0] rfl (ih _ _ hf k0)
      · refine g_iload_n h 1 dX0_taut_37 rfl rfl ?_
        refine g_iconst (v := 1) h dX0_taut_38 kiconst_1 ?_
        refine g_iload_n h 2 dX0_taut_39 rfl rfl ?_
        refine g_ishl h dX0_taut_40 ?_
        refine g_ior h dX0_taut_41 ?_
        refine g_istore_n (lv' := [(1, .int (x1 ||| (1 <<< (x2 &&& 31)))), (0, .ref a), (2, .int x2)]) h dX0_taut_42 rfl (hL 1 (fle rfl)) rfl ?_
        refine g_iinc (j := 2) (v := (x2 + 1)) (lv' := [(2, .int (x2 + 1)), (1, .int (x1 ||| (1 <<< (x2 &&& 31)))), (0, .ref a)]) h dX0_taut_43 rfl (kinc_1 _) (hL 2 (fle rfl)) rfl ?_
        refine g_goto (tgt := 12) h dX0_taut_46 rfl ?_
        exact G.lsub [2, 1, 0] rfl (ih _ _ hf k0)
set_option maxHeartbeats 4000000 in
set_option maxRecDepth 100000 in
theorem ct_X0_taut {l : Launch} {D : va_G} {E : Ety} {a a_kinds a_town a_tried a_fell a_tape a_read a_undos a_kept a_keptUndos a_sheets a_taken a_town_kind a_town_strength a_town_place a_town_length a_town_gives a_town_over a_town_under : Nat} {falls : Int32} {tears : Int32} {typed : Int32} {place : Int32} {isKept : Int32} {town_n : Int32} {town_holders : Int32} {town_cuts : Int32} {town_hour : Int32} {town_bears : Int32} {town_draw : Int32} {town_place : Nat → Int32} {town_length : Nat → Int32} {town_gives : Nat → Int32} {town_over : Nat → Int32} {town_under : Nat → Int32} {r_ : Int32} {o_town_over : Nat → Int32} {o_town_under : Nat → Int32} (hf : f_X0_taut town_n town_holders town_cuts town_place town_length town_gives town_over town_under = some (r_, o_town_over, o_town_under)) : Ct l yX0_taut cX0_taut 3 (some .int) 2 47 0 0 D E [.ref a] [(a, .inr (0, [.ref a_kinds, .ref a_town, .ref a_tried, .ref a_fell, .int falls, .int tears, .ref a_tape, .int typed, .int place, .ref a_read, .ref a_undos, .ref a_kept, .ref a_keptUndos, .int isKept, .ref a_sheets, .ref a_taken])), (a_town, .inr (6, [.ref a_town_kind, .ref a_town_strength, .ref a_town_place, .ref a_town_length, .ref a_town_gives, .ref a_town_over, .ref a_town_under, .int town_n, .int town_holders, .int town_cuts, .int town_hour, .int town_bears, .int town_draw, .ref a])), (a_town_place, .inl (E 0, 8, .inl town_place)), (a_town_length, .inl (E 0, 8, .inl town_length)), (a_town_gives, .inl (E 0, 8, .inl town_gives)), (a_town_over, .inl (E 1, 8, .inl town_over)), (a_town_under, .inl (E 1, 8, .inl town_under))] (Pn (some (.int r_)) [(a, .inr (0, [.ref a_kinds, .ref a_town, .ref a_tried, .ref a_fell, .int falls, .int tears, .ref a_tape, .int typed, .int place, .ref a_read, .ref a_undos, .ref a_kept, .ref a_keptUndos, .int isKept, .ref a_sheets, .ref a_taken])), (a_town, .inr (6, [.ref a_town_kind, .ref a_town_strength, .ref a_town_place, .ref a_town_length, .ref a_town_gives, .ref a_town_over, .ref a_town_under, .int town_n, .int town_holders, .int town_cuts, .int town_hour, .int town_bears, .int town_draw, .ref a])), (a_town_place, .inl (E 0, 8, .inl town_place)), (a_town_length, .inl (E 0, 8, .inl town_length)), (a_town_gives, .inl (E 0, 8, .inl town_gives)), (a_town_over, .inl (E 1, 8, .inl o_town_over)), (a_town_under, .inl (E 1, 8, .inl o_town_under))]) := by
  refine ct_of (own := RX0) (plainFor_of_name (by decide)) rfl (fle rfl) rfl ?_
  intro X hl hD hE hnL hXF h hR hF hnm
  subst hl; subst hD; subst hE
  have hL : ∀ i, i < 3 → i < X.nL := fun i hi => by rw [hnL]; exact hi
  unfold f_X0_taut at hf
  refine g_iconst (v := 0) h dX0_taut_0 kiconst_0 ?_
  refine g_istore_n (lv' := [(1, .int 0), (0, .ref a)]) h dX0_taut_1 rfl (hL 1 (fle rfl)) rfl ?_
  refine g_aload_n h 1 dX0_taut_2 rfl rfl ?_
  refine g_get (ci := 0) (v := .ref a_town) h in_X0 0 1 rfl rfl (fle rfl) rfl q1112 rfl dX0_taut_3 ?_
  obtain ⟨town_over_1, town_under_2, hv, hf⟩ := ob2 hf
  refine g_callV (ci := 6) (q0 := 1) (n := 0) (As := []) (st := []) (wr := [(a, .inr (0, [.ref a_kinds, .ref a_town, .ref a_tried, .ref a_fell, .int falls, .int tears, .ref a_tape, .int typed, .int place, .ref a_read, .ref a_undos, .ref a_kept, .ref a_keptUndos, .int isKept, .ref a_sheets, .ref a_taken]))]) (isC := [1, 2, 3, 4, 5, 6]) (isR := [0]) h hR (ct_X6_measured (a := a_town) (a_kind := a_town_kind) (a_strength := a_town_strength) (a_place := a_town_place) (a_length := a_town_length) (a_gives := a_town_gives) (a_over := a_town_over) (a_under := a_town_under) (a_this0 := a) (n := town_n) (holders := town_holders) (cuts := town_cuts) (hour := town_hour) (bears := town_bears) (draw := town_draw) (place := town_place) (length := town_length) (gives := town_gives) (over := town_over) (under := town_under) hv) rfl rfl (lw_V q134 q135 q136 q76 q137) (by decide +kernel) rfl ⟨rfl, rfl, rfl, rfl, by decide⟩ ⟨fle rfl, fle rfl, fle rfl, fle rfl, fle rfl⟩ rfl dX0_taut_6 (pin (perm := [0, 1, 2, 3, 4, 5, 6]) (ws' := [(a, .inr (0, [.ref a_kinds, .ref a_town, .ref a_tried, .ref a_fell, .int falls, .int tears, .ref a_tape, .int typed, .int place, .ref a_read, .ref a_undos, .ref a_kept, .ref a_keptUndos, .int isKept, .ref a_sheets, .ref a_taken])), (a_town, .inr (6, [.ref a_town_kind, .ref a_town_strength, .ref a_town_place, .ref a_town_length, .ref a_town_gives, .ref a_town_over, .ref a_town_under, .int town_n, .int town_holders, .int town_cuts, .int town_hour, .int town_bears, .int town_draw, .ref a])), (a_town_place, .inl (X.E 0, 8, .inl town_place)), (a_town_length, .inl (X.E 0, 8, .inl town_length)), (a_town_gives, .inl (X.E 0, 8, .inl town_gives)), (a_town_over, .inl (X.E 1, 8, .inl town_over_1)), (a_town_under, .inl (X.E 1, 8, .inl town_under_2))]) (stk := [.ref a_town]) rfl rfl rfl ?_)
  clear hv
  refine g_pop h dX0_taut_9 rfl ?_
  refine g_iconst (v := 0) h dX0_taut_10 kiconst_0 ?_
  refine g_istore_n (lv' := [(2, .int 0), (1, .int 0), (0, .ref a)]) h dX0_taut_11 rfl (hL 2 (fle rfl)) rfl ?_
  refine G.lsub (lv' := [(0, .ref a), (1, .int 0), (2, .int 0)]) [2, 1, 0] rfl ?_
  obtain ⟨x1_6, hv, hf⟩ := ob1 hf
  refine w_X0_taut_L12 (falls := falls) (tears := tears) (typed := typed) (place := place) (isKept := isKept) (town_n := town_n) (town_holders := town_holders) (town_cuts := town_cuts) (town_hour := town_hour) (town_bears := town_bears) (town_draw := town_draw) (town_place := town_place) (town_length := town_length) (town_gives := town_gives) (town_over := town_over_1) (town_under := town_under_2) h hR hL (fle rfl) (fle rfl) FU _ _ hv ?_
  · clear hv
    refine g_iload_n h 0 dX0_taut_49 rfl rfl ?_
    obtain ⟨rfl, rfl, rfl⟩ := sj3 hf
    exact g_iret h hF [0, 1, 2, 3, 4, 5, 6] rfl rfl ⟨rfl, rfl⟩ (fle rfl) (fle rfl) dX0_taut_50
set_option maxHeartbeats 4000000 in
set_option maxRecDepth 100000 in
theorem w_X6_greatest_L6 {X : Cx} {a a_gives a_kind a_length a_over a_place a_strength a_this0 a_under : Nat} {n : Int32} {holders : Int32} {cuts : Int32} {hour : Int32} {bears : Int32} {draw : Int32} {over : Nat → Int32} {under : Nat → Int32} {ce sl : Nat} (h : Ok X cX6_greatest RX6) (hR : Rm X 0 0 0 0) (hL : ∀ i, i < 4 → i < X.nL) (hce : ce ≤ 0) (hsl : sl ≤ 0) : ∀ (n0 : Nat) (x1 : Int32) (x2 : Int32) (x3 : Int32) {o_x1 : Int32} {o_x2 : Int32}, f_X6_greatest_L6 n over under n0 x1 x2 x3 = some (o_x1, o_x2) → (G X [(a, .inr (6, [.ref a_kind, .ref a_strength, .ref a_place, .ref a_length, .ref a_gives, .ref a_over, .ref a_under, .int n, .int holders, .int cuts, .int hour, .int bears, .int draw, .ref a_this0])), (a_over, .inl (X.E 1, 8, .inl over)), (a_under, .inl (X.E 1, 8, .inl under))] [(1, .int o_x1), (2, .int o_x2)] ce sl 58 []) → G X [(a, .inr (6, [.ref a_kind, .ref a_strength, .ref a_place, .ref a_length, .ref a_gives, .ref a_over, .ref a_under, .int n, .int holders, .int cuts, .int hour, .int bears, .int draw, .ref a_this0])), (a_over, .inl (X.E 1, 8, .inl over)), (a_under, .inl (X.E 1, 8, .inl under))] [(0, .ref a), (1, .int x1), (2, .int x2), (3, .int x3)] ce sl 6 [] := by
  intro n0
  induction n0 with
  | zero => intro x1 x2 x3 o_x1 o_x2 hf; exact nomatch (show (none : Option _) = some _ from hf)
  | succ n0 ih =>
    intro x1 x2 x3 o_x1 o_x2 hf k0
    replace hf : t_X6_greatest_L6 n over under (f_X6_greatest_L6 n over under n0) x1 x2 x3 = some (o_x1, o_x2) := hf
    unfold t_X6_greatest_L6 at hf
    refine g_iload_n h 3 dX6_greatest_6 rfl rfl ?_
    refine g_aload_n h 0 dX6_greatest_7 rfl rfl ?_
    refine g_get (ci := 6) (v := .int n) h in_X6 0 7 rfl rfl (fle rfl) rfl q563 rfl dX6_greatest_8 ?_
    refine g_iconst (v := 1) h dX6_greatest_11 kiconst_1 ?_
    refine g_isub h dX6_greatest_12 ?_
    refine g_icmp_ge (tgt := 58) h dX6_greatest_13 rfl hf (fun c1 hf => ?_) (fun c1 hf => ?_)
    · obtain ⟨rfl, rfl⟩ := sj2 hf
      exact G.lsub [1, 2] rfl k0
    · refine g_aload_n h 0 dX6_greatest_16 rfl rfl ?_
      refine g_get (ci := 6) (v := .ref a_over) h in_X6 0 5 rfl rfl (fle rfl) rfl q559 rfl dX6_greatest_17 ?_
      refine g_iload_n h 3 dX6_greatest_20 rfl rfl ?_
      obtain ⟨g2, hf⟩ := gn hf
      refine g_iaload h 1 rfl g2 dX6_greatest_21 ?_
      refine g_iload_n h 2 dX6_greatest_22 rfl rfl ?_
      refine g_imul h dX6_greatest_23 ?_
      refine g_iload_n h 1 dX6_greatest_24 rfl rfl ?_
      refine g_aload_n h 0 dX6_greatest_25 rfl rfl ?_
      refine g_get (ci := 6) (v := .ref a_under) h in_X6 0 6 rfl rfl (fle rfl) rfl q561 rfl dX6_greatest_26 ?_
      refine g_iload_n h 3 dX6_greatest_29 rfl rfl ?_
      refine g_iaload h 2 rfl g2 dX6_greatest_30 ?_
      refine g_imul h dX6_greatest_31 ?_
      refine g_icmp_gt (tgt := 38) h dX6_greatest_32 rfl hf (fun c3 hf => ?_) (fun c3 hf => ?_)
      · refine g_aload_n h 0 dX6_greatest_38 rfl rfl ?_
        refine g_get (ci := 6) (v := .ref a_over) h in_X6 0 5 rfl rfl (fle rfl) rfl q559 rfl dX6_greatest_39 ?_
        refine g_iload_n h 3 dX6_greatest_42 rfl rfl ?_
        refine g_iaload h 1 rfl g2 dX6_greatest_43 ?_
        refine g_istore_n (lv' := [(1, .int (over x3.toNatClampNeg)), (0, .ref a), (2, .int x2), (3, .int x3)]) h dX6_greatest_44 rfl (hL 1 (fle rfl)) rfl ?_
        refine g_aload_n h 1 dX6_greatest_45 rfl rfl ?_
        refine g_get (ci := 6) (v := .ref a_under) h in_X6 0 6 rfl rfl (fle rfl) rfl q561 rfl dX6_greatest_46 ?_
        refine g_iload_n h 3 dX6_greatest_49 rfl rfl ?_
        refine g_iaload h 2 rfl g2 dX6_greatest_50 ?_
        refine g_istore_n (lv' := [(2, .int (under x3.toNatClampNeg)), (1, .int (over x3.toNatClampNeg)), (0, .ref a), (3, .int x3)]) h dX6_greatest_51 rfl (hL 2 (fle rfl)) rfl ?_
        refine g_iinc (j := 3) (v := (x3 + 1)) (lv' := [(3, .int (x3 + 1)), (2, .int (under x3.toNatClampNeg)), (1, .int (over x3.toNatClampNeg)), (0, .ref a)]) h dX6_greatest_52 rfl (kinc_1 _) (hL 3 (fle rfl)) rfl ?_
        refine g_goto (tgt := 6) h dX6_greatest_55 rfl ?_
        exact G.lsub [3, 2, 1, 0] rfl (ih _ _ _ hf k0)
      · refine g_goto (tgt := 52) h dX6_greatest_35 rfl ?_
        refine g_iinc (j := 3) (v := (x3 + 1)) (lv' := [(3, .int (x3 + 1)), (0, .ref a), (1, .int x1), (2, .int x2)]) h dX6_greatest_52 rfl (kinc_1 _) (hL 3 (fle rfl)) rfl ?_
        refine g_goto (tgt := 6) h dX6_greatest_55 rfl ?_
        exact G.lsub [1, 2, 3, 0] rfl (ih _ _ _ hf k0)
set_option maxHeartbeats 4000000 in
set_option maxRecDepth 100000 in
theorem ct_X6_greatest {l : Launch} {D : va_G} {E : Ety} {a a_kind a_strength a_place a_length a_gives a_over a_under a_this0 : Nat} {n : Int32} {holders : Int32} {cuts : Int32} {hour : Int32} {bears : Int32} {draw : Int32} {over : Nat → Int32} {under : Nat → Int32} {r_ : Int32} (hf : f_X6_greatest n over under = some r_) : Ct l yX6_greatest cX6_greatest 4 (some .int) 0 0 0 0 D E [.ref a] [(a, .inr (6, [.ref a_kind, .ref a_strength, .ref a_place, .ref a_length, .ref a_gives, .ref a_over, .ref a_under, .int n, .int holders, .int cuts, .int hour, .int bears, .int draw, .ref a_this0])), (a_over, .inl (E 1, 8, .inl over)), (a_under, .inl (E 1, 8, .inl under))] (Pn (some (.int r_)) [(a, .inr (6, [.ref a_kind, .ref a_strength, .ref a_place, .ref a_length, .ref a_gives, .ref a_over, .ref a_under, .int n, .int holders, .int cuts, .int hour, .int bears, .int draw, .ref a_this0])), (a_over, .inl (E 1, 8, .inl over)), (a_under, .inl (E 1, 8, .inl under))]) := by
  refine ct_of (own := RX6) (plainFor_of_name (by decide)) rfl (fle rfl) rfl ?_
  intro X hl hD hE hnL hXF h hR hF hnm
  subst hl; subst hD; subst hE
  have hL : ∀ i, i < 4 → i < X.nL := fun i hi => by rw [hnL]; exact hi
  unfold f_X6_greatest at hf
  refine g_iconst (v := 0) h dX6_greatest_0 kiconst_0 ?_
  refine g_istore_n (lv' := [(1, .int 0), (0, .ref a)]) h dX6_greatest_1 rfl (hL 1 (fle rfl)) rfl ?_
  refine g_iconst (v := 1) h dX6_greatest_2 kiconst_1 ?_
  refine g_istore_n (lv' := [(2, .int 1), (1, .int 0), (0, .ref a)]) h dX6_greatest_3 rfl (hL 2 (fle rfl)) rfl ?_
  refine g_iconst (v := 0) h dX6_greatest_4 kiconst_0 ?_
  refine g_istore_n (lv' := [(3, .int 0), (2, .int 1), (1, .int 0), (0, .ref a)]) h dX6_greatest_5 rfl (hL 3 (fle rfl)) rfl ?_
  refine G.lsub (lv' := [(0, .ref a), (1, .int 0), (2, .int 1), (3, .int 0)]) [3, 2, 1, 0] rfl ?_
  obtain ⟨x1_4, x2_5, hv, hf⟩ := ob2 hf
  refine w_X6_greatest_L6 (n := n) (holders := holders) (cuts := cuts) (hour := hour) (bears := bears) (draw := draw) (over := over) (under := under) h hR hL (fle rfl) (fle rfl) FU _ _ _ hv ?_
  · clear hv
    refine g_iload_n h 0 dX6_greatest_58 rfl rfl ?_
    refine g_bipush (v := 64) h dX6_greatest_59 kbipush_64 ?_
    refine g_imul h dX6_greatest_61 ?_
    refine g_iload_n h 1 dX6_greatest_62 rfl rfl ?_
    refine g_iadd h dX6_greatest_63 ?_
    obtain rfl := sj1 hf
    exact g_iret h hF [0, 1, 2] rfl rfl ⟨rfl, rfl⟩ (fle rfl) (fle rfl) dX6_greatest_64
set_option maxHeartbeats 4000000 in
set_option maxRecDepth 100000 in
theorem ct_X0_cutDown {l : Launch} {D : va_G} {E : Ety}  {x0 : Int32} {r_ : Int32} (hf : f_X0_cutDown x0 = some r_) : Ct l yX0_cutDown cX0_cutDown 1 (some .int) 0 0 0 0 D E [.int x0] [] (Pn (some (.int r_)) []) := by
  refine ct_of (own := RX0) (plainFor_of_name (by decide)) rfl (fle rfl) rfl ?_
  intro X hl hD hE hnL hXF h hR hF hnm
  subst hl; subst hD; subst hE
  have hL : ∀ i, i < 1 → i < X.nL := fun i hi => by rw [hnL]; exact hi
  unfold f_X0_cutDown at hf
  refine g_iload_n h 0 dX0_cutDown_0 rfl rfl ?_
  refine g_bipush (v := 64) h dX0_cutDown_1 kbipush_64 ?_
  refine g_idiv h dX0_cutDown_3 (by decide) ?_
  refine g_iload_n h 0 dX0_cutDown_4 rfl rfl ?_
  refine g_bipush (v := 64) h dX0_cutDown_5 kbipush_64 ?_
  refine g_irem h dX0_cutDown_7 (by decide) ?_
  obtain ⟨g1, hf⟩ := gn hf
  refine g_idiv h dX0_cutDown_8 g1 ?_
  obtain rfl := sj1 hf
  exact g_iret h hF [] rfl rfl ⟨rfl, rfl⟩ (fle rfl) (fle rfl) dX0_cutDown_9
set_option maxHeartbeats 4000000 in
set_option maxRecDepth 100000 in
theorem ct_X0_type {l : Launch} {D : va_G} {E : Ety} {a a_kinds a_town a_tried a_fell a_tape a_read a_undos a_kept a_keptUndos a_sheets a_taken : Nat} {x1 : Int32} {falls : Int32} {tears : Int32} {typed : Int32} {place : Int32} {isKept : Int32} {tape : Nat → Int32} {r_ : Int32} {o_typed : Int32} {o_tape : Nat → Int32} (hf : f_X0_type x1 typed tape = some (r_, o_typed, o_tape)) : Ct l yX0_type cX0_type 2 (some .int) 1 25 0 0 D E [.ref a, .int x1] [(a, .inr (0, [.ref a_kinds, .ref a_town, .ref a_tried, .ref a_fell, .int falls, .int tears, .ref a_tape, .int typed, .int place, .ref a_read, .ref a_undos, .ref a_kept, .ref a_keptUndos, .int isKept, .ref a_sheets, .ref a_taken])), (a_tape, .inl (E 0, 90, .inl tape))] (Pn (some (.int r_)) [(a, .inr (0, [.ref a_kinds, .ref a_town, .ref a_tried, .ref a_fell, .int falls, .int tears, .ref a_tape, .int o_typed, .int place, .ref a_read, .ref a_undos, .ref a_kept, .ref a_keptUndos, .int isKept, .ref a_sheets, .ref a_taken])), (a_tape, .inl (E 0, 90, .inl o_tape))]) := by
  refine ct_of (own := RX0) (plainFor_of_name (by decide)) rfl (fle rfl) rfl ?_
  intro X hl hD hE hnL hXF h hR hF hnm
  subst hl; subst hD; subst hE
  have hL : ∀ i, i < 2 → i < X.nL := fun i hi => by rw [hnL]; exact hi
  unfold f_X0_type at hf
  refine g_iload_n h 1 dX0_type_0 rfl rfl ?_
  refine g_i2l h dX0_type_1 ?_
  refine g_ldc2 h q327 dX0_type_2 ?_
  refine g_ldc2 h q328 dX0_type_5 ?_
  obtain ⟨r_1, hv, hf⟩ := ob1 hf
  refine g_callS (n := 3) (As := [.long x1.toInt64, .long 32, .long 126]) (st := []) (wr := [(a, .inr (0, [.ref a_kinds, .ref a_town, .ref a_tried, .ref a_fell, .int falls, .int tears, .ref a_tape, .int typed, .int place, .ref a_read, .ref a_undos, .ref a_kept, .ref a_keptUndos, .int isKept, .ref a_sheets, .ref a_taken])), (a_tape, .inl (X.E 0, 90, .inl tape))]) (isC := []) (isR := [0, 1]) h hR (ct_X0_in (x0 := x1.toInt64) (x2 := 32) (x4 := 126) hv) (lw_S q107 q108 q70 q109) (by decide +kernel) rfl ⟨rfl, rfl, rfl, rfl, by decide⟩ ⟨fle rfl, fle rfl, fle rfl, fle rfl, fle rfl⟩ rfl dX0_type_8 (pin (perm := [0, 1]) (ws' := [(a, .inr (0, [.ref a_kinds, .ref a_town, .ref a_tried, .ref a_fell, .int falls, .int tears, .ref a_tape, .int typed, .int place, .ref a_read, .ref a_undos, .ref a_kept, .ref a_keptUndos, .int isKept, .ref a_sheets, .ref a_taken])), (a_tape, .inl (X.E 0, 90, .inl tape))]) (stk := [.int r_1]) rfl rfl rfl ?_)
  clear hv
  refine g_if_ne (tgt := 16) h dX0_type_11 rfl hf (fun c2 hf => ?_) (fun c2 hf => ?_)
  · refine g_iconst (v := (-1)) h dX0_type_14 kiconst_m1 ?_
    obtain ⟨rfl, rfl, rfl⟩ := sj3 hf
    exact g_iret h hF [0, 1] rfl rfl ⟨rfl, rfl⟩ (fle rfl) (fle rfl) dX0_type_15
  · refine g_aload_n h 0 dX0_type_16 rfl rfl ?_
    refine g_get (ci := 0) (v := .int typed) h in_X0 0 7 rfl rfl (fle rfl) rfl q1118 rfl dX0_type_17 ?_
    refine g_bipush (v := 90) h dX0_type_20 kbipush_90 ?_
    refine g_icmp_ne (tgt := 28) h dX0_type_22 rfl hf (fun c3 hf => ?_) (fun c3 hf => ?_)
    · refine g_bipush (v := (-3)) h dX0_type_25 kbipush_m3 ?_
      obtain ⟨rfl, rfl, rfl⟩ := sj3 hf
      exact g_iret h hF [0, 1] rfl rfl ⟨rfl, rfl⟩ (fle rfl) (fle rfl) dX0_type_27
    · refine g_aload_n h 0 dX0_type_28 rfl rfl ?_
      refine g_get (ci := 0) (v := .ref a_tape) h in_X0 0 6 rfl rfl (fle rfl) rfl q1117 rfl dX0_type_29 ?_
      refine g_aload_n h 0 dX0_type_32 rfl rfl ?_
      refine g_get (ci := 0) (v := .int typed) h in_X0 0 7 rfl rfl (fle rfl) rfl q1118 rfl dX0_type_33 ?_
      refine g_iload_n h 1 dX0_type_36 rfl rfl ?_
      refine g_i2b h dX0_type_37 ?_
      obtain ⟨g4, hf⟩ := gn hf
      refine g_bastore (ws' := [(a, .inr (0, [.ref a_kinds, .ref a_town, .ref a_tried, .ref a_fell, .int falls, .int tears, .ref a_tape, .int typed, .int place, .ref a_read, .ref a_undos, .ref a_kept, .ref a_keptUndos, .int isKept, .ref a_sheets, .ref a_taken])), (a_tape, .inl (X.E 0, 90, .inl (upd tape typed.toNatClampNeg (vp_nar .byte x1.toInt8.toInt32))))]) h 1 rfl g4 rfl dX0_type_38 ?_
      refine g_aload_n h 0 dX0_type_39 rfl rfl ?_
      refine g_dup h dX0_type_40 rfl ?_
      refine g_get (ci := 0) (v := .int typed) h in_X0 0 7 rfl rfl (fle rfl) rfl q1118 rfl dX0_type_41 ?_
      refine g_iconst (v := 1) h dX0_type_44 kiconst_1 ?_
      refine g_iadd h dX0_type_45 ?_
      refine g_dup_x1 h dX0_type_46 rfl rfl ?_
      refine g_put (ci := 0) (ty := tyX0 7) (ws' := [(a, .inr (0, [.ref a_kinds, .ref a_town, .ref a_tried, .ref a_fell, .int falls, .int tears, .ref a_tape, .int (typed + 1), .int place, .ref a_read, .ref a_undos, .ref a_kept, .ref a_keptUndos, .int isKept, .ref a_sheets, .ref a_taken])), (a_tape, .inl (X.E 0, 90, .inl (upd tape typed.toNatClampNeg (vp_nar .byte x1.toInt8.toInt32))))]) h in_X0 tyX0 tyX0_ok nmX0 0 7 rfl rfl (fle rfl) ⟨rfl, rfl⟩ q1118 rfl rfl rfl (fle rfl) rfl dX0_type_47 ?_
      obtain ⟨rfl, rfl, rfl⟩ := sj3 hf
      exact g_iret h hF [0, 1] rfl rfl ⟨rfl, rfl⟩ (fle rfl) (fle rfl) dX0_type_50
set_option maxHeartbeats 4000000 in
set_option maxRecDepth 100000 in
theorem w_X0_here_L0 {X : Cx} {a a_fell a_kept a_keptUndos a_kinds a_read a_sheets a_taken a_tape a_town a_tried a_undos : Nat} {falls : Int32} {tears : Int32} {typed : Int32} {isKept : Int32} {tape : Nat → Int32} {ce sl : Nat} (h : Ok X cX0_here RX0) (hR : Rm X 0 0 0 0) (hL : ∀ i, i < 1 → i < X.nL) (hce : ce ≤ 0) (hsl : sl ≤ 0) : ∀ (n0 : Nat) (place : Int32) {o_place : Int32}, f_X0_here_L0 typed tape n0 place = some o_place → (G X [(a, .inr (0, [.ref a_kinds, .ref a_town, .ref a_tried, .ref a_fell, .int falls, .int tears, .ref a_tape, .int typed, .int o_place, .ref a_read, .ref a_undos, .ref a_kept, .ref a_keptUndos, .int isKept, .ref a_sheets, .ref a_taken])), (a_tape, .inl (X.E 0, 90, .inl tape))] [(0, .ref a)] ce sl 38 []) → G X [(a, .inr (0, [.ref a_kinds, .ref a_town, .ref a_tried, .ref a_fell, .int falls, .int tears, .ref a_tape, .int typed, .int place, .ref a_read, .ref a_undos, .ref a_kept, .ref a_keptUndos, .int isKept, .ref a_sheets, .ref a_taken])), (a_tape, .inl (X.E 0, 90, .inl tape))] [(0, .ref a)] ce sl 0 [] := by
  intro n0
  induction n0 with
  | zero => intro place o_place hf; exact nomatch (show (none : Option _) = some _ from hf)
  | succ n0 ih =>
    intro place o_place hf k0
    replace hf : t_X0_here_L0 typed tape (f_X0_here_L0 typed tape n0) place = some o_place := hf
    unfold t_X0_here_L0 at hf
    refine g_aload_n h 0 dX0_here_0 rfl rfl ?_
    refine g_get (ci := 0) (v := .int place) h in_X0 0 8 rfl rfl (fle rfl) rfl q1119 rfl dX0_here_1 ?_
    refine g_aload_n h 0 dX0_here_4 rfl rfl ?_
    refine g_get (ci := 0) (v := .int typed) h in_X0 0 7 rfl rfl (fle rfl) rfl q1118 rfl dX0_here_5 ?_
    refine g_icmp_ge (tgt := 38) h dX0_here_8 rfl hf (fun c1 hf => ?_) (fun c1 hf => ?_)
    · obtain rfl := sj1 hf
      exact G.lsub [0] rfl k0
    · refine g_aload_n h 0 dX0_here_11 rfl rfl ?_
      refine g_get (ci := 0) (v := .ref a_tape) h in_X0 0 6 rfl rfl (fle rfl) rfl q1117 rfl dX0_here_12 ?_
      refine g_aload_n h 0 dX0_here_15 rfl rfl ?_
      refine g_get (ci := 0) (v := .int place) h in_X0 0 8 rfl rfl (fle rfl) rfl q1119 rfl dX0_here_16 ?_
      obtain ⟨g2, hf⟩ := gn hf
      refine g_baload h 1 rfl g2 dX0_here_19 ?_
      refine g_bipush (v := 32) h dX0_here_20 kbipush_32 ?_
      refine g_icmp_ne (tgt := 38) h dX0_here_22 rfl hf (fun c3 hf => ?_) (fun c3 hf => ?_)
      · refine g_aload_n h 0 dX0_here_25 rfl rfl ?_
        refine g_dup h dX0_here_26 rfl ?_
        refine g_get (ci := 0) (v := .int place) h in_X0 0 8 rfl rfl (fle rfl) rfl q1119 rfl dX0_here_27 ?_
        refine g_iconst (v := 1) h dX0_here_30 kiconst_1 ?_
        refine g_iadd h dX0_here_31 ?_
        refine g_put (ci := 0) (ty := tyX0 8) (ws' := [(a, .inr (0, [.ref a_kinds, .ref a_town, .ref a_tried, .ref a_fell, .int falls, .int tears, .ref a_tape, .int typed, .int (place + 1), .ref a_read, .ref a_undos, .ref a_kept, .ref a_keptUndos, .int isKept, .ref a_sheets, .ref a_taken])), (a_tape, .inl (X.E 0, 90, .inl tape))]) h in_X0 tyX0 tyX0_ok nmX0 0 8 rfl rfl (fle rfl) ⟨rfl, rfl⟩ q1119 rfl rfl rfl (fle rfl) rfl dX0_here_32 ?_
        refine g_goto (tgt := 0) h dX0_here_35 rfl ?_
        exact G.lsub [0] rfl (ih _ hf k0)
      · obtain rfl := sj1 hf
        exact G.lsub [0] rfl k0
set_option maxHeartbeats 4000000 in
set_option maxRecDepth 100000 in
theorem ct_X0_here {l : Launch} {D : va_G} {E : Ety} {a a_kinds a_town a_tried a_fell a_tape a_read a_undos a_kept a_keptUndos a_sheets a_taken : Nat} {falls : Int32} {tears : Int32} {typed : Int32} {place : Int32} {isKept : Int32} {tape : Nat → Int32} {r_ : Int32} {o_place : Int32} (hf : f_X0_here typed place tape = some (r_, o_place)) : Ct l yX0_here cX0_here 1 (some .int) 0 0 0 0 D E [.ref a] [(a, .inr (0, [.ref a_kinds, .ref a_town, .ref a_tried, .ref a_fell, .int falls, .int tears, .ref a_tape, .int typed, .int place, .ref a_read, .ref a_undos, .ref a_kept, .ref a_keptUndos, .int isKept, .ref a_sheets, .ref a_taken])), (a_tape, .inl (E 0, 90, .inl tape))] (Pn (some (.int r_)) [(a, .inr (0, [.ref a_kinds, .ref a_town, .ref a_tried, .ref a_fell, .int falls, .int tears, .ref a_tape, .int typed, .int o_place, .ref a_read, .ref a_undos, .ref a_kept, .ref a_keptUndos, .int isKept, .ref a_sheets, .ref a_taken])), (a_tape, .inl (E 0, 90, .inl tape))]) := by
  refine ct_of (own := RX0) (plainFor_of_name (by decide)) rfl (fle rfl) rfl ?_
  intro X hl hD hE hnL hXF h hR hF hnm
  subst hl; subst hD; subst hE
  have hL : ∀ i, i < 1 → i < X.nL := fun i hi => by rw [hnL]; exact hi
  unfold f_X0_here at hf
  refine G.lsub (lv' := [(0, .ref a)]) [0] rfl ?_
  obtain ⟨place_4, hv, hf⟩ := ob1 hf
  refine w_X0_here_L0 (falls := falls) (tears := tears) (typed := typed) (isKept := isKept) (tape := tape) h hR hL (fle rfl) (fle rfl) FU _ hv ?_
  · clear hv
    refine g_aload_n h 0 dX0_here_38 rfl rfl ?_
    refine g_get (ci := 0) (v := .int place_4) h in_X0 0 8 rfl rfl (fle rfl) rfl q1119 rfl dX0_here_39 ?_
    refine g_aload_n h 0 dX0_here_42 rfl rfl ?_
    refine g_get (ci := 0) (v := .int typed) h in_X0 0 7 rfl rfl (fle rfl) rfl q1118 rfl dX0_here_43 ?_
    refine g_icmp_ge (tgt := 61) h dX0_here_46 rfl hf (fun c5 hf => ?_) (fun c5 hf => ?_)
    · refine g_iconst (v := 0) h dX0_here_61 kiconst_0 ?_
      obtain ⟨rfl, rfl⟩ := sj2 hf
      exact g_iret h hF [0, 1] rfl rfl ⟨rfl, rfl⟩ (fle rfl) (fle rfl) dX0_here_62
    · refine g_aload_n h 0 dX0_here_49 rfl rfl ?_
      refine g_get (ci := 0) (v := .ref a_tape) h in_X0 0 6 rfl rfl (fle rfl) rfl q1117 rfl dX0_here_50 ?_
      refine g_aload_n h 0 dX0_here_53 rfl rfl ?_
      refine g_get (ci := 0) (v := .int place_4) h in_X0 0 8 rfl rfl (fle rfl) rfl q1119 rfl dX0_here_54 ?_
      obtain ⟨g6, hf⟩ := gn hf
      refine g_baload h 1 rfl g6 dX0_here_57 ?_
      refine g_goto (tgt := 62) h dX0_here_58 rfl ?_
      obtain ⟨rfl, rfl⟩ := sj2 hf
      exact g_iret h hF [0, 1] rfl rfl ⟨rfl, rfl⟩ (fle rfl) (fle rfl) dX0_here_62
set_option maxHeartbeats 4000000 in
set_option maxRecDepth 100000 in
theorem ct_X6_init {l : Launch} {D : va_G} {E : Ety} {a a_t1 : Nat} {n : Int32} {holders : Int32} {cuts : Int32} {hour : Int32} {bears : Int32} {draw : Int32}  (hf : f_X6_init  = some ()) : Ct l yX6_init cX6_init 2 none 1 20 7 56 D E [.ref a, .ref a_t1] [(a, .inr (6, [.null, .null, .null, .null, .null, .null, .null, .int n, .int holders, .int cuts, .int hour, .int bears, .int draw, .null]))] (fun v w => ∃ q1 q2 q3 q4 q5 q6 q7 : Nat, v = none ∧ w = [(a, .inr (6, [.ref q1, .ref q2, .ref q3, .ref q4, .ref q5, .ref q6, .ref q7, .int n, .int holders, .int cuts, .int hour, .int bears, .int draw, .ref a_t1])), (q1, .inl (E 0, 8, .inl (fun _ => 0))), (q2, .inl (E 0, 8, .inl (fun _ => 0))), (q3, .inl (E 0, 8, .inl (fun _ => 0))), (q4, .inl (E 0, 8, .inl (fun _ => 0))), (q5, .inl (E 0, 8, .inl (fun _ => 0))), (q6, .inl (E 1, 8, .inl (fun _ => 0))), (q7, .inl (E 1, 8, .inl (fun _ => 0)))]) := by
  refine ct_of (own := RX6) (plainFor_of_name (by decide)) rfl (fle rfl) rfl ?_
  intro X hl hD hE hnL hXF h hR hF hnm
  subst hl; subst hD; subst hE
  have hL : ∀ i, i < 2 → i < X.nL := fun i hi => by rw [hnL]; exact hi
  unfold f_X6_init at hf
  refine g_aload_n h 0 dX6_init_0 rfl rfl ?_
  refine g_aload_n h 1 dX6_init_1 rfl rfl ?_
  refine g_putF (ci := 6) (ty := tyX6 13) (ws' := [(a, .inr (6, [.null, .null, .null, .null, .null, .null, .null, .int n, .int holders, .int cuts, .int hour, .int bears, .int draw, .ref a_t1]))]) h in_X6 tyX6 tyX6_ok nmX6 hnm 0 13 rfl rfl (fle rfl) ⟨rfl, rfl, rfl⟩ q575 rfl rfl rfl (fle rfl) rfl dX6_init_2 ?_
  refine g_aload_n h 0 dX6_init_5 rfl rfl ?_
  refine g_objInit h hR q548 q255 q256 (fle rfl) (fle rfl) dX6_init_6 ?_
  refine g_aload_n h 0 dX6_init_9 rfl rfl ?_
  refine g_bipush (v := 8) h dX6_init_10 kbipush_8 ?_
  refine g_newa (at0 := .byte) (ty := .byte) (n := 8) (N := 8) (t0 := 0) (a0 := (8, .inl (fun _ => 0))) h hR q520 rfl rfl rfl (fun _ => rfl) (by decide) (by decide) (by decide) (fle rfl) (fle rfl) dX6_init_12 (fun q1 => ?_)
  refine G.sub (ws' := [(a, .inr (6, [.null, .null, .null, .null, .null, .null, .null, .int n, .int holders, .int cuts, .int hour, .int bears, .int draw, .ref a_t1])), (q1, .inl (X.E 0, 8, .inl (fun _ => 0)))]) [0, 1] rfl rfl ?_
  refine g_putF (ci := 6) (ty := tyX6 0) (ws' := [(a, .inr (6, [.ref q1, .null, .null, .null, .null, .null, .null, .int n, .int holders, .int cuts, .int hour, .int bears, .int draw, .ref a_t1])), (q1, .inl (X.E 0, 8, .inl (fun _ => 0)))]) h in_X6 tyX6 tyX6_ok nmX6 hnm 0 0 rfl rfl (fle rfl) ⟨rfl, rfl, rfl⟩ q549 rfl rfl rfl (fle rfl) rfl dX6_init_14 ?_
  refine g_aload_n h 0 dX6_init_17 rfl rfl ?_
  refine g_bipush (v := 8) h dX6_init_18 kbipush_8 ?_
  refine g_newa (at0 := .byte) (ty := .byte) (n := 8) (N := 8) (t0 := 0) (a0 := (8, .inl (fun _ => 0))) h hR q520 rfl rfl rfl (fun _ => rfl) (by decide) (by decide) (by decide) (fle rfl) (fle rfl) dX6_init_20 (fun q2 => ?_)
  refine G.sub (ws' := [(a, .inr (6, [.ref q1, .null, .null, .null, .null, .null, .null, .int n, .int holders, .int cuts, .int hour, .int bears, .int draw, .ref a_t1])), (q1, .inl (X.E 0, 8, .inl (fun _ => 0))), (q2, .inl (X.E 0, 8, .inl (fun _ => 0)))]) [0, 1, 2] rfl rfl ?_
  refine g_putF (ci := 6) (ty := tyX6 1) (ws' := [(a, .inr (6, [.ref q1, .ref q2, .null, .null, .null, .null, .null, .int n, .int holders, .int cuts, .int hour, .int bears, .int draw, .ref a_t1])), (q1, .inl (X.E 0, 8, .inl (fun _ => 0))), (q2, .inl (X.E 0, 8, .inl (fun _ => 0)))]) h in_X6 tyX6 tyX6_ok nmX6 hnm 0 1 rfl rfl (fle rfl) ⟨rfl, rfl, rfl⟩ q551 rfl rfl rfl (fle rfl) rfl dX6_init_22 ?_
  refine g_aload_n h 0 dX6_init_25 rfl rfl ?_
  refine g_bipush (v := 8) h dX6_init_26 kbipush_8 ?_
  refine g_newa (at0 := .byte) (ty := .byte) (n := 8) (N := 8) (t0 := 0) (a0 := (8, .inl (fun _ => 0))) h hR q520 rfl rfl rfl (fun _ => rfl) (by decide) (by decide) (by decide) (fle rfl) (fle rfl) dX6_init_28 (fun q3 => ?_)
  refine G.sub (ws' := [(a, .inr (6, [.ref q1, .ref q2, .null, .null, .null, .null, .null, .int n, .int holders, .int cuts, .int hour, .int bears, .int draw, .ref a_t1])), (q1, .inl (X.E 0, 8, .inl (fun _ => 0))), (q2, .inl (X.E 0, 8, .inl (fun _ => 0))), (q3, .inl (X.E 0, 8, .inl (fun _ => 0)))]) [0, 1, 2, 3] rfl rfl ?_
  refine g_putF (ci := 6) (ty := tyX6 2) (ws' := [(a, .inr (6, [.ref q1, .ref q2, .ref q3, .null, .null, .null, .null, .int n, .int holders, .int cuts, .int hour, .int bears, .int draw, .ref a_t1])), (q1, .inl (X.E 0, 8, .inl (fun _ => 0))), (q2, .inl (X.E 0, 8, .inl (fun _ => 0))), (q3, .inl (X.E 0, 8, .inl (fun _ => 0)))]) h in_X6 tyX6 tyX6_ok nmX6 hnm 0 2 rfl rfl (fle rfl) ⟨rfl, rfl, rfl⟩ q553 rfl rfl rfl (fle rfl) rfl dX6_init_30 ?_
  refine g_aload_n h 0 dX6_init_33 rfl rfl ?_
  refine g_bipush (v := 8) h dX6_init_34 kbipush_8 ?_
  refine g_newa (at0 := .byte) (ty := .byte) (n := 8) (N := 8) (t0 := 0) (a0 := (8, .inl (fun _ => 0))) h hR q520 rfl rfl rfl (fun _ => rfl) (by decide) (by decide) (by decide) (fle rfl) (fle rfl) dX6_init_36 (fun q4 => ?_)
  refine G.sub (ws' := [(a, .inr (6, [.ref q1, .ref q2, .ref q3, .null, .null, .null, .null, .int n, .int holders, .int cuts, .int hour, .int bears, .int draw, .ref a_t1])), (q1, .inl (X.E 0, 8, .inl (fun _ => 0))), (q2, .inl (X.E 0, 8, .inl (fun _ => 0))), (q3, .inl (X.E 0, 8, .inl (fun _ => 0))), (q4, .inl (X.E 0, 8, .inl (fun _ => 0)))]) [0, 1, 2, 3, 4] rfl rfl ?_
  refine g_putF (ci := 6) (ty := tyX6 3) (ws' := [(a, .inr (6, [.ref q1, .ref q2, .ref q3, .ref q4, .null, .null, .null, .int n, .int holders, .int cuts, .int hour, .int bears, .int draw, .ref a_t1])), (q1, .inl (X.E 0, 8, .inl (fun _ => 0))), (q2, .inl (X.E 0, 8, .inl (fun _ => 0))), (q3, .inl (X.E 0, 8, .inl (fun _ => 0))), (q4, .inl (X.E 0, 8, .inl (fun _ => 0)))]) h in_X6 tyX6 tyX6_ok nmX6 hnm 0 3 rfl rfl (fle rfl) ⟨rfl, rfl, rfl⟩ q555 rfl rfl rfl (fle rfl) rfl dX6_init_38 ?_
  refine g_aload_n h 0 dX6_init_41 rfl rfl ?_
  refine g_bipush (v := 8) h dX6_init_42 kbipush_8 ?_
  refine g_newa (at0 := .byte) (ty := .byte) (n := 8) (N := 8) (t0 := 0) (a0 := (8, .inl (fun _ => 0))) h hR q520 rfl rfl rfl (fun _ => rfl) (by decide) (by decide) (by decide) (fle rfl) (fle rfl) dX6_init_44 (fun q5 => ?_)
  refine G.sub (ws' := [(a, .inr (6, [.ref q1, .ref q2, .ref q3, .ref q4, .null, .null, .null, .int n, .int holders, .int cuts, .int hour, .int bears, .int draw, .ref a_t1])), (q1, .inl (X.E 0, 8, .inl (fun _ => 0))), (q2, .inl (X.E 0, 8, .inl (fun _ => 0))), (q3, .inl (X.E 0, 8, .inl (fun _ => 0))), (q4, .inl (X.E 0, 8, .inl (fun _ => 0))), (q5, .inl (X.E 0, 8, .inl (fun _ => 0)))]) [0, 1, 2, 3, 4, 5] rfl rfl ?_
  refine g_putF (ci := 6) (ty := tyX6 4) (ws' := [(a, .inr (6, [.ref q1, .ref q2, .ref q3, .ref q4, .ref q5, .null, .null, .int n, .int holders, .int cuts, .int hour, .int bears, .int draw, .ref a_t1])), (q1, .inl (X.E 0, 8, .inl (fun _ => 0))), (q2, .inl (X.E 0, 8, .inl (fun _ => 0))), (q3, .inl (X.E 0, 8, .inl (fun _ => 0))), (q4, .inl (X.E 0, 8, .inl (fun _ => 0))), (q5, .inl (X.E 0, 8, .inl (fun _ => 0)))]) h in_X6 tyX6 tyX6_ok nmX6 hnm 0 4 rfl rfl (fle rfl) ⟨rfl, rfl, rfl⟩ q557 rfl rfl rfl (fle rfl) rfl dX6_init_46 ?_
  refine g_aload_n h 0 dX6_init_49 rfl rfl ?_
  refine g_bipush (v := 8) h dX6_init_50 kbipush_8 ?_
  refine g_newa (at0 := .int) (ty := .int) (n := 8) (N := 8) (t0 := 1) (a0 := (8, .inl (fun _ => 0))) h hR q605 rfl rfl rfl (fun _ => rfl) (by decide) (by decide) (by decide) (fle rfl) (fle rfl) dX6_init_52 (fun q6 => ?_)
  refine G.sub (ws' := [(a, .inr (6, [.ref q1, .ref q2, .ref q3, .ref q4, .ref q5, .null, .null, .int n, .int holders, .int cuts, .int hour, .int bears, .int draw, .ref a_t1])), (q1, .inl (X.E 0, 8, .inl (fun _ => 0))), (q2, .inl (X.E 0, 8, .inl (fun _ => 0))), (q3, .inl (X.E 0, 8, .inl (fun _ => 0))), (q4, .inl (X.E 0, 8, .inl (fun _ => 0))), (q5, .inl (X.E 0, 8, .inl (fun _ => 0))), (q6, .inl (X.E 1, 8, .inl (fun _ => 0)))]) [0, 1, 2, 3, 4, 5, 6] rfl rfl ?_
  refine g_putF (ci := 6) (ty := tyX6 5) (ws' := [(a, .inr (6, [.ref q1, .ref q2, .ref q3, .ref q4, .ref q5, .ref q6, .null, .int n, .int holders, .int cuts, .int hour, .int bears, .int draw, .ref a_t1])), (q1, .inl (X.E 0, 8, .inl (fun _ => 0))), (q2, .inl (X.E 0, 8, .inl (fun _ => 0))), (q3, .inl (X.E 0, 8, .inl (fun _ => 0))), (q4, .inl (X.E 0, 8, .inl (fun _ => 0))), (q5, .inl (X.E 0, 8, .inl (fun _ => 0))), (q6, .inl (X.E 1, 8, .inl (fun _ => 0)))]) h in_X6 tyX6 tyX6_ok nmX6 hnm 0 5 rfl rfl (fle rfl) ⟨rfl, rfl, rfl⟩ q559 rfl rfl rfl (fle rfl) rfl dX6_init_54 ?_
  refine g_aload_n h 0 dX6_init_57 rfl rfl ?_
  refine g_bipush (v := 8) h dX6_init_58 kbipush_8 ?_
  refine g_newa (at0 := .int) (ty := .int) (n := 8) (N := 8) (t0 := 1) (a0 := (8, .inl (fun _ => 0))) h hR q605 rfl rfl rfl (fun _ => rfl) (by decide) (by decide) (by decide) (fle rfl) (fle rfl) dX6_init_60 (fun q7 => ?_)
  refine G.sub (ws' := [(a, .inr (6, [.ref q1, .ref q2, .ref q3, .ref q4, .ref q5, .ref q6, .null, .int n, .int holders, .int cuts, .int hour, .int bears, .int draw, .ref a_t1])), (q1, .inl (X.E 0, 8, .inl (fun _ => 0))), (q2, .inl (X.E 0, 8, .inl (fun _ => 0))), (q3, .inl (X.E 0, 8, .inl (fun _ => 0))), (q4, .inl (X.E 0, 8, .inl (fun _ => 0))), (q5, .inl (X.E 0, 8, .inl (fun _ => 0))), (q6, .inl (X.E 1, 8, .inl (fun _ => 0))), (q7, .inl (X.E 1, 8, .inl (fun _ => 0)))]) [0, 1, 2, 3, 4, 5, 6, 7] rfl rfl ?_
  refine g_putF (ci := 6) (ty := tyX6 6) (ws' := [(a, .inr (6, [.ref q1, .ref q2, .ref q3, .ref q4, .ref q5, .ref q6, .ref q7, .int n, .int holders, .int cuts, .int hour, .int bears, .int draw, .ref a_t1])), (q1, .inl (X.E 0, 8, .inl (fun _ => 0))), (q2, .inl (X.E 0, 8, .inl (fun _ => 0))), (q3, .inl (X.E 0, 8, .inl (fun _ => 0))), (q4, .inl (X.E 0, 8, .inl (fun _ => 0))), (q5, .inl (X.E 0, 8, .inl (fun _ => 0))), (q6, .inl (X.E 1, 8, .inl (fun _ => 0))), (q7, .inl (X.E 1, 8, .inl (fun _ => 0)))]) h in_X6 tyX6 tyX6_ok nmX6 hnm 0 6 rfl rfl (fle rfl) ⟨rfl, rfl, rfl⟩ q561 rfl rfl rfl (fle rfl) rfl dX6_init_62 ?_
  exact g_vret h hF [0, 1, 2, 3, 4, 5, 6, 7] rfl rfl ⟨_, _, _, _, _, _, _, rfl, rfl⟩ (fle rfl) (fle rfl) dX6_init_65
set_option maxHeartbeats 4000000 in
set_option maxRecDepth 100000 in
theorem ct_X6_takes {l : Launch} {D : va_G} {E : Ety} {a a_t1 a_kind a_strength a_place a_length a_gives a_over a_under a_this0 a_t1_kind a_t1_strength a_t1_place a_t1_length a_t1_gives a_t1_over a_t1_under a_t1_this0 : Nat} {n : Int32} {holders : Int32} {cuts : Int32} {hour : Int32} {bears : Int32} {draw : Int32} {kind : Nat → Int32} {strength : Nat → Int32} {place : Nat → Int32} {length : Nat → Int32} {gives : Nat → Int32} {t1_n : Int32} {t1_holders : Int32} {t1_cuts : Int32} {t1_hour : Int32} {t1_bears : Int32} {t1_draw : Int32} {t1_kind : Nat → Int32} {t1_strength : Nat → Int32} {t1_place : Nat → Int32} {t1_length : Nat → Int32} {t1_gives : Nat → Int32} {o_n : Int32} {o_holders : Int32} {o_cuts : Int32} {o_hour : Int32} {o_bears : Int32} {o_draw : Int32} {o_kind : Nat → Int32} {o_strength : Nat → Int32} {o_place : Nat → Int32} {o_length : Nat → Int32} {o_gives : Nat → Int32} (hf : f_X6_takes kind strength place length gives t1_n t1_holders t1_cuts t1_hour t1_bears t1_draw t1_kind t1_strength t1_place t1_length t1_gives = some (o_n, o_holders, o_cuts, o_hour, o_bears, o_draw, o_kind, o_strength, o_place, o_length, o_gives)) : Ct l yX6_takes cX6_takes 2 (some (.object "OneElastic$Town")) 1 60 0 0 D E [.ref a, .ref a_t1] [(a, .inr (6, [.ref a_kind, .ref a_strength, .ref a_place, .ref a_length, .ref a_gives, .ref a_over, .ref a_under, .int n, .int holders, .int cuts, .int hour, .int bears, .int draw, .ref a_this0])), (a_kind, .inl (E 0, 8, .inl kind)), (a_strength, .inl (E 0, 8, .inl strength)), (a_place, .inl (E 0, 8, .inl place)), (a_length, .inl (E 0, 8, .inl length)), (a_gives, .inl (E 0, 8, .inl gives)), (a_t1, .inr (6, [.ref a_t1_kind, .ref a_t1_strength, .ref a_t1_place, .ref a_t1_length, .ref a_t1_gives, .ref a_t1_over, .ref a_t1_under, .int t1_n, .int t1_holders, .int t1_cuts, .int t1_hour, .int t1_bears, .int t1_draw, .ref a_t1_this0])), (a_t1_kind, .inl (E 0, 8, .inl t1_kind)), (a_t1_strength, .inl (E 0, 8, .inl t1_strength)), (a_t1_place, .inl (E 0, 8, .inl t1_place)), (a_t1_length, .inl (E 0, 8, .inl t1_length)), (a_t1_gives, .inl (E 0, 8, .inl t1_gives))] (Pn (some (.ref a)) [(a, .inr (6, [.ref a_kind, .ref a_strength, .ref a_place, .ref a_length, .ref a_gives, .ref a_over, .ref a_under, .int o_n, .int o_holders, .int o_cuts, .int o_hour, .int o_bears, .int o_draw, .ref a_this0])), (a_kind, .inl (E 0, 8, .inl o_kind)), (a_strength, .inl (E 0, 8, .inl o_strength)), (a_place, .inl (E 0, 8, .inl o_place)), (a_length, .inl (E 0, 8, .inl o_length)), (a_gives, .inl (E 0, 8, .inl o_gives)), (a_t1, .inr (6, [.ref a_t1_kind, .ref a_t1_strength, .ref a_t1_place, .ref a_t1_length, .ref a_t1_gives, .ref a_t1_over, .ref a_t1_under, .int t1_n, .int t1_holders, .int t1_cuts, .int t1_hour, .int t1_bears, .int t1_draw, .ref a_t1_this0])), (a_t1_kind, .inl (E 0, 8, .inl t1_kind)), (a_t1_strength, .inl (E 0, 8, .inl t1_strength)), (a_t1_place, .inl (E 0, 8, .inl t1_place)), (a_t1_length, .inl (E 0, 8, .inl t1_length)), (a_t1_gives, .inl (E 0, 8, .inl t1_gives))]) := by
  refine ct_of (own := RX6) (plainFor_of_name (by decide)) rfl (fle rfl) rfl ?_
  intro X hl hD hE hnL hXF h hR hF hnm
  subst hl; subst hD; subst hE
  have hL : ∀ i, i < 2 → i < X.nL := fun i hi => by rw [hnL]; exact hi
  unfold f_X6_takes at hf
  refine g_aload_n h 1 dX6_takes_0 rfl rfl ?_
  refine g_get (ci := 6) (v := .ref a_t1_kind) h in_X6 6 0 rfl rfl (fle rfl) rfl q549 rfl dX6_takes_1 ?_
  refine g_iconst (v := 0) h dX6_takes_4 kiconst_0 ?_
  refine g_aload_n h 0 dX6_takes_5 rfl rfl ?_
  refine g_get (ci := 6) (v := .ref a_kind) h in_X6 0 0 rfl rfl (fle rfl) rfl q549 rfl dX6_takes_6 ?_
  refine g_iconst (v := 0) h dX6_takes_9 kiconst_0 ?_
  refine g_bipush (v := 8) h dX6_takes_10 kbipush_8 ?_
  obtain ⟨g1, hf⟩ := gn hf
  refine g_copyb (ws' := [(a, .inr (6, [.ref a_kind, .ref a_strength, .ref a_place, .ref a_length, .ref a_gives, .ref a_over, .ref a_under, .int n, .int holders, .int cuts, .int hour, .int bears, .int draw, .ref a_this0])), (a_kind, .inl (X.E 0, 8, .inl (va_cpy t1_kind kind 0 0 8))), (a_strength, .inl (X.E 0, 8, .inl strength)), (a_place, .inl (X.E 0, 8, .inl place)), (a_length, .inl (X.E 0, 8, .inl length)), (a_gives, .inl (X.E 0, 8, .inl gives)), (a_t1, .inr (6, [.ref a_t1_kind, .ref a_t1_strength, .ref a_t1_place, .ref a_t1_length, .ref a_t1_gives, .ref a_t1_over, .ref a_t1_under, .int t1_n, .int t1_holders, .int t1_cuts, .int t1_hour, .int t1_bears, .int t1_draw, .ref a_t1_this0])), (a_t1_kind, .inl (X.E 0, 8, .inl t1_kind)), (a_t1_strength, .inl (X.E 0, 8, .inl t1_strength)), (a_t1_place, .inl (X.E 0, 8, .inl t1_place)), (a_t1_length, .inl (X.E 0, 8, .inl t1_length)), (a_t1_gives, .inl (X.E 0, 8, .inl t1_gives))]) h hR 7 1 q610  rfl rfl g1 (fle rfl) (fle rfl) rfl dX6_takes_12 ?_
  refine g_aload_n h 1 dX6_takes_15 rfl rfl ?_
  refine g_get (ci := 6) (v := .ref a_t1_strength) h in_X6 6 1 rfl rfl (fle rfl) rfl q551 rfl dX6_takes_16 ?_
  refine g_iconst (v := 0) h dX6_takes_19 kiconst_0 ?_
  refine g_aload_n h 0 dX6_takes_20 rfl rfl ?_
  refine g_get (ci := 6) (v := .ref a_strength) h in_X6 0 1 rfl rfl (fle rfl) rfl q551 rfl dX6_takes_21 ?_
  refine g_iconst (v := 0) h dX6_takes_24 kiconst_0 ?_
  refine g_bipush (v := 8) h dX6_takes_25 kbipush_8 ?_
  obtain ⟨g2, hf⟩ := gn hf
  refine g_copyb (ws' := [(a, .inr (6, [.ref a_kind, .ref a_strength, .ref a_place, .ref a_length, .ref a_gives, .ref a_over, .ref a_under, .int n, .int holders, .int cuts, .int hour, .int bears, .int draw, .ref a_this0])), (a_kind, .inl (X.E 0, 8, .inl (va_cpy t1_kind kind 0 0 8))), (a_strength, .inl (X.E 0, 8, .inl (va_cpy t1_strength strength 0 0 8))), (a_place, .inl (X.E 0, 8, .inl place)), (a_length, .inl (X.E 0, 8, .inl length)), (a_gives, .inl (X.E 0, 8, .inl gives)), (a_t1, .inr (6, [.ref a_t1_kind, .ref a_t1_strength, .ref a_t1_place, .ref a_t1_length, .ref a_t1_gives, .ref a_t1_over, .ref a_t1_under, .int t1_n, .int t1_holders, .int t1_cuts, .int t1_hour, .int t1_bears, .int t1_draw, .ref a_t1_this0])), (a_t1_kind, .inl (X.E 0, 8, .inl t1_kind)), (a_t1_strength, .inl (X.E 0, 8, .inl t1_strength)), (a_t1_place, .inl (X.E 0, 8, .inl t1_place)), (a_t1_length, .inl (X.E 0, 8, .inl t1_length)), (a_t1_gives, .inl (X.E 0, 8, .inl t1_gives))]) h hR 8 2 q610  rfl rfl g2 (fle rfl) (fle rfl) rfl dX6_takes_27 ?_
  refine g_aload_n h 1 dX6_takes_30 rfl rfl ?_
  refine g_get (ci := 6) (v := .ref a_t1_place) h in_X6 6 2 rfl rfl (fle rfl) rfl q553 rfl dX6_takes_31 ?_
  refine g_iconst (v := 0) h dX6_takes_34 kiconst_0 ?_
  refine g_aload_n h 0 dX6_takes_35 rfl rfl ?_
  refine g_get (ci := 6) (v := .ref a_place) h in_X6 0 2 rfl rfl (fle rfl) rfl q553 rfl dX6_takes_36 ?_
  refine g_iconst (v := 0) h dX6_takes_39 kiconst_0 ?_
  refine g_bipush (v := 8) h dX6_takes_40 kbipush_8 ?_
  obtain ⟨g3, hf⟩ := gn hf
  refine g_copyb (ws' := [(a, .inr (6, [.ref a_kind, .ref a_strength, .ref a_place, .ref a_length, .ref a_gives, .ref a_over, .ref a_under, .int n, .int holders, .int cuts, .int hour, .int bears, .int draw, .ref a_this0])), (a_kind, .inl (X.E 0, 8, .inl (va_cpy t1_kind kind 0 0 8))), (a_strength, .inl (X.E 0, 8, .inl (va_cpy t1_strength strength 0 0 8))), (a_place, .inl (X.E 0, 8, .inl (va_cpy t1_place place 0 0 8))), (a_length, .inl (X.E 0, 8, .inl length)), (a_gives, .inl (X.E 0, 8, .inl gives)), (a_t1, .inr (6, [.ref a_t1_kind, .ref a_t1_strength, .ref a_t1_place, .ref a_t1_length, .ref a_t1_gives, .ref a_t1_over, .ref a_t1_under, .int t1_n, .int t1_holders, .int t1_cuts, .int t1_hour, .int t1_bears, .int t1_draw, .ref a_t1_this0])), (a_t1_kind, .inl (X.E 0, 8, .inl t1_kind)), (a_t1_strength, .inl (X.E 0, 8, .inl t1_strength)), (a_t1_place, .inl (X.E 0, 8, .inl t1_place)), (a_t1_length, .inl (X.E 0, 8, .inl t1_length)), (a_t1_gives, .inl (X.E 0, 8, .inl t1_gives))]) h hR 9 3 q610  rfl rfl g3 (fle rfl) (fle rfl) rfl dX6_takes_42 ?_
  refine g_aload_n h 1 dX6_takes_45 rfl rfl ?_
  refine g_get (ci := 6) (v := .ref a_t1_length) h in_X6 6 3 rfl rfl (fle rfl) rfl q555 rfl dX6_takes_46 ?_
  refine g_iconst (v := 0) h dX6_takes_49 kiconst_0 ?_
  refine g_aload_n h 0 dX6_takes_50 rfl rfl ?_
  refine g_get (ci := 6) (v := .ref a_length) h in_X6 0 3 rfl rfl (fle rfl) rfl q555 rfl dX6_takes_51 ?_
  refine g_iconst (v := 0) h dX6_takes_54 kiconst_0 ?_
  refine g_bipush (v := 8) h dX6_takes_55 kbipush_8 ?_
  obtain ⟨g4, hf⟩ := gn hf
  refine g_copyb (ws' := [(a, .inr (6, [.ref a_kind, .ref a_strength, .ref a_place, .ref a_length, .ref a_gives, .ref a_over, .ref a_under, .int n, .int holders, .int cuts, .int hour, .int bears, .int draw, .ref a_this0])), (a_kind, .inl (X.E 0, 8, .inl (va_cpy t1_kind kind 0 0 8))), (a_strength, .inl (X.E 0, 8, .inl (va_cpy t1_strength strength 0 0 8))), (a_place, .inl (X.E 0, 8, .inl (va_cpy t1_place place 0 0 8))), (a_length, .inl (X.E 0, 8, .inl (va_cpy t1_length length 0 0 8))), (a_gives, .inl (X.E 0, 8, .inl gives)), (a_t1, .inr (6, [.ref a_t1_kind, .ref a_t1_strength, .ref a_t1_place, .ref a_t1_length, .ref a_t1_gives, .ref a_t1_over, .ref a_t1_under, .int t1_n, .int t1_holders, .int t1_cuts, .int t1_hour, .int t1_bears, .int t1_draw, .ref a_t1_this0])), (a_t1_kind, .inl (X.E 0, 8, .inl t1_kind)), (a_t1_strength, .inl (X.E 0, 8, .inl t1_strength)), (a_t1_place, .inl (X.E 0, 8, .inl t1_place)), (a_t1_length, .inl (X.E 0, 8, .inl t1_length)), (a_t1_gives, .inl (X.E 0, 8, .inl t1_gives))]) h hR 10 4 q610  rfl rfl g4 (fle rfl) (fle rfl) rfl dX6_takes_57 ?_
  refine g_aload_n h 1 dX6_takes_60 rfl rfl ?_
  refine g_get (ci := 6) (v := .ref a_t1_gives) h in_X6 6 4 rfl rfl (fle rfl) rfl q557 rfl dX6_takes_61 ?_
  refine g_iconst (v := 0) h dX6_takes_64 kiconst_0 ?_
  refine g_aload_n h 0 dX6_takes_65 rfl rfl ?_
  refine g_get (ci := 6) (v := .ref a_gives) h in_X6 0 4 rfl rfl (fle rfl) rfl q557 rfl dX6_takes_66 ?_
  refine g_iconst (v := 0) h dX6_takes_69 kiconst_0 ?_
  refine g_bipush (v := 8) h dX6_takes_70 kbipush_8 ?_
  obtain ⟨g5, hf⟩ := gn hf
  refine g_copyb (ws' := [(a, .inr (6, [.ref a_kind, .ref a_strength, .ref a_place, .ref a_length, .ref a_gives, .ref a_over, .ref a_under, .int n, .int holders, .int cuts, .int hour, .int bears, .int draw, .ref a_this0])), (a_kind, .inl (X.E 0, 8, .inl (va_cpy t1_kind kind 0 0 8))), (a_strength, .inl (X.E 0, 8, .inl (va_cpy t1_strength strength 0 0 8))), (a_place, .inl (X.E 0, 8, .inl (va_cpy t1_place place 0 0 8))), (a_length, .inl (X.E 0, 8, .inl (va_cpy t1_length length 0 0 8))), (a_gives, .inl (X.E 0, 8, .inl (va_cpy t1_gives gives 0 0 8))), (a_t1, .inr (6, [.ref a_t1_kind, .ref a_t1_strength, .ref a_t1_place, .ref a_t1_length, .ref a_t1_gives, .ref a_t1_over, .ref a_t1_under, .int t1_n, .int t1_holders, .int t1_cuts, .int t1_hour, .int t1_bears, .int t1_draw, .ref a_t1_this0])), (a_t1_kind, .inl (X.E 0, 8, .inl t1_kind)), (a_t1_strength, .inl (X.E 0, 8, .inl t1_strength)), (a_t1_place, .inl (X.E 0, 8, .inl t1_place)), (a_t1_length, .inl (X.E 0, 8, .inl t1_length)), (a_t1_gives, .inl (X.E 0, 8, .inl t1_gives))]) h hR 11 5 q610  rfl rfl g5 (fle rfl) (fle rfl) rfl dX6_takes_72 ?_
  refine g_aload_n h 0 dX6_takes_75 rfl rfl ?_
  refine g_aload_n h 1 dX6_takes_76 rfl rfl ?_
  refine g_get (ci := 6) (v := .int t1_n) h in_X6 6 7 rfl rfl (fle rfl) rfl q563 rfl dX6_takes_77 ?_
  refine g_put (ci := 6) (ty := tyX6 7) (ws' := [(a, .inr (6, [.ref a_kind, .ref a_strength, .ref a_place, .ref a_length, .ref a_gives, .ref a_over, .ref a_under, .int t1_n, .int holders, .int cuts, .int hour, .int bears, .int draw, .ref a_this0])), (a_kind, .inl (X.E 0, 8, .inl (va_cpy t1_kind kind 0 0 8))), (a_strength, .inl (X.E 0, 8, .inl (va_cpy t1_strength strength 0 0 8))), (a_place, .inl (X.E 0, 8, .inl (va_cpy t1_place place 0 0 8))), (a_length, .inl (X.E 0, 8, .inl (va_cpy t1_length length 0 0 8))), (a_gives, .inl (X.E 0, 8, .inl (va_cpy t1_gives gives 0 0 8))), (a_t1, .inr (6, [.ref a_t1_kind, .ref a_t1_strength, .ref a_t1_place, .ref a_t1_length, .ref a_t1_gives, .ref a_t1_over, .ref a_t1_under, .int t1_n, .int t1_holders, .int t1_cuts, .int t1_hour, .int t1_bears, .int t1_draw, .ref a_t1_this0])), (a_t1_kind, .inl (X.E 0, 8, .inl t1_kind)), (a_t1_strength, .inl (X.E 0, 8, .inl t1_strength)), (a_t1_place, .inl (X.E 0, 8, .inl t1_place)), (a_t1_length, .inl (X.E 0, 8, .inl t1_length)), (a_t1_gives, .inl (X.E 0, 8, .inl t1_gives))]) h in_X6 tyX6 tyX6_ok nmX6 0 7 rfl rfl (fle rfl) ⟨rfl, rfl⟩ q563 rfl rfl rfl (fle rfl) rfl dX6_takes_80 ?_
  refine g_aload_n h 0 dX6_takes_83 rfl rfl ?_
  refine g_aload_n h 1 dX6_takes_84 rfl rfl ?_
  refine g_get (ci := 6) (v := .int t1_holders) h in_X6 6 8 rfl rfl (fle rfl) rfl q565 rfl dX6_takes_85 ?_
  refine g_put (ci := 6) (ty := tyX6 8) (ws' := [(a, .inr (6, [.ref a_kind, .ref a_strength, .ref a_place, .ref a_length, .ref a_gives, .ref a_over, .ref a_under, .int t1_n, .int t1_holders, .int cuts, .int hour, .int bears, .int draw, .ref a_this0])), (a_kind, .inl (X.E 0, 8, .inl (va_cpy t1_kind kind 0 0 8))), (a_strength, .inl (X.E 0, 8, .inl (va_cpy t1_strength strength 0 0 8))), (a_place, .inl (X.E 0, 8, .inl (va_cpy t1_place place 0 0 8))), (a_length, .inl (X.E 0, 8, .inl (va_cpy t1_length length 0 0 8))), (a_gives, .inl (X.E 0, 8, .inl (va_cpy t1_gives gives 0 0 8))), (a_t1, .inr (6, [.ref a_t1_kind, .ref a_t1_strength, .ref a_t1_place, .ref a_t1_length, .ref a_t1_gives, .ref a_t1_over, .ref a_t1_under, .int t1_n, .int t1_holders, .int t1_cuts, .int t1_hour, .int t1_bears, .int t1_draw, .ref a_t1_this0])), (a_t1_kind, .inl (X.E 0, 8, .inl t1_kind)), (a_t1_strength, .inl (X.E 0, 8, .inl t1_strength)), (a_t1_place, .inl (X.E 0, 8, .inl t1_place)), (a_t1_length, .inl (X.E 0, 8, .inl t1_length)), (a_t1_gives, .inl (X.E 0, 8, .inl t1_gives))]) h in_X6 tyX6 tyX6_ok nmX6 0 8 rfl rfl (fle rfl) ⟨rfl, rfl⟩ q565 rfl rfl rfl (fle rfl) rfl dX6_takes_88 ?_
  refine g_aload_n h 0 dX6_takes_91 rfl rfl ?_
  refine g_aload_n h 1 dX6_takes_92 rfl rfl ?_
  refine g_get (ci := 6) (v := .int t1_cuts) h in_X6 6 9 rfl rfl (fle rfl) rfl q567 rfl dX6_takes_93 ?_
  refine g_put (ci := 6) (ty := tyX6 9) (ws' := [(a, .inr (6, [.ref a_kind, .ref a_strength, .ref a_place, .ref a_length, .ref a_gives, .ref a_over, .ref a_under, .int t1_n, .int t1_holders, .int t1_cuts, .int hour, .int bears, .int draw, .ref a_this0])), (a_kind, .inl (X.E 0, 8, .inl (va_cpy t1_kind kind 0 0 8))), (a_strength, .inl (X.E 0, 8, .inl (va_cpy t1_strength strength 0 0 8))), (a_place, .inl (X.E 0, 8, .inl (va_cpy t1_place place 0 0 8))), (a_length, .inl (X.E 0, 8, .inl (va_cpy t1_length length 0 0 8))), (a_gives, .inl (X.E 0, 8, .inl (va_cpy t1_gives gives 0 0 8))), (a_t1, .inr (6, [.ref a_t1_kind, .ref a_t1_strength, .ref a_t1_place, .ref a_t1_length, .ref a_t1_gives, .ref a_t1_over, .ref a_t1_under, .int t1_n, .int t1_holders, .int t1_cuts, .int t1_hour, .int t1_bears, .int t1_draw, .ref a_t1_this0])), (a_t1_kind, .inl (X.E 0, 8, .inl t1_kind)), (a_t1_strength, .inl (X.E 0, 8, .inl t1_strength)), (a_t1_place, .inl (X.E 0, 8, .inl t1_place)), (a_t1_length, .inl (X.E 0, 8, .inl t1_length)), (a_t1_gives, .inl (X.E 0, 8, .inl t1_gives))]) h in_X6 tyX6 tyX6_ok nmX6 0 9 rfl rfl (fle rfl) ⟨rfl, rfl⟩ q567 rfl rfl rfl (fle rfl) rfl dX6_takes_96 ?_
  refine g_aload_n h 0 dX6_takes_99 rfl rfl ?_
  refine g_aload_n h 1 dX6_takes_100 rfl rfl ?_
  refine g_get (ci := 6) (v := .int t1_hour) h in_X6 6 10 rfl rfl (fle rfl) rfl q569 rfl dX6_takes_101 ?_
  refine g_put (ci := 6) (ty := tyX6 10) (ws' := [(a, .inr (6, [.ref a_kind, .ref a_strength, .ref a_place, .ref a_length, .ref a_gives, .ref a_over, .ref a_under, .int t1_n, .int t1_holders, .int t1_cuts, .int t1_hour, .int bears, .int draw, .ref a_this0])), (a_kind, .inl (X.E 0, 8, .inl (va_cpy t1_kind kind 0 0 8))), (a_strength, .inl (X.E 0, 8, .inl (va_cpy t1_strength strength 0 0 8))), (a_place, .inl (X.E 0, 8, .inl (va_cpy t1_place place 0 0 8))), (a_length, .inl (X.E 0, 8, .inl (va_cpy t1_length length 0 0 8))), (a_gives, .inl (X.E 0, 8, .inl (va_cpy t1_gives gives 0 0 8))), (a_t1, .inr (6, [.ref a_t1_kind, .ref a_t1_strength, .ref a_t1_place, .ref a_t1_length, .ref a_t1_gives, .ref a_t1_over, .ref a_t1_under, .int t1_n, .int t1_holders, .int t1_cuts, .int t1_hour, .int t1_bears, .int t1_draw, .ref a_t1_this0])), (a_t1_kind, .inl (X.E 0, 8, .inl t1_kind)), (a_t1_strength, .inl (X.E 0, 8, .inl t1_strength)), (a_t1_place, .inl (X.E 0, 8, .inl t1_place)), (a_t1_length, .inl (X.E 0, 8, .inl t1_length)), (a_t1_gives, .inl (X.E 0, 8, .inl t1_gives))]) h in_X6 tyX6 tyX6_ok nmX6 0 10 rfl rfl (fle rfl) ⟨rfl, rfl⟩ q569 rfl rfl rfl (fle rfl) rfl dX6_takes_104 ?_
  refine g_aload_n h 0 dX6_takes_107 rfl rfl ?_
  refine g_aload_n h 1 dX6_takes_108 rfl rfl ?_
  refine g_get (ci := 6) (v := .int t1_bears) h in_X6 6 11 rfl rfl (fle rfl) rfl q571 rfl dX6_takes_109 ?_
  refine g_put (ci := 6) (ty := tyX6 11) (ws' := [(a, .inr (6, [.ref a_kind, .ref a_strength, .ref a_place, .ref a_length, .ref a_gives, .ref a_over, .ref a_under, .int t1_n, .int t1_holders, .int t1_cuts, .int t1_hour, .int t1_bears, .int draw, .ref a_this0])), (a_kind, .inl (X.E 0, 8, .inl (va_cpy t1_kind kind 0 0 8))), (a_strength, .inl (X.E 0, 8, .inl (va_cpy t1_strength strength 0 0 8))), (a_place, .inl (X.E 0, 8, .inl (va_cpy t1_place place 0 0 8))), (a_length, .inl (X.E 0, 8, .inl (va_cpy t1_length length 0 0 8))), (a_gives, .inl (X.E 0, 8, .inl (va_cpy t1_gives gives 0 0 8))), (a_t1, .inr (6, [.ref a_t1_kind, .ref a_t1_strength, .ref a_t1_place, .ref a_t1_length, .ref a_t1_gives, .ref a_t1_over, .ref a_t1_under, .int t1_n, .int t1_holders, .int t1_cuts, .int t1_hour, .int t1_bears, .int t1_draw, .ref a_t1_this0])), (a_t1_kind, .inl (X.E 0, 8, .inl t1_kind)), (a_t1_strength, .inl (X.E 0, 8, .inl t1_strength)), (a_t1_place, .inl (X.E 0, 8, .inl t1_place)), (a_t1_length, .inl (X.E 0, 8, .inl t1_length)), (a_t1_gives, .inl (X.E 0, 8, .inl t1_gives))]) h in_X6 tyX6 tyX6_ok nmX6 0 11 rfl rfl (fle rfl) ⟨rfl, rfl⟩ q571 rfl rfl rfl (fle rfl) rfl dX6_takes_112 ?_
  refine g_aload_n h 0 dX6_takes_115 rfl rfl ?_
  refine g_aload_n h 1 dX6_takes_116 rfl rfl ?_
  refine g_get (ci := 6) (v := .int t1_draw) h in_X6 6 12 rfl rfl (fle rfl) rfl q573 rfl dX6_takes_117 ?_
  refine g_put (ci := 6) (ty := tyX6 12) (ws' := [(a, .inr (6, [.ref a_kind, .ref a_strength, .ref a_place, .ref a_length, .ref a_gives, .ref a_over, .ref a_under, .int t1_n, .int t1_holders, .int t1_cuts, .int t1_hour, .int t1_bears, .int t1_draw, .ref a_this0])), (a_kind, .inl (X.E 0, 8, .inl (va_cpy t1_kind kind 0 0 8))), (a_strength, .inl (X.E 0, 8, .inl (va_cpy t1_strength strength 0 0 8))), (a_place, .inl (X.E 0, 8, .inl (va_cpy t1_place place 0 0 8))), (a_length, .inl (X.E 0, 8, .inl (va_cpy t1_length length 0 0 8))), (a_gives, .inl (X.E 0, 8, .inl (va_cpy t1_gives gives 0 0 8))), (a_t1, .inr (6, [.ref a_t1_kind, .ref a_t1_strength, .ref a_t1_place, .ref a_t1_length, .ref a_t1_gives, .ref a_t1_over, .ref a_t1_under, .int t1_n, .int t1_holders, .int t1_cuts, .int t1_hour, .int t1_bears, .int t1_draw, .ref a_t1_this0])), (a_t1_kind, .inl (X.E 0, 8, .inl t1_kind)), (a_t1_strength, .inl (X.E 0, 8, .inl t1_strength)), (a_t1_place, .inl (X.E 0, 8, .inl t1_place)), (a_t1_length, .inl (X.E 0, 8, .inl t1_length)), (a_t1_gives, .inl (X.E 0, 8, .inl t1_gives))]) h in_X6 tyX6 tyX6_ok nmX6 0 12 rfl rfl (fle rfl) ⟨rfl, rfl⟩ q573 rfl rfl rfl (fle rfl) rfl dX6_takes_120 ?_
  refine g_aload_n h 0 dX6_takes_123 rfl rfl ?_
  obtain ⟨rfl, rfl, rfl, rfl, rfl, rfl, rfl, rfl, rfl, rfl, rfl⟩ := sj11 hf
  exact g_aret h hF (Or.inl ⟨_, rfl⟩) (Or.inr ⟨_, rfl⟩) [0, 1, 2, 3, 4, 5, 6, 7, 8, 9, 10, 11] rfl rfl ⟨rfl, rfl⟩ (fle rfl) (fle rfl) dX6_takes_124
set_option maxHeartbeats 4000000 in
set_option maxRecDepth 100000 in
theorem ct_X9_cutDown {l : Launch} {D : va_G} {E : Ety} {a : Nat} {above : Int64} {below : Int64} {r_ : Int64} (hf : f_X9_cutDown above below = some r_) : Ct l yX9_cutDown cX9_cutDown 1 (some .long) 1 25 0 0 D E [.ref a] [(a, .inr (9, [.long above, .long below]))] (Pn (some (.long r_)) [(a, .inr (9, [.long above, .long below]))]) := by
  refine ct_of (own := RX9) (plainFor_of_name (by decide)) rfl (fle rfl) rfl ?_
  intro X hl hD hE hnL hXF h hR hF hnm
  subst hl; subst hD; subst hE
  have hL : ∀ i, i < 1 → i < X.nL := fun i hi => by rw [hnL]; exact hi
  unfold f_X9_cutDown at hf
  refine g_aload_n h 0 dX9_cutDown_0 rfl rfl ?_
  refine g_get (ci := 9) (v := .long above) h in_X9 0 0 rfl rfl (fle rfl) rfl q261 rfl dX9_cutDown_1 ?_
  refine g_aload_n h 0 dX9_cutDown_4 rfl rfl ?_
  refine g_get (ci := 9) (v := .long below) h in_X9 0 1 rfl rfl (fle rfl) rfl q262 rfl dX9_cutDown_5 ?_
  obtain ⟨r_1, hv, hf⟩ := ob1 hf
  refine g_callS (n := 2) (As := [.long above, .long below]) (st := []) (wr := [(a, .inr (9, [.long above, .long below]))]) (isC := []) (isR := [0]) h hR (ct_J2_floorDiv (x0 := above) (x2 := below) hv) (lw_S q701 q702 q81 q703) (by decide +kernel) rfl ⟨rfl, rfl, rfl, rfl, by decide⟩ ⟨fle rfl, fle rfl, fle rfl, fle rfl, fle rfl⟩ rfl dX9_cutDown_8 (pin (perm := [0]) (ws' := [(a, .inr (9, [.long above, .long below]))]) (stk := [.long r_1]) rfl rfl rfl ?_)
  clear hv
  obtain rfl := sj1 hf
  exact g_lret h hF [0] rfl rfl ⟨rfl, rfl⟩ (fle rfl) (fle rfl) dX9_cutDown_11
set_option maxHeartbeats 4000000 in
set_option maxRecDepth 100000 in
theorem ct_X0_takesHoldWhereHeIs {l : Launch} {D : va_G} {E : Ety} {a_t0 a_t0_kind a_t0_strength a_t0_place a_t0_length a_t0_gives a_t0_over a_t0_under a_t0_this0 : Nat} {x1 : Int32} {t0_n : Int32} {t0_holders : Int32} {t0_cuts : Int32} {t0_hour : Int32} {t0_bears : Int32} {t0_draw : Int32} {t0_place : Nat → Int32} {t0_length : Nat → Int32} {t0_gives : Nat → Int32} {t0_over : Nat → Int32} {t0_under : Nat → Int32} {o_t0_holders : Int32} {o_t0_place : Nat → Int32} {o_t0_over : Nat → Int32} {o_t0_under : Nat → Int32} (hf : f_X0_takesHoldWhereHeIs x1 t0_n t0_holders t0_cuts t0_place t0_length t0_gives t0_over t0_under = some (o_t0_holders, o_t0_place, o_t0_over, o_t0_under)) : Ct l yX0_takesHoldWhereHeIs cX0_takesHoldWhereHeIs 2 none 4 104 3 6 D E [.ref a_t0, .int x1] [(a_t0, .inr (6, [.ref a_t0_kind, .ref a_t0_strength, .ref a_t0_place, .ref a_t0_length, .ref a_t0_gives, .ref a_t0_over, .ref a_t0_under, .int t0_n, .int t0_holders, .int t0_cuts, .int t0_hour, .int t0_bears, .int t0_draw, .ref a_t0_this0])), (a_t0_place, .inl (E 0, 8, .inl t0_place)), (a_t0_length, .inl (E 0, 8, .inl t0_length)), (a_t0_gives, .inl (E 0, 8, .inl t0_gives)), (a_t0_over, .inl (E 1, 8, .inl t0_over)), (a_t0_under, .inl (E 1, 8, .inl t0_under))] (Pn none [(a_t0, .inr (6, [.ref a_t0_kind, .ref a_t0_strength, .ref a_t0_place, .ref a_t0_length, .ref a_t0_gives, .ref a_t0_over, .ref a_t0_under, .int t0_n, .int o_t0_holders, .int t0_cuts, .int t0_hour, .int t0_bears, .int t0_draw, .ref a_t0_this0])), (a_t0_place, .inl (E 0, 8, .inl o_t0_place)), (a_t0_length, .inl (E 0, 8, .inl t0_length)), (a_t0_gives, .inl (E 0, 8, .inl t0_gives)), (a_t0_over, .inl (E 1, 8, .inl o_t0_over)), (a_t0_under, .inl (E 1, 8, .inl o_t0_under))]) := by
  refine ct_of (own := RX0) (plainFor_of_name (by decide)) rfl (fle rfl) rfl ?_
  intro X hl hD hE hnL hXF h hR hF hnm
  subst hl; subst hD; subst hE
  have hL : ∀ i, i < 2 → i < X.nL := fun i hi => by rw [hnL]; exact hi
  unfold f_X0_takesHoldWhereHeIs at hf
  refine g_aload_n h 0 dX0_takesHoldWhereHeIs_0 rfl rfl ?_
  refine g_iload_n h 1 dX0_takesHoldWhereHeIs_1 rfl rfl ?_
  refine g_lconst (v := 0) h dX0_takesHoldWhereHeIs_2 rfl ?_
  refine g_ldc2 h q111 dX0_takesHoldWhereHeIs_3 ?_
  refine g_aload_n h 0 dX0_takesHoldWhereHeIs_6 rfl rfl ?_
  obtain ⟨t0_over_1, t0_under_2, hv, hf⟩ := ob2 hf
  refine g_callV (ci := 6) (q0 := 0) (n := 0) (As := []) (st := [.long 99, .long 0, .int x1, .ref a_t0]) (wr := []) (isC := [0, 1, 2, 3, 4, 5]) (isR := []) h hR (ct_X6_measured (a := a_t0) (a_kind := a_t0_kind) (a_strength := a_t0_strength) (a_place := a_t0_place) (a_length := a_t0_length) (a_gives := a_t0_gives) (a_over := a_t0_over) (a_under := a_t0_under) (a_this0 := a_t0_this0) (n := t0_n) (holders := t0_holders) (cuts := t0_cuts) (hour := t0_hour) (bears := t0_bears) (draw := t0_draw) (place := t0_place) (length := t0_length) (gives := t0_gives) (over := t0_over) (under := t0_under) hv) rfl rfl (lw_V q134 q135 q136 q76 q137) (by decide +kernel) rfl ⟨rfl, rfl, rfl, rfl, by decide⟩ ⟨fle rfl, fle rfl, fle rfl, fle rfl, fle rfl⟩ rfl dX0_takesHoldWhereHeIs_7 (pin (perm := [0, 1, 2, 3, 4, 5]) (ws' := [(a_t0, .inr (6, [.ref a_t0_kind, .ref a_t0_strength, .ref a_t0_place, .ref a_t0_length, .ref a_t0_gives, .ref a_t0_over, .ref a_t0_under, .int t0_n, .int t0_holders, .int t0_cuts, .int t0_hour, .int t0_bears, .int t0_draw, .ref a_t0_this0])), (a_t0_place, .inl (X.E 0, 8, .inl t0_place)), (a_t0_length, .inl (X.E 0, 8, .inl t0_length)), (a_t0_gives, .inl (X.E 0, 8, .inl t0_gives)), (a_t0_over, .inl (X.E 1, 8, .inl t0_over_1)), (a_t0_under, .inl (X.E 1, 8, .inl t0_under_2))]) (stk := [.ref a_t0, .long 99, .long 0, .int x1, .ref a_t0]) rfl rfl rfl ?_)
  clear hv
  refine g_iload_n h 1 dX0_takesHoldWhereHeIs_10 rfl rfl ?_
  obtain ⟨r_3, r_4, hv, hf⟩ := ob2 hf
  refine g_callV (ci := 6) (q0 := 0) (n := 1) (As := [.int x1]) (st := [.long 99, .long 0, .int x1, .ref a_t0]) (wr := []) (isC := [0, 1, 2, 3, 4, 5]) (isR := []) h hR (ct_X6_placeOf (a := a_t0) (a_kind := a_t0_kind) (a_strength := a_t0_strength) (a_place := a_t0_place) (a_length := a_t0_length) (a_gives := a_t0_gives) (a_over := a_t0_over) (a_under := a_t0_under) (a_this0 := a_t0_this0) (x1 := x1) (n := t0_n) (holders := t0_holders) (cuts := t0_cuts) (hour := t0_hour) (bears := t0_bears) (draw := t0_draw) (place := t0_place) (length := t0_length) (gives := t0_gives) (over := t0_over_1) (under := t0_under_2) hv) rfl rfl (lw_V q242 q243 q244 q76 q245) (by decide +kernel) rfl ⟨rfl, rfl, rfl, rfl, by decide⟩ ⟨fle rfl, fle rfl, fle rfl, fle rfl, fle rfl⟩ rfl dX0_takesHoldWhereHeIs_11 (pinr (fun q5 => G.sub (ws' := [(a_t0, .inr (6, [.ref a_t0_kind, .ref a_t0_strength, .ref a_t0_place, .ref a_t0_length, .ref a_t0_gives, .ref a_t0_over, .ref a_t0_under, .int t0_n, .int t0_holders, .int t0_cuts, .int t0_hour, .int t0_bears, .int t0_draw, .ref a_t0_this0])), (a_t0_place, .inl (X.E 0, 8, .inl t0_place)), (a_t0_length, .inl (X.E 0, 8, .inl t0_length)), (a_t0_gives, .inl (X.E 0, 8, .inl t0_gives)), (a_t0_over, .inl (X.E 1, 8, .inl t0_over_1)), (a_t0_under, .inl (X.E 1, 8, .inl t0_under_2)), (q5, .inr (9, [.long r_3, .long r_4]))]) [0, 1, 2, 3, 4, 5, 6] rfl rfl ?_))
  clear hv
  obtain ⟨r_6, hv, hf⟩ := ob1 hf
  refine g_callV (ci := 9) (q0 := 6) (n := 0) (As := []) (st := [.long 99, .long 0, .int x1, .ref a_t0]) (wr := [(a_t0, .inr (6, [.ref a_t0_kind, .ref a_t0_strength, .ref a_t0_place, .ref a_t0_length, .ref a_t0_gives, .ref a_t0_over, .ref a_t0_under, .int t0_n, .int t0_holders, .int t0_cuts, .int t0_hour, .int t0_bears, .int t0_draw, .ref a_t0_this0])), (a_t0_place, .inl (X.E 0, 8, .inl t0_place)), (a_t0_length, .inl (X.E 0, 8, .inl t0_length)), (a_t0_gives, .inl (X.E 0, 8, .inl t0_gives)), (a_t0_over, .inl (X.E 1, 8, .inl t0_over_1)), (a_t0_under, .inl (X.E 1, 8, .inl t0_under_2))]) (isC := [6]) (isR := [0, 1, 2, 3, 4, 5]) h hR (ct_X9_cutDown (a := q5) (above := r_3) (below := r_4) hv) rfl rfl (lw_V q697 q698 q699 q82 q700) (by decide +kernel) rfl ⟨rfl, rfl, rfl, rfl, by decide⟩ ⟨fle rfl, fle rfl, fle rfl, fle rfl, fle rfl⟩ rfl dX0_takesHoldWhereHeIs_14 (pin (perm := [0, 1, 2, 3, 4, 5, 6]) (ws' := [(a_t0, .inr (6, [.ref a_t0_kind, .ref a_t0_strength, .ref a_t0_place, .ref a_t0_length, .ref a_t0_gives, .ref a_t0_over, .ref a_t0_under, .int t0_n, .int t0_holders, .int t0_cuts, .int t0_hour, .int t0_bears, .int t0_draw, .ref a_t0_this0])), (a_t0_place, .inl (X.E 0, 8, .inl t0_place)), (a_t0_length, .inl (X.E 0, 8, .inl t0_length)), (a_t0_gives, .inl (X.E 0, 8, .inl t0_gives)), (a_t0_over, .inl (X.E 1, 8, .inl t0_over_1)), (a_t0_under, .inl (X.E 1, 8, .inl t0_under_2)), (q5, .inr (9, [.long r_3, .long r_4]))]) (stk := [.long r_6, .long 99, .long 0, .int x1, .ref a_t0]) rfl rfl rfl ?_)
  clear hv
  obtain ⟨r_7, hv, hf⟩ := ob1 hf
  refine g_callS (n := 2) (As := [.long 99, .long r_6]) (st := [.long 0, .int x1, .ref a_t0]) (wr := [(a_t0, .inr (6, [.ref a_t0_kind, .ref a_t0_strength, .ref a_t0_place, .ref a_t0_length, .ref a_t0_gives, .ref a_t0_over, .ref a_t0_under, .int t0_n, .int t0_holders, .int t0_cuts, .int t0_hour, .int t0_bears, .int t0_draw, .ref a_t0_this0])), (a_t0_place, .inl (X.E 0, 8, .inl t0_place)), (a_t0_length, .inl (X.E 0, 8, .inl t0_length)), (a_t0_gives, .inl (X.E 0, 8, .inl t0_gives)), (a_t0_over, .inl (X.E 1, 8, .inl t0_over_1)), (a_t0_under, .inl (X.E 1, 8, .inl t0_under_2)), (q5, .inr (9, [.long r_3, .long r_4]))]) (isC := []) (isR := [0, 1, 2, 3, 4, 5, 6]) h hR (ct_J2_min_2 (x0 := 99) (x2 := r_6) hv) (lw_S q704 q705 q81 q706) (by decide +kernel) rfl ⟨rfl, rfl, rfl, rfl, by decide⟩ ⟨fle rfl, fle rfl, fle rfl, fle rfl, fle rfl⟩ rfl dX0_takesHoldWhereHeIs_17 (pin (perm := [0, 1, 2, 3, 4, 5, 6]) (ws' := [(a_t0, .inr (6, [.ref a_t0_kind, .ref a_t0_strength, .ref a_t0_place, .ref a_t0_length, .ref a_t0_gives, .ref a_t0_over, .ref a_t0_under, .int t0_n, .int t0_holders, .int t0_cuts, .int t0_hour, .int t0_bears, .int t0_draw, .ref a_t0_this0])), (a_t0_place, .inl (X.E 0, 8, .inl t0_place)), (a_t0_length, .inl (X.E 0, 8, .inl t0_length)), (a_t0_gives, .inl (X.E 0, 8, .inl t0_gives)), (a_t0_over, .inl (X.E 1, 8, .inl t0_over_1)), (a_t0_under, .inl (X.E 1, 8, .inl t0_under_2)), (q5, .inr (9, [.long r_3, .long r_4]))]) (stk := [.long r_7, .long 0, .int x1, .ref a_t0]) rfl rfl rfl ?_)
  clear hv
  obtain ⟨r_8, hv, hf⟩ := ob1 hf
  refine g_callS (n := 2) (As := [.long 0, .long r_7]) (st := [.int x1, .ref a_t0]) (wr := [(a_t0, .inr (6, [.ref a_t0_kind, .ref a_t0_strength, .ref a_t0_place, .ref a_t0_length, .ref a_t0_gives, .ref a_t0_over, .ref a_t0_under, .int t0_n, .int t0_holders, .int t0_cuts, .int t0_hour, .int t0_bears, .int t0_draw, .ref a_t0_this0])), (a_t0_place, .inl (X.E 0, 8, .inl t0_place)), (a_t0_length, .inl (X.E 0, 8, .inl t0_length)), (a_t0_gives, .inl (X.E 0, 8, .inl t0_gives)), (a_t0_over, .inl (X.E 1, 8, .inl t0_over_1)), (a_t0_under, .inl (X.E 1, 8, .inl t0_under_2)), (q5, .inr (9, [.long r_3, .long r_4]))]) (isC := []) (isR := [0, 1, 2, 3, 4, 5, 6]) h hR (ct_J2_max_2 (x0 := 0) (x2 := r_7) hv) (lw_S q707 q708 q81 q709) (by decide +kernel) rfl ⟨rfl, rfl, rfl, rfl, by decide⟩ ⟨fle rfl, fle rfl, fle rfl, fle rfl, fle rfl⟩ rfl dX0_takesHoldWhereHeIs_20 (pin (perm := [0, 1, 2, 3, 4, 5, 6]) (ws' := [(a_t0, .inr (6, [.ref a_t0_kind, .ref a_t0_strength, .ref a_t0_place, .ref a_t0_length, .ref a_t0_gives, .ref a_t0_over, .ref a_t0_under, .int t0_n, .int t0_holders, .int t0_cuts, .int t0_hour, .int t0_bears, .int t0_draw, .ref a_t0_this0])), (a_t0_place, .inl (X.E 0, 8, .inl t0_place)), (a_t0_length, .inl (X.E 0, 8, .inl t0_length)), (a_t0_gives, .inl (X.E 0, 8, .inl t0_gives)), (a_t0_over, .inl (X.E 1, 8, .inl t0_over_1)), (a_t0_under, .inl (X.E 1, 8, .inl t0_under_2)), (q5, .inr (9, [.long r_3, .long r_4]))]) (stk := [.long r_8, .int x1, .ref a_t0]) rfl rfl rfl ?_)
  clear hv
  obtain ⟨t0_holders_9, t0_place_10, hv, hf⟩ := ob2 hf
  refine g_callV (ci := 6) (q0 := 0) (n := 2) (As := [.int x1, .long r_8]) (st := []) (wr := [(a_t0_length, .inl (X.E 0, 8, .inl t0_length)), (a_t0_gives, .inl (X.E 0, 8, .inl t0_gives)), (a_t0_over, .inl (X.E 1, 8, .inl t0_over_1)), (a_t0_under, .inl (X.E 1, 8, .inl t0_under_2)), (q5, .inr (9, [.long r_3, .long r_4]))]) (isC := [0, 1]) (isR := [2, 3, 4, 5, 6]) h hR (ct_X6_takesHold (a := a_t0) (a_kind := a_t0_kind) (a_strength := a_t0_strength) (a_place := a_t0_place) (a_length := a_t0_length) (a_gives := a_t0_gives) (a_over := a_t0_over) (a_under := a_t0_under) (a_this0 := a_t0_this0) (x1 := x1) (x2 := r_8) (n := t0_n) (holders := t0_holders) (cuts := t0_cuts) (hour := t0_hour) (bears := t0_bears) (draw := t0_draw) (place := t0_place) hv) rfl rfl (lw_V q119 q120 q121 q76 q122) (by decide +kernel) rfl ⟨rfl, rfl, rfl, rfl, by decide⟩ ⟨fle rfl, fle rfl, fle rfl, fle rfl, fle rfl⟩ rfl dX0_takesHoldWhereHeIs_23 (pin (perm := [5, 6, 0, 1, 2, 3, 4]) (ws' := [(a_t0, .inr (6, [.ref a_t0_kind, .ref a_t0_strength, .ref a_t0_place, .ref a_t0_length, .ref a_t0_gives, .ref a_t0_over, .ref a_t0_under, .int t0_n, .int t0_holders_9, .int t0_cuts, .int t0_hour, .int t0_bears, .int t0_draw, .ref a_t0_this0])), (a_t0_place, .inl (X.E 0, 8, .inl t0_place_10)), (a_t0_length, .inl (X.E 0, 8, .inl t0_length)), (a_t0_gives, .inl (X.E 0, 8, .inl t0_gives)), (a_t0_over, .inl (X.E 1, 8, .inl t0_over_1)), (a_t0_under, .inl (X.E 1, 8, .inl t0_under_2)), (q5, .inr (9, [.long r_3, .long r_4]))]) (stk := []) rfl rfl rfl ?_)
  clear hv
  obtain ⟨rfl, rfl, rfl, rfl⟩ := sj4 hf
  exact g_vret h hF [0, 1, 2, 3, 4, 5] rfl rfl ⟨rfl, rfl⟩ (fle rfl) (fle rfl) dX0_takesHoldWhereHeIs_26
set_option maxHeartbeats 4000000 in
set_option maxRecDepth 100000 in
theorem ct_X0_passes {l : Launch} {D : va_G} {E : Ety} {a_t0 a_t0_kind a_t0_strength a_t0_place a_t0_length a_t0_gives a_t0_over a_t0_under a_t0_this0 : Nat} {t0_n : Int32} {t0_holders : Int32} {t0_cuts : Int32} {t0_hour : Int32} {t0_bears : Int32} {t0_draw : Int32} {o_t0_hour : Int32} (hf : f_X0_passes t0_hour = some o_t0_hour) : Ct l yX0_passes cX0_passes 1 none 0 0 0 0 D E [.ref a_t0] [(a_t0, .inr (6, [.ref a_t0_kind, .ref a_t0_strength, .ref a_t0_place, .ref a_t0_length, .ref a_t0_gives, .ref a_t0_over, .ref a_t0_under, .int t0_n, .int t0_holders, .int t0_cuts, .int t0_hour, .int t0_bears, .int t0_draw, .ref a_t0_this0]))] (Pn none [(a_t0, .inr (6, [.ref a_t0_kind, .ref a_t0_strength, .ref a_t0_place, .ref a_t0_length, .ref a_t0_gives, .ref a_t0_over, .ref a_t0_under, .int t0_n, .int t0_holders, .int t0_cuts, .int o_t0_hour, .int t0_bears, .int t0_draw, .ref a_t0_this0]))]) := by
  refine ct_of (own := RX0) (plainFor_of_name (by decide)) rfl (fle rfl) rfl ?_
  intro X hl hD hE hnL hXF h hR hF hnm
  subst hl; subst hD; subst hE
  have hL : ∀ i, i < 1 → i < X.nL := fun i hi => by rw [hnL]; exact hi
  unfold f_X0_passes at hf
  refine g_aload_n h 0 dX0_passes_0 rfl rfl ?_
  refine g_aload_n h 0 dX0_passes_1 rfl rfl ?_
  refine g_getN (ci := 6) (v := .int t0_hour) h in_X6 0 10 rfl rfl (fle rfl) rfl q570 rfl dX0_passes_2 ?_
  refine g_iconst (v := 1) h dX0_passes_5 kiconst_1 ?_
  refine g_iadd h dX0_passes_6 ?_
  refine g_bipush (v := 24) h dX0_passes_7 kbipush_24 ?_
  refine g_irem h dX0_passes_9 (by decide) ?_
  refine g_putN (ci := 6) (ty := tyX6 10) (ws' := [(a_t0, .inr (6, [.ref a_t0_kind, .ref a_t0_strength, .ref a_t0_place, .ref a_t0_length, .ref a_t0_gives, .ref a_t0_over, .ref a_t0_under, .int t0_n, .int t0_holders, .int t0_cuts, .int ((t0_hour + 1) - (t0_hour + 1) / 24 * 24), .int t0_bears, .int t0_draw, .ref a_t0_this0]))]) h in_X6 tyX6 tyX6_ok nmX6 0 10 rfl rfl (fle rfl) ⟨rfl, rfl⟩ q570 rfl rfl rfl (fle rfl) rfl dX0_passes_10 ?_
  obtain rfl := sj1 hf
  exact g_vret h hF [0] rfl rfl ⟨rfl, rfl⟩ (fle rfl) (fle rfl) dX0_passes_13
set_option maxHeartbeats 4000000 in
set_option maxRecDepth 100000 in
theorem ct_X0_springs_2 {l : Launch} {D : va_G} {E : Ety} {a a_kinds a_town a_tried a_fell a_tape a_read a_undos a_kept a_keptUndos a_sheets a_taken a_kinds_0 a_kinds_1 a_kinds_2 a_kinds_3 a_kinds_4 a_town_kind a_town_strength a_town_place a_town_length a_town_gives a_town_over a_town_under : Nat} {falls : Int32} {tears : Int32} {typed : Int32} {place : Int32} {isKept : Int32} {town_n : Int32} {town_holders : Int32} {town_cuts : Int32} {town_hour : Int32} {town_bears : Int32} {town_draw : Int32} {town_kind : Nat → Int32} {town_strength : Nat → Int32} {town_place : Nat → Int32} {town_length : Nat → Int32} {town_gives : Nat → Int32} {town_over : Nat → Int32} {town_under : Nat → Int32} {fell : Nat → Int32} {o_falls : Int32} {o_tears : Int32} {o_town_holders : Int32} {o_town_cuts : Int32} {o_town_draw : Int32} {o_town_place : Nat → Int32} {o_town_over : Nat → Int32} {o_town_under : Nat → Int32} {o_fell : Nat → Int32} (hf : f_X0_springs_2 falls tears town_n town_holders town_cuts town_hour town_bears town_draw town_kind town_strength town_place town_length town_gives town_over town_under fell = some (o_falls, o_tears, o_town_holders, o_town_cuts, o_town_draw, o_town_place, o_town_over, o_town_under, o_fell)) : Ct l yX0_springs_2 cX0_springs_2 3 none 6 138 3 6 D E [.ref a] [(a, .inr (0, [.ref a_kinds, .ref a_town, .ref a_tried, .ref a_fell, .int falls, .int tears, .ref a_tape, .int typed, .int place, .ref a_read, .ref a_undos, .ref a_kept, .ref a_keptUndos, .int isKept, .ref a_sheets, .ref a_taken])), (a_kinds, .inl (E 5, 5, .inr (.inr (.inr (.inr (kq a_kinds_0 a_kinds_1 a_kinds_2 a_kinds_3 a_kinds_4)))))), (a_kinds_0, .inr (1, [])), (a_kinds_1, .inr (2, [])), (a_kinds_2, .inr (3, [])), (a_kinds_3, .inr (4, [])), (a_kinds_4, .inr (5, [])), (a_town, .inr (6, [.ref a_town_kind, .ref a_town_strength, .ref a_town_place, .ref a_town_length, .ref a_town_gives, .ref a_town_over, .ref a_town_under, .int town_n, .int town_holders, .int town_cuts, .int town_hour, .int town_bears, .int town_draw, .ref a])), (a_town_kind, .inl (E 0, 8, .inl town_kind)), (a_town_strength, .inl (E 0, 8, .inl town_strength)), (a_town_place, .inl (E 0, 8, .inl town_place)), (a_town_length, .inl (E 0, 8, .inl town_length)), (a_town_gives, .inl (E 0, 8, .inl town_gives)), (a_town_over, .inl (E 1, 8, .inl town_over)), (a_town_under, .inl (E 1, 8, .inl town_under)), (a_fell, .inl (E 1, 8, .inl fell))] (Pn none [(a, .inr (0, [.ref a_kinds, .ref a_town, .ref a_tried, .ref a_fell, .int o_falls, .int o_tears, .ref a_tape, .int typed, .int place, .ref a_read, .ref a_undos, .ref a_kept, .ref a_keptUndos, .int isKept, .ref a_sheets, .ref a_taken])), (a_kinds, .inl (E 5, 5, .inr (.inr (.inr (.inr (kq a_kinds_0 a_kinds_1 a_kinds_2 a_kinds_3 a_kinds_4)))))), (a_kinds_0, .inr (1, [])), (a_kinds_1, .inr (2, [])), (a_kinds_2, .inr (3, [])), (a_kinds_3, .inr (4, [])), (a_kinds_4, .inr (5, [])), (a_town, .inr (6, [.ref a_town_kind, .ref a_town_strength, .ref a_town_place, .ref a_town_length, .ref a_town_gives, .ref a_town_over, .ref a_town_under, .int town_n, .int o_town_holders, .int o_town_cuts, .int town_hour, .int town_bears, .int o_town_draw, .ref a])), (a_town_kind, .inl (E 0, 8, .inl town_kind)), (a_town_strength, .inl (E 0, 8, .inl town_strength)), (a_town_place, .inl (E 0, 8, .inl o_town_place)), (a_town_length, .inl (E 0, 8, .inl town_length)), (a_town_gives, .inl (E 0, 8, .inl town_gives)), (a_town_over, .inl (E 1, 8, .inl o_town_over)), (a_town_under, .inl (E 1, 8, .inl o_town_under)), (a_fell, .inl (E 1, 8, .inl o_fell))]) := by
  refine ct_of (own := RX0) (plainFor_of_name (by decide)) rfl (fle rfl) rfl ?_
  intro X hl hD hE hnL hXF h hR hF hnm
  subst hl; subst hD; subst hE
  have hL : ∀ i, i < 3 → i < X.nL := fun i hi => by rw [hnL]; exact hi
  unfold f_X0_springs_2 at hf
  refine g_aload_n h 0 dX0_springs_2_0 rfl rfl ?_
  refine g_get (ci := 0) (v := .ref a_town) h in_X0 0 1 rfl rfl (fle rfl) rfl q1112 rfl dX0_springs_2_1 ?_
  refine g_aload_n h 0 dX0_springs_2_4 rfl rfl ?_
  refine g_get (ci := 0) (v := .ref a_town) h in_X0 0 1 rfl rfl (fle rfl) rfl q1112 rfl dX0_springs_2_5 ?_
  refine g_getN (ci := 6) (v := .int town_draw) h in_X6 7 12 rfl rfl (fle rfl) rfl q574 rfl dX0_springs_2_8 ?_
  refine g_ldc h q736 dX0_springs_2_11 ?_
  refine g_imul h dX0_springs_2_13 ?_
  refine g_sipush (v := 12345) h dX0_springs_2_14 ksipush_12345 ?_
  refine g_iadd h dX0_springs_2_17 ?_
  refine g_ldc h q737 dX0_springs_2_18 ?_
  refine g_iand h dX0_springs_2_20 ?_
  refine g_putN (ci := 6) (ty := tyX6 12) (ws' := [(a, .inr (0, [.ref a_kinds, .ref a_town, .ref a_tried, .ref a_fell, .int falls, .int tears, .ref a_tape, .int typed, .int place, .ref a_read, .ref a_undos, .ref a_kept, .ref a_keptUndos, .int isKept, .ref a_sheets, .ref a_taken])), (a_kinds, .inl (X.E 5, 5, .inr (.inr (.inr (.inr (kq a_kinds_0 a_kinds_1 a_kinds_2 a_kinds_3 a_kinds_4)))))), (a_kinds_0, .inr (1, [])), (a_kinds_1, .inr (2, [])), (a_kinds_2, .inr (3, [])), (a_kinds_3, .inr (4, [])), (a_kinds_4, .inr (5, [])), (a_town, .inr (6, [.ref a_town_kind, .ref a_town_strength, .ref a_town_place, .ref a_town_length, .ref a_town_gives, .ref a_town_over, .ref a_town_under, .int town_n, .int town_holders, .int town_cuts, .int town_hour, .int town_bears, .int (((town_draw * 1103515245) + 12345) &&& 2147483647), .ref a])), (a_town_kind, .inl (X.E 0, 8, .inl town_kind)), (a_town_strength, .inl (X.E 0, 8, .inl town_strength)), (a_town_place, .inl (X.E 0, 8, .inl town_place)), (a_town_length, .inl (X.E 0, 8, .inl town_length)), (a_town_gives, .inl (X.E 0, 8, .inl town_gives)), (a_town_over, .inl (X.E 1, 8, .inl town_over)), (a_town_under, .inl (X.E 1, 8, .inl town_under)), (a_fell, .inl (X.E 1, 8, .inl fell))]) h in_X6 tyX6 tyX6_ok nmX6 7 12 rfl rfl (fle rfl) ⟨rfl, rfl⟩ q574 rfl rfl rfl (fle rfl) rfl dX0_springs_2_21 ?_
  refine g_aload_n h 0 dX0_springs_2_24 rfl rfl ?_
  refine g_get (ci := 0) (v := .ref a_town) h in_X0 0 1 rfl rfl (fle rfl) rfl q1112 rfl dX0_springs_2_25 ?_
  refine g_getN (ci := 6) (v := .int town_n) h in_X6 7 7 rfl rfl (fle rfl) rfl q564 rfl dX0_springs_2_28 ?_
  refine g_if_ne (tgt := 35) h dX0_springs_2_31 rfl hf (fun c1 hf => ?_) (fun c1 hf => ?_)
  · obtain ⟨rfl, rfl, rfl, rfl, rfl, rfl, rfl, rfl, rfl⟩ := sj9 hf
    exact g_vret h hF [0, 1, 2, 3, 4, 5, 6, 7, 8, 9, 10, 11, 12, 13, 14, 15] rfl rfl ⟨rfl, rfl⟩ (fle rfl) (fle rfl) dX0_springs_2_34
  · refine g_aload_n h 0 dX0_springs_2_35 rfl rfl ?_
    refine g_get (ci := 0) (v := .ref a_town) h in_X0 0 1 rfl rfl (fle rfl) rfl q1112 rfl dX0_springs_2_36 ?_
    refine g_getN (ci := 6) (v := .int (((town_draw * 1103515245) + 12345) &&& 2147483647)) h in_X6 7 12 rfl rfl (fle rfl) rfl q574 rfl dX0_springs_2_39 ?_
    refine g_ldcw h q738 dX0_springs_2_42 ?_
    refine g_idiv h dX0_springs_2_45 (by decide) ?_
    refine g_aload_n h 0 dX0_springs_2_46 rfl rfl ?_
    refine g_get (ci := 0) (v := .ref a_town) h in_X0 0 1 rfl rfl (fle rfl) rfl q1112 rfl dX0_springs_2_47 ?_
    refine g_getN (ci := 6) (v := .int town_n) h in_X6 7 7 rfl rfl (fle rfl) rfl q564 rfl dX0_springs_2_50 ?_
    refine g_irem h dX0_springs_2_53 c1 ?_
    refine nm_i (fun y_2 ey_2 => ?_)
    have hf := nm_at hf y_2 ey_2
    refine g_istore_n (lv' := [(1, .int y_2), (0, .ref a)]) h dX0_springs_2_54 rfl (hL 1 (fle rfl)) rfl ?_
    refine g_aload_n h 1 dX0_springs_2_55 rfl rfl ?_
    refine g_get (ci := 0) (v := .ref a_town) h in_X0 0 1 rfl rfl (fle rfl) rfl q1112 rfl dX0_springs_2_56 ?_
    refine g_getN (ci := 6) (v := .ref a_town_place) h in_X6 7 2 rfl rfl (fle rfl) rfl q554 rfl dX0_springs_2_59 ?_
    refine g_iload_n h 0 dX0_springs_2_62 rfl rfl ?_
    obtain ⟨g3, hf⟩ := gn hf
    refine g_baload h 10 rfl g3 dX0_springs_2_63 ?_
    refine g_aload_n h 1 dX0_springs_2_64 rfl rfl ?_
    refine g_get (ci := 0) (v := .ref a_town) h in_X0 0 1 rfl rfl (fle rfl) rfl q1112 rfl dX0_springs_2_65 ?_
    refine g_getN (ci := 6) (v := .int (((town_draw * 1103515245) + 12345) &&& 2147483647)) h in_X6 7 12 rfl rfl (fle rfl) rfl q574 rfl dX0_springs_2_68 ?_
    refine g_bipush (v := 9) h dX0_springs_2_71 kbipush_9 ?_
    refine g_ishr h dX0_springs_2_73 ?_
    refine g_iconst (v := 1) h dX0_springs_2_74 kiconst_1 ?_
    refine g_iand h dX0_springs_2_75 ?_
    refine g_iconst (v := 1) h dX0_springs_2_76 kiconst_1 ?_
    obtain ⟨z_5, hw, hf⟩ := ob1 hf
    have K77 : G X [(a, .inr (0, [.ref a_kinds, .ref a_town, .ref a_tried, .ref a_fell, .int falls, .int tears, .ref a_tape, .int typed, .int place, .ref a_read, .ref a_undos, .ref a_kept, .ref a_keptUndos, .int isKept, .ref a_sheets, .ref a_taken])), (a_kinds, .inl (X.E 5, 5, .inr (.inr (.inr (.inr (kq a_kinds_0 a_kinds_1 a_kinds_2 a_kinds_3 a_kinds_4)))))), (a_kinds_0, .inr (1, [])), (a_kinds_1, .inr (2, [])), (a_kinds_2, .inr (3, [])), (a_kinds_3, .inr (4, [])), (a_kinds_4, .inr (5, [])), (a_town, .inr (6, [.ref a_town_kind, .ref a_town_strength, .ref a_town_place, .ref a_town_length, .ref a_town_gives, .ref a_town_over, .ref a_town_under, .int town_n, .int town_holders, .int town_cuts, .int town_hour, .int town_bears, .int (((town_draw * 1103515245) + 12345) &&& 2147483647), .ref a])), (a_town_kind, .inl (X.E 0, 8, .inl town_kind)), (a_town_strength, .inl (X.E 0, 8, .inl town_strength)), (a_town_place, .inl (X.E 0, 8, .inl town_place)), (a_town_length, .inl (X.E 0, 8, .inl town_length)), (a_town_gives, .inl (X.E 0, 8, .inl town_gives)), (a_town_over, .inl (X.E 1, 8, .inl town_over)), (a_town_under, .inl (X.E 1, 8, .inl town_under)), (a_fell, .inl (X.E 1, 8, .inl fell))] [(0, .ref a), (1, .int y_2)] 0 0 85 [.int z_5, .int (town_place y_2.toNatClampNeg)] := by
      clear hw
      refine g_iadd h dX0_springs_2_85 ?_
      refine nm_i (fun y_6 ey_6 => ?_)
      have hf := nm_at hf y_6 ey_6
      refine g_istore_n (lv' := [(2, .int y_6), (0, .ref a), (1, .int y_2)]) h dX0_springs_2_86 rfl (hL 2 (fle rfl)) rfl ?_
      refine g_aload_n h 1 dX0_springs_2_87 rfl rfl ?_
      refine g_get (ci := 0) (v := .ref a_town) h in_X0 0 1 rfl rfl (fle rfl) rfl q1112 rfl dX0_springs_2_88 ?_
      refine g_iload_n h 2 dX0_springs_2_91 rfl rfl ?_
      obtain ⟨r_7, hv, hf⟩ := ob1 hf
      refine g_callV (ci := 6) (q0 := 7) (n := 1) (As := [.int y_2]) (st := []) (wr := [(a, .inr (0, [.ref a_kinds, .ref a_town, .ref a_tried, .ref a_fell, .int falls, .int tears, .ref a_tape, .int typed, .int place, .ref a_read, .ref a_undos, .ref a_kept, .ref a_keptUndos, .int isKept, .ref a_sheets, .ref a_taken])), (a_kinds, .inl (X.E 5, 5, .inr (.inr (.inr (.inr (kq a_kinds_0 a_kinds_1 a_kinds_2 a_kinds_3 a_kinds_4)))))), (a_kinds_0, .inr (1, [])), (a_kinds_1, .inr (2, [])), (a_kinds_2, .inr (3, [])), (a_kinds_3, .inr (4, [])), (a_kinds_4, .inr (5, [])), (a_town_kind, .inl (X.E 0, 8, .inl town_kind)), (a_town_strength, .inl (X.E 0, 8, .inl town_strength)), (a_town_place, .inl (X.E 0, 8, .inl town_place)), (a_town_length, .inl (X.E 0, 8, .inl town_length)), (a_town_gives, .inl (X.E 0, 8, .inl town_gives)), (a_town_over, .inl (X.E 1, 8, .inl town_over)), (a_town_under, .inl (X.E 1, 8, .inl town_under)), (a_fell, .inl (X.E 1, 8, .inl fell))]) (isC := [7]) (isR := [0, 1, 2, 3, 4, 5, 6, 8, 9, 10, 11, 12, 13, 14, 15]) h hR (ct_X6_holds (a := a_town) (a_kind := a_town_kind) (a_strength := a_town_strength) (a_place := a_town_place) (a_length := a_town_length) (a_gives := a_town_gives) (a_over := a_town_over) (a_under := a_town_under) (a_this0 := a) (x1 := y_2) (n := town_n) (holders := town_holders) (cuts := town_cuts) (hour := town_hour) (bears := town_bears) (draw := (((town_draw * 1103515245) + 12345) &&& 2147483647)) hv) rfl rfl (lw_V q155 q143 q144 q76 q145) (by decide +kernel) rfl ⟨rfl, rfl, rfl, rfl, by decide⟩ ⟨fle rfl, fle rfl, fle rfl, fle rfl, fle rfl⟩ rfl dX0_springs_2_92 (pin (perm := [0, 1, 2, 3, 4, 5, 6, 15, 7, 8, 9, 10, 11, 12, 13, 14]) (ws' := [(a, .inr (0, [.ref a_kinds, .ref a_town, .ref a_tried, .ref a_fell, .int falls, .int tears, .ref a_tape, .int typed, .int place, .ref a_read, .ref a_undos, .ref a_kept, .ref a_keptUndos, .int isKept, .ref a_sheets, .ref a_taken])), (a_kinds, .inl (X.E 5, 5, .inr (.inr (.inr (.inr (kq a_kinds_0 a_kinds_1 a_kinds_2 a_kinds_3 a_kinds_4)))))), (a_kinds_0, .inr (1, [])), (a_kinds_1, .inr (2, [])), (a_kinds_2, .inr (3, [])), (a_kinds_3, .inr (4, [])), (a_kinds_4, .inr (5, [])), (a_town, .inr (6, [.ref a_town_kind, .ref a_town_strength, .ref a_town_place, .ref a_town_length, .ref a_town_gives, .ref a_town_over, .ref a_town_under, .int town_n, .int town_holders, .int town_cuts, .int town_hour, .int town_bears, .int (((town_draw * 1103515245) + 12345) &&& 2147483647), .ref a])), (a_town_kind, .inl (X.E 0, 8, .inl town_kind)), (a_town_strength, .inl (X.E 0, 8, .inl town_strength)), (a_town_place, .inl (X.E 0, 8, .inl town_place)), (a_town_length, .inl (X.E 0, 8, .inl town_length)), (a_town_gives, .inl (X.E 0, 8, .inl town_gives)), (a_town_over, .inl (X.E 1, 8, .inl town_over)), (a_town_under, .inl (X.E 1, 8, .inl town_under)), (a_fell, .inl (X.E 1, 8, .inl fell))]) (stk := [.int r_7]) rfl rfl rfl ?_)
      clear hv
      refine g_if_ne (tgt := 109) h dX0_springs_2_95 rfl hf (fun c8 hf => ?_) (fun c8 hf => ?_)
      · refine g_aload_n h 1 dX0_springs_2_98 rfl rfl ?_
        refine g_get (ci := 0) (v := .ref a_town) h in_X0 0 1 rfl rfl (fle rfl) rfl q1112 rfl dX0_springs_2_99 ?_
        refine g_iload_n h 2 dX0_springs_2_102 rfl rfl ?_
        obtain ⟨town_holders_9, town_place_10, town_over_11, town_under_12, hv, hf⟩ := ob4 hf
        refine g_callS (n := 2) (As := [.ref a_town, .int y_2]) (st := []) (wr := [(a, .inr (0, [.ref a_kinds, .ref a_town, .ref a_tried, .ref a_fell, .int falls, .int tears, .ref a_tape, .int typed, .int place, .ref a_read, .ref a_undos, .ref a_kept, .ref a_keptUndos, .int isKept, .ref a_sheets, .ref a_taken])), (a_kinds, .inl (X.E 5, 5, .inr (.inr (.inr (.inr (kq a_kinds_0 a_kinds_1 a_kinds_2 a_kinds_3 a_kinds_4)))))), (a_kinds_0, .inr (1, [])), (a_kinds_1, .inr (2, [])), (a_kinds_2, .inr (3, [])), (a_kinds_3, .inr (4, [])), (a_kinds_4, .inr (5, [])), (a_town_kind, .inl (X.E 0, 8, .inl town_kind)), (a_town_strength, .inl (X.E 0, 8, .inl town_strength)), (a_fell, .inl (X.E 1, 8, .inl fell))]) (isC := [7, 10, 11, 12, 13, 14]) (isR := [0, 1, 2, 3, 4, 5, 6, 8, 9, 15]) h hR (ct_X0_takesHoldWhereHeIs (a_t0 := a_town) (a_t0_kind := a_town_kind) (a_t0_strength := a_town_strength) (a_t0_place := a_town_place) (a_t0_length := a_town_length) (a_t0_gives := a_town_gives) (a_t0_over := a_town_over) (a_t0_under := a_town_under) (a_t0_this0 := a) (x1 := y_2) (t0_n := town_n) (t0_holders := town_holders) (t0_cuts := town_cuts) (t0_hour := town_hour) (t0_bears := town_bears) (t0_draw := (((town_draw * 1103515245) + 12345) &&& 2147483647)) (t0_place := town_place) (t0_length := town_length) (t0_gives := town_gives) (t0_over := town_over) (t0_under := town_under) hv) (lw_S q694 q695 q70 q696) (by decide +kernel) rfl ⟨rfl, rfl, rfl, rfl, by decide⟩ ⟨fle rfl, fle rfl, fle rfl, fle rfl, fle rfl⟩ rfl dX0_springs_2_103 (pin (perm := [0, 1, 2, 3, 4, 5, 6, 10, 7, 8, 11, 12, 13, 14, 15, 9]) (ws' := [(a, .inr (0, [.ref a_kinds, .ref a_town, .ref a_tried, .ref a_fell, .int falls, .int tears, .ref a_tape, .int typed, .int place, .ref a_read, .ref a_undos, .ref a_kept, .ref a_keptUndos, .int isKept, .ref a_sheets, .ref a_taken])), (a_kinds, .inl (X.E 5, 5, .inr (.inr (.inr (.inr (kq a_kinds_0 a_kinds_1 a_kinds_2 a_kinds_3 a_kinds_4)))))), (a_kinds_0, .inr (1, [])), (a_kinds_1, .inr (2, [])), (a_kinds_2, .inr (3, [])), (a_kinds_3, .inr (4, [])), (a_kinds_4, .inr (5, [])), (a_town, .inr (6, [.ref a_town_kind, .ref a_town_strength, .ref a_town_place, .ref a_town_length, .ref a_town_gives, .ref a_town_over, .ref a_town_under, .int town_n, .int town_holders_9, .int town_cuts, .int town_hour, .int town_bears, .int (((town_draw * 1103515245) + 12345) &&& 2147483647), .ref a])), (a_town_kind, .inl (X.E 0, 8, .inl town_kind)), (a_town_strength, .inl (X.E 0, 8, .inl town_strength)), (a_town_place, .inl (X.E 0, 8, .inl town_place_10)), (a_town_length, .inl (X.E 0, 8, .inl town_length)), (a_town_gives, .inl (X.E 0, 8, .inl town_gives)), (a_town_over, .inl (X.E 1, 8, .inl town_over_11)), (a_town_under, .inl (X.E 1, 8, .inl town_under_12)), (a_fell, .inl (X.E 1, 8, .inl fell))]) (stk := []) rfl rfl rfl ?_)
        clear hv
        refine g_goto (tgt := 132) h dX0_springs_2_106 rfl ?_
        refine g_aload_n h 1 dX0_springs_2_132 rfl rfl ?_
        refine g_aload_n h 1 dX0_springs_2_133 rfl rfl ?_
        refine g_get (ci := 0) (v := .ref a_town) h in_X0 0 1 rfl rfl (fle rfl) rfl q1112 rfl dX0_springs_2_134 ?_
        obtain ⟨r_13, falls_14, tears_15, fell_16, town_holders_17, town_cuts_18, town_over_19, town_under_20, hv, hf⟩ := ob8 hf
        refine g_callV (ci := 0) (q0 := 0) (n := 1) (As := [.ref a_town]) (st := []) (wr := []) (isC := [0, 1, 2, 3, 4, 5, 6, 15, 7, 8, 9, 10, 11, 12, 13, 14]) (isR := []) h hR (ct_X0_settles (a := a) (a_t1 := a_town) (a_kinds := a_kinds) (a_town := a_town) (a_tried := a_tried) (a_fell := a_fell) (a_tape := a_tape) (a_read := a_read) (a_undos := a_undos) (a_kept := a_kept) (a_keptUndos := a_keptUndos) (a_sheets := a_sheets) (a_taken := a_taken) (a_kinds_0 := a_kinds_0) (a_kinds_1 := a_kinds_1) (a_kinds_2 := a_kinds_2) (a_kinds_3 := a_kinds_3) (a_kinds_4 := a_kinds_4) (a_t1_kind := a_town_kind) (a_t1_strength := a_town_strength) (a_t1_place := a_town_place) (a_t1_length := a_town_length) (a_t1_gives := a_town_gives) (a_t1_over := a_town_over) (a_t1_under := a_town_under) (falls := falls) (tears := tears) (typed := typed) (place := place) (isKept := isKept) (fell := fell) (t1_n := town_n) (t1_holders := town_holders_9) (t1_cuts := town_cuts) (t1_hour := town_hour) (t1_bears := town_bears) (t1_draw := (((town_draw * 1103515245) + 12345) &&& 2147483647)) (t1_kind := town_kind) (t1_strength := town_strength) (t1_place := town_place_10) (t1_length := town_length) (t1_gives := town_gives) (t1_over := town_over_11) (t1_under := town_under_12) hv) rfl rfl (lw_V q130 q132 qs1 q70 q133) (by decide +kernel) rfl ⟨rfl, rfl, rfl, rfl, by decide⟩ ⟨fle rfl, fle rfl, fle rfl, fle rfl, fle rfl⟩ rfl dX0_springs_2_137 (pin (perm := [0, 1, 2, 3, 4, 5, 6, 8, 9, 10, 11, 12, 13, 14, 15, 7]) (ws' := [(a, .inr (0, [.ref a_kinds, .ref a_town, .ref a_tried, .ref a_fell, .int falls_14, .int tears_15, .ref a_tape, .int typed, .int place, .ref a_read, .ref a_undos, .ref a_kept, .ref a_keptUndos, .int isKept, .ref a_sheets, .ref a_taken])), (a_kinds, .inl (X.E 5, 5, .inr (.inr (.inr (.inr (kq a_kinds_0 a_kinds_1 a_kinds_2 a_kinds_3 a_kinds_4)))))), (a_kinds_0, .inr (1, [])), (a_kinds_1, .inr (2, [])), (a_kinds_2, .inr (3, [])), (a_kinds_3, .inr (4, [])), (a_kinds_4, .inr (5, [])), (a_town, .inr (6, [.ref a_town_kind, .ref a_town_strength, .ref a_town_place, .ref a_town_length, .ref a_town_gives, .ref a_town_over, .ref a_town_under, .int town_n, .int town_holders_17, .int town_cuts_18, .int town_hour, .int town_bears, .int (((town_draw * 1103515245) + 12345) &&& 2147483647), .ref a])), (a_town_kind, .inl (X.E 0, 8, .inl town_kind)), (a_town_strength, .inl (X.E 0, 8, .inl town_strength)), (a_town_place, .inl (X.E 0, 8, .inl town_place_10)), (a_town_length, .inl (X.E 0, 8, .inl town_length)), (a_town_gives, .inl (X.E 0, 8, .inl town_gives)), (a_town_over, .inl (X.E 1, 8, .inl town_over_19)), (a_town_under, .inl (X.E 1, 8, .inl town_under_20)), (a_fell, .inl (X.E 1, 8, .inl fell_16))]) (stk := [.int r_13]) rfl rfl rfl ?_)
        clear hv
        refine g_pop h dX0_springs_2_140 rfl ?_
        obtain ⟨rfl, rfl, rfl, rfl, rfl, rfl, rfl, rfl, rfl⟩ := sj9 hf
        exact g_vret h hF [0, 1, 2, 3, 4, 5, 6, 7, 8, 9, 10, 11, 12, 13, 14, 15] rfl rfl ⟨rfl, rfl⟩ (fle rfl) (fle rfl) dX0_springs_2_141
      · refine g_iload_n h 0 dX0_springs_2_109 rfl rfl ?_
        refine g_i2l h dX0_springs_2_110 ?_
        refine g_lconst (v := 0) h dX0_springs_2_111 rfl ?_
        refine g_ldc2 h q111 dX0_springs_2_112 ?_
        obtain ⟨r_21, hv, hf⟩ := ob1 hf
        refine g_callS (n := 3) (As := [.long y_6.toInt64, .long 0, .long 99]) (st := []) (wr := [(a, .inr (0, [.ref a_kinds, .ref a_town, .ref a_tried, .ref a_fell, .int falls, .int tears, .ref a_tape, .int typed, .int place, .ref a_read, .ref a_undos, .ref a_kept, .ref a_keptUndos, .int isKept, .ref a_sheets, .ref a_taken])), (a_kinds, .inl (X.E 5, 5, .inr (.inr (.inr (.inr (kq a_kinds_0 a_kinds_1 a_kinds_2 a_kinds_3 a_kinds_4)))))), (a_kinds_0, .inr (1, [])), (a_kinds_1, .inr (2, [])), (a_kinds_2, .inr (3, [])), (a_kinds_3, .inr (4, [])), (a_kinds_4, .inr (5, [])), (a_town, .inr (6, [.ref a_town_kind, .ref a_town_strength, .ref a_town_place, .ref a_town_length, .ref a_town_gives, .ref a_town_over, .ref a_town_under, .int town_n, .int town_holders, .int town_cuts, .int town_hour, .int town_bears, .int (((town_draw * 1103515245) + 12345) &&& 2147483647), .ref a])), (a_town_kind, .inl (X.E 0, 8, .inl town_kind)), (a_town_strength, .inl (X.E 0, 8, .inl town_strength)), (a_town_place, .inl (X.E 0, 8, .inl town_place)), (a_town_length, .inl (X.E 0, 8, .inl town_length)), (a_town_gives, .inl (X.E 0, 8, .inl town_gives)), (a_town_over, .inl (X.E 1, 8, .inl town_over)), (a_town_under, .inl (X.E 1, 8, .inl town_under)), (a_fell, .inl (X.E 1, 8, .inl fell))]) (isC := []) (isR := [0, 1, 2, 3, 4, 5, 6, 7, 8, 9, 10, 11, 12, 13, 14, 15]) h hR (ct_X0_in (x0 := y_6.toInt64) (x2 := 0) (x4 := 99) hv) (lw_S q107 q108 q70 q109) (by decide +kernel) rfl ⟨rfl, rfl, rfl, rfl, by decide⟩ ⟨fle rfl, fle rfl, fle rfl, fle rfl, fle rfl⟩ rfl dX0_springs_2_115 (pin (perm := [0, 1, 2, 3, 4, 5, 6, 7, 8, 9, 10, 11, 12, 13, 14, 15]) (ws' := [(a, .inr (0, [.ref a_kinds, .ref a_town, .ref a_tried, .ref a_fell, .int falls, .int tears, .ref a_tape, .int typed, .int place, .ref a_read, .ref a_undos, .ref a_kept, .ref a_keptUndos, .int isKept, .ref a_sheets, .ref a_taken])), (a_kinds, .inl (X.E 5, 5, .inr (.inr (.inr (.inr (kq a_kinds_0 a_kinds_1 a_kinds_2 a_kinds_3 a_kinds_4)))))), (a_kinds_0, .inr (1, [])), (a_kinds_1, .inr (2, [])), (a_kinds_2, .inr (3, [])), (a_kinds_3, .inr (4, [])), (a_kinds_4, .inr (5, [])), (a_town, .inr (6, [.ref a_town_kind, .ref a_town_strength, .ref a_town_place, .ref a_town_length, .ref a_town_gives, .ref a_town_over, .ref a_town_under, .int town_n, .int town_holders, .int town_cuts, .int town_hour, .int town_bears, .int (((town_draw * 1103515245) + 12345) &&& 2147483647), .ref a])), (a_town_kind, .inl (X.E 0, 8, .inl town_kind)), (a_town_strength, .inl (X.E 0, 8, .inl town_strength)), (a_town_place, .inl (X.E 0, 8, .inl town_place)), (a_town_length, .inl (X.E 0, 8, .inl town_length)), (a_town_gives, .inl (X.E 0, 8, .inl town_gives)), (a_town_over, .inl (X.E 1, 8, .inl town_over)), (a_town_under, .inl (X.E 1, 8, .inl town_under)), (a_fell, .inl (X.E 1, 8, .inl fell))]) (stk := [.int r_21]) rfl rfl rfl ?_)
        clear hv
        refine g_if_eq (tgt := 132) h dX0_springs_2_118 rfl hf (fun c22 hf => ?_) (fun c22 hf => ?_)
        · refine g_aload_n h 1 dX0_springs_2_132 rfl rfl ?_
          refine g_aload_n h 1 dX0_springs_2_133 rfl rfl ?_
          refine g_get (ci := 0) (v := .ref a_town) h in_X0 0 1 rfl rfl (fle rfl) rfl q1112 rfl dX0_springs_2_134 ?_
          obtain ⟨r_23, falls_24, tears_25, fell_26, town_holders_27, town_cuts_28, town_over_29, town_under_30, hv, hf⟩ := ob8 hf
          refine g_callV (ci := 0) (q0 := 0) (n := 1) (As := [.ref a_town]) (st := []) (wr := []) (isC := [0, 1, 2, 3, 4, 5, 6, 15, 7, 8, 9, 10, 11, 12, 13, 14]) (isR := []) h hR (ct_X0_settles (a := a) (a_t1 := a_town) (a_kinds := a_kinds) (a_town := a_town) (a_tried := a_tried) (a_fell := a_fell) (a_tape := a_tape) (a_read := a_read) (a_undos := a_undos) (a_kept := a_kept) (a_keptUndos := a_keptUndos) (a_sheets := a_sheets) (a_taken := a_taken) (a_kinds_0 := a_kinds_0) (a_kinds_1 := a_kinds_1) (a_kinds_2 := a_kinds_2) (a_kinds_3 := a_kinds_3) (a_kinds_4 := a_kinds_4) (a_t1_kind := a_town_kind) (a_t1_strength := a_town_strength) (a_t1_place := a_town_place) (a_t1_length := a_town_length) (a_t1_gives := a_town_gives) (a_t1_over := a_town_over) (a_t1_under := a_town_under) (falls := falls) (tears := tears) (typed := typed) (place := place) (isKept := isKept) (fell := fell) (t1_n := town_n) (t1_holders := town_holders) (t1_cuts := town_cuts) (t1_hour := town_hour) (t1_bears := town_bears) (t1_draw := (((town_draw * 1103515245) + 12345) &&& 2147483647)) (t1_kind := town_kind) (t1_strength := town_strength) (t1_place := town_place) (t1_length := town_length) (t1_gives := town_gives) (t1_over := town_over) (t1_under := town_under) hv) rfl rfl (lw_V q130 q132 qs1 q70 q133) (by decide +kernel) rfl ⟨rfl, rfl, rfl, rfl, by decide⟩ ⟨fle rfl, fle rfl, fle rfl, fle rfl, fle rfl⟩ rfl dX0_springs_2_137 (pin (perm := [0, 1, 2, 3, 4, 5, 6, 8, 9, 10, 11, 12, 13, 14, 15, 7]) (ws' := [(a, .inr (0, [.ref a_kinds, .ref a_town, .ref a_tried, .ref a_fell, .int falls_24, .int tears_25, .ref a_tape, .int typed, .int place, .ref a_read, .ref a_undos, .ref a_kept, .ref a_keptUndos, .int isKept, .ref a_sheets, .ref a_taken])), (a_kinds, .inl (X.E 5, 5, .inr (.inr (.inr (.inr (kq a_kinds_0 a_kinds_1 a_kinds_2 a_kinds_3 a_kinds_4)))))), (a_kinds_0, .inr (1, [])), (a_kinds_1, .inr (2, [])), (a_kinds_2, .inr (3, [])), (a_kinds_3, .inr (4, [])), (a_kinds_4, .inr (5, [])), (a_town, .inr (6, [.ref a_town_kind, .ref a_town_strength, .ref a_town_place, .ref a_town_length, .ref a_town_gives, .ref a_town_over, .ref a_town_under, .int town_n, .int town_holders_27, .int town_cuts_28, .int town_hour, .int town_bears, .int (((town_draw * 1103515245) + 12345) &&& 2147483647), .ref a])), (a_town_kind, .inl (X.E 0, 8, .inl town_kind)), (a_town_strength, .inl (X.E 0, 8, .inl town_strength)), (a_town_place, .inl (X.E 0, 8, .inl town_place)), (a_town_length, .inl (X.E 0, 8, .inl town_length)), (a_town_gives, .inl (X.E 0, 8, .inl town_gives)), (a_town_over, .inl (X.E 1, 8, .inl town_over_29)), (a_town_under, .inl (X.E 1, 8, .inl town_under_30)), (a_fell, .inl (X.E 1, 8, .inl fell_26))]) (stk := [.int r_23]) rfl rfl rfl ?_)
          clear hv
          refine g_pop h dX0_springs_2_140 rfl ?_
          obtain ⟨rfl, rfl, rfl, rfl, rfl, rfl, rfl, rfl, rfl⟩ := sj9 hf
          exact g_vret h hF [0, 1, 2, 3, 4, 5, 6, 7, 8, 9, 10, 11, 12, 13, 14, 15] rfl rfl ⟨rfl, rfl⟩ (fle rfl) (fle rfl) dX0_springs_2_141
        · refine g_aload_n h 1 dX0_springs_2_121 rfl rfl ?_
          refine g_get (ci := 0) (v := .ref a_town) h in_X0 0 1 rfl rfl (fle rfl) rfl q1112 rfl dX0_springs_2_122 ?_
          refine g_getN (ci := 6) (v := .ref a_town_place) h in_X6 7 2 rfl rfl (fle rfl) rfl q554 rfl dX0_springs_2_125 ?_
          refine g_iload_n h 2 dX0_springs_2_128 rfl rfl ?_
          refine g_iload_n h 0 dX0_springs_2_129 rfl rfl ?_
          refine g_i2b h dX0_springs_2_130 ?_
          refine g_bastore (ws' := [(a, .inr (0, [.ref a_kinds, .ref a_town, .ref a_tried, .ref a_fell, .int falls, .int tears, .ref a_tape, .int typed, .int place, .ref a_read, .ref a_undos, .ref a_kept, .ref a_keptUndos, .int isKept, .ref a_sheets, .ref a_taken])), (a_kinds, .inl (X.E 5, 5, .inr (.inr (.inr (.inr (kq a_kinds_0 a_kinds_1 a_kinds_2 a_kinds_3 a_kinds_4)))))), (a_kinds_0, .inr (1, [])), (a_kinds_1, .inr (2, [])), (a_kinds_2, .inr (3, [])), (a_kinds_3, .inr (4, [])), (a_kinds_4, .inr (5, [])), (a_town, .inr (6, [.ref a_town_kind, .ref a_town_strength, .ref a_town_place, .ref a_town_length, .ref a_town_gives, .ref a_town_over, .ref a_town_under, .int town_n, .int town_holders, .int town_cuts, .int town_hour, .int town_bears, .int (((town_draw * 1103515245) + 12345) &&& 2147483647), .ref a])), (a_town_kind, .inl (X.E 0, 8, .inl town_kind)), (a_town_strength, .inl (X.E 0, 8, .inl town_strength)), (a_town_place, .inl (X.E 0, 8, .inl (upd town_place y_2.toNatClampNeg (vp_nar .byte y_6.toInt8.toInt32)))), (a_town_length, .inl (X.E 0, 8, .inl town_length)), (a_town_gives, .inl (X.E 0, 8, .inl town_gives)), (a_town_over, .inl (X.E 1, 8, .inl town_over)), (a_town_under, .inl (X.E 1, 8, .inl town_under)), (a_fell, .inl (X.E 1, 8, .inl fell))]) h 10 rfl g3 rfl dX0_springs_2_131 ?_
          refine g_aload_n h 1 dX0_springs_2_132 rfl rfl ?_
          refine g_aload_n h 1 dX0_springs_2_133 rfl rfl ?_
          refine g_get (ci := 0) (v := .ref a_town) h in_X0 0 1 rfl rfl (fle rfl) rfl q1112 rfl dX0_springs_2_134 ?_
          obtain ⟨r_31, falls_32, tears_33, fell_34, town_holders_35, town_cuts_36, town_over_37, town_under_38, hv, hf⟩ := ob8 hf
          refine g_callV (ci := 0) (q0 := 0) (n := 1) (As := [.ref a_town]) (st := []) (wr := []) (isC := [0, 1, 2, 3, 4, 5, 6, 15, 7, 8, 9, 10, 11, 12, 13, 14]) (isR := []) h hR (ct_X0_settles (a := a) (a_t1 := a_town) (a_kinds := a_kinds) (a_town := a_town) (a_tried := a_tried) (a_fell := a_fell) (a_tape := a_tape) (a_read := a_read) (a_undos := a_undos) (a_kept := a_kept) (a_keptUndos := a_keptUndos) (a_sheets := a_sheets) (a_taken := a_taken) (a_kinds_0 := a_kinds_0) (a_kinds_1 := a_kinds_1) (a_kinds_2 := a_kinds_2) (a_kinds_3 := a_kinds_3) (a_kinds_4 := a_kinds_4) (a_t1_kind := a_town_kind) (a_t1_strength := a_town_strength) (a_t1_place := a_town_place) (a_t1_length := a_town_length) (a_t1_gives := a_town_gives) (a_t1_over := a_town_over) (a_t1_under := a_town_under) (falls := falls) (tears := tears) (typed := typed) (place := place) (isKept := isKept) (fell := fell) (t1_n := town_n) (t1_holders := town_holders) (t1_cuts := town_cuts) (t1_hour := town_hour) (t1_bears := town_bears) (t1_draw := (((town_draw * 1103515245) + 12345) &&& 2147483647)) (t1_kind := town_kind) (t1_strength := town_strength) (t1_place := upd town_place y_2.toNatClampNeg (vp_nar .byte y_6.toInt8.toInt32)) (t1_length := town_length) (t1_gives := town_gives) (t1_over := town_over) (t1_under := town_under) hv) rfl rfl (lw_V q130 q132 qs1 q70 q133) (by decide +kernel) rfl ⟨rfl, rfl, rfl, rfl, by decide⟩ ⟨fle rfl, fle rfl, fle rfl, fle rfl, fle rfl⟩ rfl dX0_springs_2_137 (pin (perm := [0, 1, 2, 3, 4, 5, 6, 8, 9, 10, 11, 12, 13, 14, 15, 7]) (ws' := [(a, .inr (0, [.ref a_kinds, .ref a_town, .ref a_tried, .ref a_fell, .int falls_32, .int tears_33, .ref a_tape, .int typed, .int place, .ref a_read, .ref a_undos, .ref a_kept, .ref a_keptUndos, .int isKept, .ref a_sheets, .ref a_taken])), (a_kinds, .inl (X.E 5, 5, .inr (.inr (.inr (.inr (kq a_kinds_0 a_kinds_1 a_kinds_2 a_kinds_3 a_kinds_4)))))), (a_kinds_0, .inr (1, [])), (a_kinds_1, .inr (2, [])), (a_kinds_2, .inr (3, [])), (a_kinds_3, .inr (4, [])), (a_kinds_4, .inr (5, [])), (a_town, .inr (6, [.ref a_town_kind, .ref a_town_strength, .ref a_town_place, .ref a_town_length, .ref a_town_gives, .ref a_town_over, .ref a_town_under, .int town_n, .int town_holders_35, .int town_cuts_36, .int town_hour, .int town_bears, .int (((town_draw * 1103515245) + 12345) &&& 2147483647), .ref a])), (a_town_kind, .inl (X.E 0, 8, .inl town_kind)), (a_town_strength, .inl (X.E 0, 8, .inl town_strength)), (a_town_place, .inl (X.E 0, 8, .inl (upd town_place y_2.toNatClampNeg (vp_nar .byte y_6.toInt8.toInt32)))), (a_town_length, .inl (X.E 0, 8, .inl town_length)), (a_town_gives, .inl (X.E 0, 8, .inl town_gives)), (a_town_over, .inl (X.E 1, 8, .inl town_over_37)), (a_town_under, .inl (X.E 1, 8, .inl town_under_38)), (a_fell, .inl (X.E 1, 8, .inl fell_34))]) (stk := [.int r_31]) rfl rfl rfl ?_)
          clear hv
          refine g_pop h dX0_springs_2_140 rfl ?_
          obtain ⟨rfl, rfl, rfl, rfl, rfl, rfl, rfl, rfl, rfl⟩ := sj9 hf
          exact g_vret h hF [0, 1, 2, 3, 4, 5, 6, 7, 8, 9, 10, 11, 12, 13, 14, 15] rfl rfl ⟨rfl, rfl⟩ (fle rfl) (fle rfl) dX0_springs_2_141
    clear hf
    have hf := hw
    clear hw
    refine g_icmp_ne (tgt := 84) h dX0_springs_2_77 rfl hf (fun c4 hf => ?_) (fun c4 hf => ?_)
    · refine g_iconst (v := 1) h dX0_springs_2_80 kiconst_1 ?_
      refine g_goto (tgt := 85) h dX0_springs_2_81 rfl ?_
      obtain rfl := sj1 hf
      exact G.lsub [1, 0] rfl K77
    · refine g_iconst (v := (-1)) h dX0_springs_2_84 kiconst_m1 ?_
      obtain rfl := sj1 hf
      exact G.lsub [1, 0] rfl K77
set_option maxHeartbeats 4000000 in
set_option maxRecDepth 100000 in
theorem ct_X0_seed {l : Launch} {D : va_G} {E : Ety} {a a_kinds a_town a_tried a_fell a_tape a_read a_undos a_kept a_keptUndos a_sheets a_taken a_town_kind a_town_strength a_town_place a_town_length a_town_gives a_town_over a_town_under : Nat} {x1 : Int32} {falls : Int32} {tears : Int32} {typed : Int32} {place : Int32} {isKept : Int32} {town_n : Int32} {town_holders : Int32} {town_cuts : Int32} {town_hour : Int32} {town_bears : Int32} {town_draw : Int32} {r_ : Int32} {o_town_draw : Int32} (hf : f_X0_seed x1 town_draw = some (r_, o_town_draw)) : Ct l yX0_seed cX0_seed 3 (some .int) 0 0 0 0 D E [.ref a, .int x1] [(a, .inr (0, [.ref a_kinds, .ref a_town, .ref a_tried, .ref a_fell, .int falls, .int tears, .ref a_tape, .int typed, .int place, .ref a_read, .ref a_undos, .ref a_kept, .ref a_keptUndos, .int isKept, .ref a_sheets, .ref a_taken])), (a_town, .inr (6, [.ref a_town_kind, .ref a_town_strength, .ref a_town_place, .ref a_town_length, .ref a_town_gives, .ref a_town_over, .ref a_town_under, .int town_n, .int town_holders, .int town_cuts, .int town_hour, .int town_bears, .int town_draw, .ref a]))] (Pn (some (.int r_)) [(a, .inr (0, [.ref a_kinds, .ref a_town, .ref a_tried, .ref a_fell, .int falls, .int tears, .ref a_tape, .int typed, .int place, .ref a_read, .ref a_undos, .ref a_kept, .ref a_keptUndos, .int isKept, .ref a_sheets, .ref a_taken])), (a_town, .inr (6, [.ref a_town_kind, .ref a_town_strength, .ref a_town_place, .ref a_town_length, .ref a_town_gives, .ref a_town_over, .ref a_town_under, .int town_n, .int town_holders, .int town_cuts, .int town_hour, .int town_bears, .int o_town_draw, .ref a]))]) := by
  refine ct_of (own := RX0) (plainFor_of_name (by decide)) rfl (fle rfl) rfl ?_
  intro X hl hD hE hnL hXF h hR hF hnm
  subst hl; subst hD; subst hE
  have hL : ∀ i, i < 3 → i < X.nL := fun i hi => by rw [hnL]; exact hi
  unfold f_X0_seed at hf
  refine g_iload_n h 1 dX0_seed_0 rfl rfl ?_
  refine g_if_ge (tgt := 6) h dX0_seed_1 rfl hf (fun c1 hf => ?_) (fun c1 hf => ?_)
  · refine g_aload_n h 0 dX0_seed_6 rfl rfl ?_
    refine g_get (ci := 0) (v := .ref a_town) h in_X0 0 1 rfl rfl (fle rfl) rfl q1112 rfl dX0_seed_7 ?_
    refine g_getN (ci := 6) (v := .int town_draw) h in_X6 1 12 rfl rfl (fle rfl) rfl q574 rfl dX0_seed_10 ?_
    refine g_istore_n (lv' := [(2, .int town_draw), (0, .ref a), (1, .int x1)]) h dX0_seed_13 rfl (hL 2 (fle rfl)) rfl ?_
    refine g_aload_n h 1 dX0_seed_14 rfl rfl ?_
    refine g_get (ci := 0) (v := .ref a_town) h in_X0 0 1 rfl rfl (fle rfl) rfl q1112 rfl dX0_seed_15 ?_
    refine g_iload_n h 2 dX0_seed_18 rfl rfl ?_
    refine g_putN (ci := 6) (ty := tyX6 12) (ws' := [(a, .inr (0, [.ref a_kinds, .ref a_town, .ref a_tried, .ref a_fell, .int falls, .int tears, .ref a_tape, .int typed, .int place, .ref a_read, .ref a_undos, .ref a_kept, .ref a_keptUndos, .int isKept, .ref a_sheets, .ref a_taken])), (a_town, .inr (6, [.ref a_town_kind, .ref a_town_strength, .ref a_town_place, .ref a_town_length, .ref a_town_gives, .ref a_town_over, .ref a_town_under, .int town_n, .int town_holders, .int town_cuts, .int town_hour, .int town_bears, .int x1, .ref a]))]) h in_X6 tyX6 tyX6_ok nmX6 1 12 rfl rfl (fle rfl) ⟨rfl, rfl⟩ q574 rfl rfl rfl (fle rfl) rfl dX0_seed_19 ?_
    refine g_iload_n h 0 dX0_seed_22 rfl rfl ?_
    obtain ⟨rfl, rfl⟩ := sj2 hf
    exact g_iret h hF [0, 1] rfl rfl ⟨rfl, rfl⟩ (fle rfl) (fle rfl) dX0_seed_23
  · refine g_iconst (v := (-1)) h dX0_seed_4 kiconst_m1 ?_
    obtain ⟨rfl, rfl⟩ := sj2 hf
    exact g_iret h hF [0, 1] rfl rfl ⟨rfl, rfl⟩ (fle rfl) (fle rfl) dX0_seed_5
set_option maxHeartbeats 4000000 in
set_option maxRecDepth 100000 in
theorem ct_X0_tries {l : Launch} {D : va_G} {E : Ety} {a a_kinds a_town a_tried a_fell a_tape a_read a_undos a_kept a_keptUndos a_sheets a_taken a_town_kind a_town_strength a_town_place a_town_length a_town_gives a_town_over a_town_under a_tried_kind a_tried_strength a_tried_place a_tried_length a_tried_gives a_tried_over a_tried_under : Nat} {falls : Int32} {tears : Int32} {typed : Int32} {place : Int32} {isKept : Int32} {town_n : Int32} {town_holders : Int32} {town_cuts : Int32} {town_hour : Int32} {town_bears : Int32} {town_draw : Int32} {town_kind : Nat → Int32} {town_strength : Nat → Int32} {town_place : Nat → Int32} {town_length : Nat → Int32} {town_gives : Nat → Int32} {tried_n : Int32} {tried_holders : Int32} {tried_cuts : Int32} {tried_hour : Int32} {tried_bears : Int32} {tried_draw : Int32} {tried_kind : Nat → Int32} {tried_strength : Nat → Int32} {tried_place : Nat → Int32} {tried_length : Nat → Int32} {tried_gives : Nat → Int32} {o_tried_n : Int32} {o_tried_holders : Int32} {o_tried_cuts : Int32} {o_tried_hour : Int32} {o_tried_bears : Int32} {o_tried_draw : Int32} {o_tried_kind : Nat → Int32} {o_tried_strength : Nat → Int32} {o_tried_place : Nat → Int32} {o_tried_length : Nat → Int32} {o_tried_gives : Nat → Int32} (hf : f_X0_tries town_n town_holders town_cuts town_hour town_bears town_draw town_kind town_strength town_place town_length town_gives tried_kind tried_strength tried_place tried_length tried_gives = some (o_tried_n, o_tried_holders, o_tried_cuts, o_tried_hour, o_tried_bears, o_tried_draw, o_tried_kind, o_tried_strength, o_tried_place, o_tried_length, o_tried_gives)) : Ct l yX0_tries cX0_tries 1 (some (.object "OneElastic$Town")) 2 81 0 0 D E [.ref a] [(a, .inr (0, [.ref a_kinds, .ref a_town, .ref a_tried, .ref a_fell, .int falls, .int tears, .ref a_tape, .int typed, .int place, .ref a_read, .ref a_undos, .ref a_kept, .ref a_keptUndos, .int isKept, .ref a_sheets, .ref a_taken])), (a_town, .inr (6, [.ref a_town_kind, .ref a_town_strength, .ref a_town_place, .ref a_town_length, .ref a_town_gives, .ref a_town_over, .ref a_town_under, .int town_n, .int town_holders, .int town_cuts, .int town_hour, .int town_bears, .int town_draw, .ref a])), (a_town_kind, .inl (E 0, 8, .inl town_kind)), (a_town_strength, .inl (E 0, 8, .inl town_strength)), (a_town_place, .inl (E 0, 8, .inl town_place)), (a_town_length, .inl (E 0, 8, .inl town_length)), (a_town_gives, .inl (E 0, 8, .inl town_gives)), (a_tried, .inr (6, [.ref a_tried_kind, .ref a_tried_strength, .ref a_tried_place, .ref a_tried_length, .ref a_tried_gives, .ref a_tried_over, .ref a_tried_under, .int tried_n, .int tried_holders, .int tried_cuts, .int tried_hour, .int tried_bears, .int tried_draw, .ref a])), (a_tried_kind, .inl (E 0, 8, .inl tried_kind)), (a_tried_strength, .inl (E 0, 8, .inl tried_strength)), (a_tried_place, .inl (E 0, 8, .inl tried_place)), (a_tried_length, .inl (E 0, 8, .inl tried_length)), (a_tried_gives, .inl (E 0, 8, .inl tried_gives))] (Pn (some (.ref a_tried)) [(a, .inr (0, [.ref a_kinds, .ref a_town, .ref a_tried, .ref a_fell, .int falls, .int tears, .ref a_tape, .int typed, .int place, .ref a_read, .ref a_undos, .ref a_kept, .ref a_keptUndos, .int isKept, .ref a_sheets, .ref a_taken])), (a_town, .inr (6, [.ref a_town_kind, .ref a_town_strength, .ref a_town_place, .ref a_town_length, .ref a_town_gives, .ref a_town_over, .ref a_town_under, .int town_n, .int town_holders, .int town_cuts, .int town_hour, .int town_bears, .int town_draw, .ref a])), (a_town_kind, .inl (E 0, 8, .inl town_kind)), (a_town_strength, .inl (E 0, 8, .inl town_strength)), (a_town_place, .inl (E 0, 8, .inl town_place)), (a_town_length, .inl (E 0, 8, .inl town_length)), (a_town_gives, .inl (E 0, 8, .inl town_gives)), (a_tried, .inr (6, [.ref a_tried_kind, .ref a_tried_strength, .ref a_tried_place, .ref a_tried_length, .ref a_tried_gives, .ref a_tried_over, .ref a_tried_under, .int o_tried_n, .int o_tried_holders, .int o_tried_cuts, .int o_tried_hour, .int o_tried_bears, .int o_tried_draw, .ref a])), (a_tried_kind, .inl (E 0, 8, .inl o_tried_kind)), (a_tried_strength, .inl (E 0, 8, .inl o_tried_strength)), (a_tried_place, .inl (E 0, 8, .inl o_tried_place)), (a_tried_length, .inl (E 0, 8, .inl o_tried_length)), (a_tried_gives, .inl (E 0, 8, .inl o_tried_gives))]) := by
  refine ct_of (own := RX0) (plainFor_of_name (by decide)) rfl (fle rfl) rfl ?_
  intro X hl hD hE hnL hXF h hR hF hnm
  subst hl; subst hD; subst hE
  have hL : ∀ i, i < 1 → i < X.nL := fun i hi => by rw [hnL]; exact hi
  unfold f_X0_tries at hf
  refine g_aload_n h 0 dX0_tries_0 rfl rfl ?_
  refine g_get (ci := 0) (v := .ref a_tried) h in_X0 0 2 rfl rfl (fle rfl) rfl q1113 rfl dX0_tries_1 ?_
  refine g_aload_n h 0 dX0_tries_4 rfl rfl ?_
  refine g_get (ci := 0) (v := .ref a_town) h in_X0 0 1 rfl rfl (fle rfl) rfl q1112 rfl dX0_tries_5 ?_
  obtain ⟨tried_n_1, tried_holders_2, tried_cuts_3, tried_hour_4, tried_bears_5, tried_draw_6, tried_kind_7, tried_strength_8, tried_place_9, tried_length_10, tried_gives_11, hv, hf⟩ := ob11 hf
  refine g_callV (ci := 6) (q0 := 7) (n := 1) (As := [.ref a_town]) (st := []) (wr := [(a, .inr (0, [.ref a_kinds, .ref a_town, .ref a_tried, .ref a_fell, .int falls, .int tears, .ref a_tape, .int typed, .int place, .ref a_read, .ref a_undos, .ref a_kept, .ref a_keptUndos, .int isKept, .ref a_sheets, .ref a_taken]))]) (isC := [7, 8, 9, 10, 11, 12, 1, 2, 3, 4, 5, 6]) (isR := [0]) h hR (ct_X6_takes (a := a_tried) (a_t1 := a_town) (a_kind := a_tried_kind) (a_strength := a_tried_strength) (a_place := a_tried_place) (a_length := a_tried_length) (a_gives := a_tried_gives) (a_over := a_tried_over) (a_under := a_tried_under) (a_this0 := a) (a_t1_kind := a_town_kind) (a_t1_strength := a_town_strength) (a_t1_place := a_town_place) (a_t1_length := a_town_length) (a_t1_gives := a_town_gives) (a_t1_over := a_town_over) (a_t1_under := a_town_under) (a_t1_this0 := a) (n := tried_n) (holders := tried_holders) (cuts := tried_cuts) (hour := tried_hour) (bears := tried_bears) (draw := tried_draw) (kind := tried_kind) (strength := tried_strength) (place := tried_place) (length := tried_length) (gives := tried_gives) (t1_n := town_n) (t1_holders := town_holders) (t1_cuts := town_cuts) (t1_hour := town_hour) (t1_bears := town_bears) (t1_draw := town_draw) (t1_kind := town_kind) (t1_strength := town_strength) (t1_place := town_place) (t1_length := town_length) (t1_gives := town_gives) hv) rfl rfl (lw_V q606 q607 q608 q76 q609) (by decide +kernel) rfl ⟨rfl, rfl, rfl, rfl, by decide⟩ ⟨fle rfl, fle rfl, fle rfl, fle rfl, fle rfl⟩ rfl dX0_tries_8 (pin (perm := [0, 7, 8, 9, 10, 11, 12, 1, 2, 3, 4, 5, 6]) (ws' := [(a, .inr (0, [.ref a_kinds, .ref a_town, .ref a_tried, .ref a_fell, .int falls, .int tears, .ref a_tape, .int typed, .int place, .ref a_read, .ref a_undos, .ref a_kept, .ref a_keptUndos, .int isKept, .ref a_sheets, .ref a_taken])), (a_town, .inr (6, [.ref a_town_kind, .ref a_town_strength, .ref a_town_place, .ref a_town_length, .ref a_town_gives, .ref a_town_over, .ref a_town_under, .int town_n, .int town_holders, .int town_cuts, .int town_hour, .int town_bears, .int town_draw, .ref a])), (a_town_kind, .inl (X.E 0, 8, .inl town_kind)), (a_town_strength, .inl (X.E 0, 8, .inl town_strength)), (a_town_place, .inl (X.E 0, 8, .inl town_place)), (a_town_length, .inl (X.E 0, 8, .inl town_length)), (a_town_gives, .inl (X.E 0, 8, .inl town_gives)), (a_tried, .inr (6, [.ref a_tried_kind, .ref a_tried_strength, .ref a_tried_place, .ref a_tried_length, .ref a_tried_gives, .ref a_tried_over, .ref a_tried_under, .int tried_n_1, .int tried_holders_2, .int tried_cuts_3, .int tried_hour_4, .int tried_bears_5, .int tried_draw_6, .ref a])), (a_tried_kind, .inl (X.E 0, 8, .inl tried_kind_7)), (a_tried_strength, .inl (X.E 0, 8, .inl tried_strength_8)), (a_tried_place, .inl (X.E 0, 8, .inl tried_place_9)), (a_tried_length, .inl (X.E 0, 8, .inl tried_length_10)), (a_tried_gives, .inl (X.E 0, 8, .inl tried_gives_11))]) (stk := [.ref a_tried]) rfl rfl rfl ?_)
  clear hv
  obtain ⟨rfl, rfl, rfl, rfl, rfl, rfl, rfl, rfl, rfl, rfl, rfl⟩ := sj11 hf
  exact g_aret h hF (Or.inl ⟨_, rfl⟩) (Or.inr ⟨_, rfl⟩) [0, 1, 2, 3, 4, 5, 6, 7, 8, 9, 10, 11, 12] rfl rfl ⟨rfl, rfl⟩ (fle rfl) (fle rfl) dX0_tries_11
set_option maxHeartbeats 4000000 in
set_option maxRecDepth 100000 in
theorem ct_X0_isStill {l : Launch} {D : va_G} {E : Ety} {a a_t1 a_kinds a_town a_tried a_fell a_tape a_read a_undos a_kept a_keptUndos a_sheets a_taken a_kinds_0 a_kinds_1 a_kinds_2 a_kinds_3 a_kinds_4 a_t1_kind a_t1_strength a_t1_place a_t1_length a_t1_gives a_t1_over a_t1_under : Nat} {falls : Int32} {tears : Int32} {typed : Int32} {place : Int32} {isKept : Int32} {fell : Nat → Int32} {t1_n : Int32} {t1_holders : Int32} {t1_cuts : Int32} {t1_hour : Int32} {t1_bears : Int32} {t1_draw : Int32} {t1_kind : Nat → Int32} {t1_strength : Nat → Int32} {t1_place : Nat → Int32} {t1_length : Nat → Int32} {t1_gives : Nat → Int32} {t1_over : Nat → Int32} {t1_under : Nat → Int32} {r_ : Int32} {o_falls : Int32} {o_tears : Int32} {o_fell : Nat → Int32} {o_t1_holders : Int32} {o_t1_cuts : Int32} {o_t1_over : Nat → Int32} {o_t1_under : Nat → Int32} (hf : f_X0_isStill fell t1_n t1_holders t1_cuts t1_hour t1_bears t1_kind t1_strength t1_place t1_length t1_gives t1_over t1_under = some (r_, o_falls, o_tears, o_fell, o_t1_holders, o_t1_cuts, o_t1_over, o_t1_under)) : Ct l yX0_isStill cX0_isStill 2 (some .boolean) 6 138 0 0 D E [.ref a, .ref a_t1] [(a, .inr (0, [.ref a_kinds, .ref a_town, .ref a_tried, .ref a_fell, .int falls, .int tears, .ref a_tape, .int typed, .int place, .ref a_read, .ref a_undos, .ref a_kept, .ref a_keptUndos, .int isKept, .ref a_sheets, .ref a_taken])), (a_kinds, .inl (E 5, 5, .inr (.inr (.inr (.inr (kq a_kinds_0 a_kinds_1 a_kinds_2 a_kinds_3 a_kinds_4)))))), (a_kinds_0, .inr (1, [])), (a_kinds_1, .inr (2, [])), (a_kinds_2, .inr (3, [])), (a_kinds_3, .inr (4, [])), (a_kinds_4, .inr (5, [])), (a_fell, .inl (E 1, 8, .inl fell)), (a_t1, .inr (6, [.ref a_t1_kind, .ref a_t1_strength, .ref a_t1_place, .ref a_t1_length, .ref a_t1_gives, .ref a_t1_over, .ref a_t1_under, .int t1_n, .int t1_holders, .int t1_cuts, .int t1_hour, .int t1_bears, .int t1_draw, .ref a])), (a_t1_kind, .inl (E 0, 8, .inl t1_kind)), (a_t1_strength, .inl (E 0, 8, .inl t1_strength)), (a_t1_place, .inl (E 0, 8, .inl t1_place)), (a_t1_length, .inl (E 0, 8, .inl t1_length)), (a_t1_gives, .inl (E 0, 8, .inl t1_gives)), (a_t1_over, .inl (E 1, 8, .inl t1_over)), (a_t1_under, .inl (E 1, 8, .inl t1_under))] (Pn (some (.int r_)) [(a, .inr (0, [.ref a_kinds, .ref a_town, .ref a_tried, .ref a_fell, .int o_falls, .int o_tears, .ref a_tape, .int typed, .int place, .ref a_read, .ref a_undos, .ref a_kept, .ref a_keptUndos, .int isKept, .ref a_sheets, .ref a_taken])), (a_kinds, .inl (E 5, 5, .inr (.inr (.inr (.inr (kq a_kinds_0 a_kinds_1 a_kinds_2 a_kinds_3 a_kinds_4)))))), (a_kinds_0, .inr (1, [])), (a_kinds_1, .inr (2, [])), (a_kinds_2, .inr (3, [])), (a_kinds_3, .inr (4, [])), (a_kinds_4, .inr (5, [])), (a_fell, .inl (E 1, 8, .inl o_fell)), (a_t1, .inr (6, [.ref a_t1_kind, .ref a_t1_strength, .ref a_t1_place, .ref a_t1_length, .ref a_t1_gives, .ref a_t1_over, .ref a_t1_under, .int t1_n, .int o_t1_holders, .int o_t1_cuts, .int t1_hour, .int t1_bears, .int t1_draw, .ref a])), (a_t1_kind, .inl (E 0, 8, .inl t1_kind)), (a_t1_strength, .inl (E 0, 8, .inl t1_strength)), (a_t1_place, .inl (E 0, 8, .inl t1_place)), (a_t1_length, .inl (E 0, 8, .inl t1_length)), (a_t1_gives, .inl (E 0, 8, .inl t1_gives)), (a_t1_over, .inl (E 1, 8, .inl o_t1_over)), (a_t1_under, .inl (E 1, 8, .inl o_t1_under))]) := by
  refine ct_of (own := RX0) (plainFor_of_name (by decide)) rfl (fle rfl) rfl ?_
  intro X hl hD hE hnL hXF h hR hF hnm
  subst hl; subst hD; subst hE
  have hL : ∀ i, i < 2 → i < X.nL := fun i hi => by rw [hnL]; exact hi
  unfold f_X0_isStill at hf
  refine g_aload_n h 0 dX0_isStill_0 rfl rfl ?_
  refine g_aload_n h 1 dX0_isStill_1 rfl rfl ?_
  obtain ⟨r_1, falls_2, tears_3, fell_4, t1_holders_5, t1_cuts_6, t1_over_7, t1_under_8, hv, hf⟩ := ob8 hf
  refine g_callV (ci := 0) (q0 := 0) (n := 1) (As := [.ref a_t1]) (st := []) (wr := []) (isC := [0, 1, 2, 3, 4, 5, 6, 7, 8, 9, 10, 11, 12, 13, 14, 15]) (isR := []) h hR (ct_X0_settles (a := a) (a_t1 := a_t1) (a_kinds := a_kinds) (a_town := a_town) (a_tried := a_tried) (a_fell := a_fell) (a_tape := a_tape) (a_read := a_read) (a_undos := a_undos) (a_kept := a_kept) (a_keptUndos := a_keptUndos) (a_sheets := a_sheets) (a_taken := a_taken) (a_kinds_0 := a_kinds_0) (a_kinds_1 := a_kinds_1) (a_kinds_2 := a_kinds_2) (a_kinds_3 := a_kinds_3) (a_kinds_4 := a_kinds_4) (a_t1_kind := a_t1_kind) (a_t1_strength := a_t1_strength) (a_t1_place := a_t1_place) (a_t1_length := a_t1_length) (a_t1_gives := a_t1_gives) (a_t1_over := a_t1_over) (a_t1_under := a_t1_under) (falls := falls) (tears := tears) (typed := typed) (place := place) (isKept := isKept) (fell := fell) (t1_n := t1_n) (t1_holders := t1_holders) (t1_cuts := t1_cuts) (t1_hour := t1_hour) (t1_bears := t1_bears) (t1_draw := t1_draw) (t1_kind := t1_kind) (t1_strength := t1_strength) (t1_place := t1_place) (t1_length := t1_length) (t1_gives := t1_gives) (t1_over := t1_over) (t1_under := t1_under) hv) rfl rfl (lw_V q130 q132 qs1 q70 q133) (by decide +kernel) rfl ⟨rfl, rfl, rfl, rfl, by decide⟩ ⟨fle rfl, fle rfl, fle rfl, fle rfl, fle rfl⟩ rfl dX0_isStill_2 (pin (perm := [0, 1, 2, 3, 4, 5, 6, 7, 8, 9, 10, 11, 12, 13, 14, 15]) (ws' := [(a, .inr (0, [.ref a_kinds, .ref a_town, .ref a_tried, .ref a_fell, .int falls_2, .int tears_3, .ref a_tape, .int typed, .int place, .ref a_read, .ref a_undos, .ref a_kept, .ref a_keptUndos, .int isKept, .ref a_sheets, .ref a_taken])), (a_kinds, .inl (X.E 5, 5, .inr (.inr (.inr (.inr (kq a_kinds_0 a_kinds_1 a_kinds_2 a_kinds_3 a_kinds_4)))))), (a_kinds_0, .inr (1, [])), (a_kinds_1, .inr (2, [])), (a_kinds_2, .inr (3, [])), (a_kinds_3, .inr (4, [])), (a_kinds_4, .inr (5, [])), (a_fell, .inl (X.E 1, 8, .inl fell_4)), (a_t1, .inr (6, [.ref a_t1_kind, .ref a_t1_strength, .ref a_t1_place, .ref a_t1_length, .ref a_t1_gives, .ref a_t1_over, .ref a_t1_under, .int t1_n, .int t1_holders_5, .int t1_cuts_6, .int t1_hour, .int t1_bears, .int t1_draw, .ref a])), (a_t1_kind, .inl (X.E 0, 8, .inl t1_kind)), (a_t1_strength, .inl (X.E 0, 8, .inl t1_strength)), (a_t1_place, .inl (X.E 0, 8, .inl t1_place)), (a_t1_length, .inl (X.E 0, 8, .inl t1_length)), (a_t1_gives, .inl (X.E 0, 8, .inl t1_gives)), (a_t1_over, .inl (X.E 1, 8, .inl t1_over_7)), (a_t1_under, .inl (X.E 1, 8, .inl t1_under_8))]) (stk := [.int r_1]) rfl rfl rfl ?_)
  clear hv
  refine g_if_ne (tgt := 19) h dX0_isStill_5 rfl hf (fun c9 hf => ?_) (fun c9 hf => ?_)
  · refine g_aload_n h 0 dX0_isStill_8 rfl rfl ?_
    refine g_get (ci := 0) (v := .int tears_3) h in_X0 0 5 rfl rfl (fle rfl) rfl q1116 rfl dX0_isStill_9 ?_
    refine g_if_ne (tgt := 19) h dX0_isStill_12 rfl hf (fun c10 hf => ?_) (fun c10 hf => ?_)
    · refine g_iconst (v := 1) h dX0_isStill_15 kiconst_1 ?_
      refine g_goto (tgt := 20) h dX0_isStill_16 rfl ?_
      obtain ⟨rfl, rfl, rfl, rfl, rfl, rfl, rfl, rfl⟩ := sj8 hf
      exact g_zret h hF rfl [0, 1, 2, 3, 4, 5, 6, 7, 8, 9, 10, 11, 12, 13, 14, 15] rfl rfl ⟨rfl, rfl⟩ (fle rfl) (fle rfl) dX0_isStill_20
    · refine g_iconst (v := 0) h dX0_isStill_19 kiconst_0 ?_
      obtain ⟨rfl, rfl, rfl, rfl, rfl, rfl, rfl, rfl⟩ := sj8 hf
      exact g_zret h hF rfl [0, 1, 2, 3, 4, 5, 6, 7, 8, 9, 10, 11, 12, 13, 14, 15] rfl rfl ⟨rfl, rfl⟩ (fle rfl) (fle rfl) dX0_isStill_20
  · refine g_iconst (v := 0) h dX0_isStill_19 kiconst_0 ?_
    obtain ⟨rfl, rfl, rfl, rfl, rfl, rfl, rfl, rfl⟩ := sj8 hf
    exact g_zret h hF rfl [0, 1, 2, 3, 4, 5, 6, 7, 8, 9, 10, 11, 12, 13, 14, 15] rfl rfl ⟨rfl, rfl⟩ (fle rfl) (fle rfl) dX0_isStill_20
set_option maxHeartbeats 4000000 in
set_option maxRecDepth 100000 in
theorem w_X0_far_L47 {X : Cx} {a a_fell a_kept a_keptUndos a_kinds a_kinds_0 a_kinds_1 a_kinds_2 a_kinds_3 a_kinds_4 a_read a_sheets a_taken a_tape a_town a_town_gives a_town_kind a_town_length a_town_over a_town_place a_town_strength a_town_under a_tried a_tried_gives a_tried_kind a_tried_length a_tried_over a_tried_place a_tried_strength a_tried_under a_undos : Nat} {x1 : Int32} {x3 : Int32} {typed : Int32} {place : Int32} {isKept : Int32} {town_n : Int32} {town_holders : Int32} {town_cuts : Int32} {town_hour : Int32} {town_bears : Int32} {town_draw : Int32} {town_kind : Nat → Int32} {town_strength : Nat → Int32} {town_place : Nat → Int32} {town_length : Nat → Int32} {town_gives : Nat → Int32} {ce sl : Nat} (h : Ok X cX0_far RX0) (hR : Rm X 7 159 0 0) (hL : ∀ i, i < 6 → i < X.nL) (hce : ce ≤ 0) (hsl : sl ≤ 0) : ∀ (n0 : Nat) (x4 : Int32) (falls : Int32) (tears : Int32) (tried_n : Int32) (tried_holders : Int32) (tried_cuts : Int32) (tried_hour : Int32) (tried_bears : Int32) (tried_draw : Int32) (tried_kind : Nat → Int32) (tried_strength : Nat → Int32) (tried_place : Nat → Int32) (tried_length : Nat → Int32) (tried_gives : Nat → Int32) (tried_over : Nat → Int32) (tried_under : Nat → Int32) (fell : Nat → Int32) {otag : Nat} {o_x4 : Int32} {o_falls : Int32} {o_tears : Int32} {o_tried_n : Int32} {o_tried_holders : Int32} {o_tried_cuts : Int32} {o_tried_hour : Int32} {o_tried_bears : Int32} {o_tried_draw : Int32} {o_tried_kind : Nat → Int32} {o_tried_strength : Nat → Int32} {o_tried_place : Nat → Int32} {o_tried_length : Nat → Int32} {o_tried_gives : Nat → Int32} {o_tried_over : Nat → Int32} {o_tried_under : Nat → Int32} {o_fell : Nat → Int32}, f_X0_far_L47 x1 x3 town_n town_holders town_cuts town_hour town_bears town_draw town_kind town_strength town_place town_length town_gives n0 x4 falls tears tried_n tried_holders tried_cuts tried_hour tried_bears tried_draw tried_kind tried_strength tried_place tried_length tried_gives tried_over tried_under fell = some (otag, o_x4, o_falls, o_tears, o_tried_n, o_tried_holders, o_tried_cuts, o_tried_hour, o_tried_bears, o_tried_draw, o_tried_kind, o_tried_strength, o_tried_place, o_tried_length, o_tried_gives, o_tried_over, o_tried_under, o_fell) → (otag = 0 → G X [(a, .inr (0, [.ref a_kinds, .ref a_town, .ref a_tried, .ref a_fell, .int o_falls, .int o_tears, .ref a_tape, .int typed, .int place, .ref a_read, .ref a_undos, .ref a_kept, .ref a_keptUndos, .int isKept, .ref a_sheets, .ref a_taken])), (a_kinds, .inl (X.E 5, 5, .inr (.inr (.inr (.inr (kq a_kinds_0 a_kinds_1 a_kinds_2 a_kinds_3 a_kinds_4)))))), (a_kinds_0, .inr (1, [])), (a_kinds_1, .inr (2, [])), (a_kinds_2, .inr (3, [])), (a_kinds_3, .inr (4, [])), (a_kinds_4, .inr (5, [])), (a_town, .inr (6, [.ref a_town_kind, .ref a_town_strength, .ref a_town_place, .ref a_town_length, .ref a_town_gives, .ref a_town_over, .ref a_town_under, .int town_n, .int town_holders, .int town_cuts, .int town_hour, .int town_bears, .int town_draw, .ref a])), (a_town_kind, .inl (X.E 0, 8, .inl town_kind)), (a_town_strength, .inl (X.E 0, 8, .inl town_strength)), (a_town_place, .inl (X.E 0, 8, .inl town_place)), (a_town_length, .inl (X.E 0, 8, .inl town_length)), (a_town_gives, .inl (X.E 0, 8, .inl town_gives)), (a_tried, .inr (6, [.ref a_tried_kind, .ref a_tried_strength, .ref a_tried_place, .ref a_tried_length, .ref a_tried_gives, .ref a_tried_over, .ref a_tried_under, .int o_tried_n, .int o_tried_holders, .int o_tried_cuts, .int o_tried_hour, .int o_tried_bears, .int o_tried_draw, .ref a])), (a_tried_kind, .inl (X.E 0, 8, .inl o_tried_kind)), (a_tried_strength, .inl (X.E 0, 8, .inl o_tried_strength)), (a_tried_place, .inl (X.E 0, 8, .inl o_tried_place)), (a_tried_length, .inl (X.E 0, 8, .inl o_tried_length)), (a_tried_gives, .inl (X.E 0, 8, .inl o_tried_gives)), (a_tried_over, .inl (X.E 1, 8, .inl o_tried_over)), (a_tried_under, .inl (X.E 1, 8, .inl o_tried_under)), (a_fell, .inl (X.E 1, 8, .inl o_fell))] [(4, .int o_x4)] ce sl 107 []) → (otag = 1 → G X [(a, .inr (0, [.ref a_kinds, .ref a_town, .ref a_tried, .ref a_fell, .int o_falls, .int o_tears, .ref a_tape, .int typed, .int place, .ref a_read, .ref a_undos, .ref a_kept, .ref a_keptUndos, .int isKept, .ref a_sheets, .ref a_taken])), (a_kinds, .inl (X.E 5, 5, .inr (.inr (.inr (.inr (kq a_kinds_0 a_kinds_1 a_kinds_2 a_kinds_3 a_kinds_4)))))), (a_kinds_0, .inr (1, [])), (a_kinds_1, .inr (2, [])), (a_kinds_2, .inr (3, [])), (a_kinds_3, .inr (4, [])), (a_kinds_4, .inr (5, [])), (a_town, .inr (6, [.ref a_town_kind, .ref a_town_strength, .ref a_town_place, .ref a_town_length, .ref a_town_gives, .ref a_town_over, .ref a_town_under, .int town_n, .int town_holders, .int town_cuts, .int town_hour, .int town_bears, .int town_draw, .ref a])), (a_town_kind, .inl (X.E 0, 8, .inl town_kind)), (a_town_strength, .inl (X.E 0, 8, .inl town_strength)), (a_town_place, .inl (X.E 0, 8, .inl town_place)), (a_town_length, .inl (X.E 0, 8, .inl town_length)), (a_town_gives, .inl (X.E 0, 8, .inl town_gives)), (a_tried, .inr (6, [.ref a_tried_kind, .ref a_tried_strength, .ref a_tried_place, .ref a_tried_length, .ref a_tried_gives, .ref a_tried_over, .ref a_tried_under, .int o_tried_n, .int o_tried_holders, .int o_tried_cuts, .int o_tried_hour, .int o_tried_bears, .int o_tried_draw, .ref a])), (a_tried_kind, .inl (X.E 0, 8, .inl o_tried_kind)), (a_tried_strength, .inl (X.E 0, 8, .inl o_tried_strength)), (a_tried_place, .inl (X.E 0, 8, .inl o_tried_place)), (a_tried_length, .inl (X.E 0, 8, .inl o_tried_length)), (a_tried_gives, .inl (X.E 0, 8, .inl o_tried_gives)), (a_tried_over, .inl (X.E 1, 8, .inl o_tried_over)), (a_tried_under, .inl (X.E 1, 8, .inl o_tried_under)), (a_fell, .inl (X.E 1, 8, .inl o_fell))] [(4, .int o_x4)] ce sl 116 []) → G X [(a, .inr (0, [.ref a_kinds, .ref a_town, .ref a_tried, .ref a_fell, .int falls, .int tears, .ref a_tape, .int typed, .int place, .ref a_read, .ref a_undos, .ref a_kept, .ref a_keptUndos, .int isKept, .ref a_sheets, .ref a_taken])), (a_kinds, .inl (X.E 5, 5, .inr (.inr (.inr (.inr (kq a_kinds_0 a_kinds_1 a_kinds_2 a_kinds_3 a_kinds_4)))))), (a_kinds_0, .inr (1, [])), (a_kinds_1, .inr (2, [])), (a_kinds_2, .inr (3, [])), (a_kinds_3, .inr (4, [])), (a_kinds_4, .inr (5, [])), (a_town, .inr (6, [.ref a_town_kind, .ref a_town_strength, .ref a_town_place, .ref a_town_length, .ref a_town_gives, .ref a_town_over, .ref a_town_under, .int town_n, .int town_holders, .int town_cuts, .int town_hour, .int town_bears, .int town_draw, .ref a])), (a_town_kind, .inl (X.E 0, 8, .inl town_kind)), (a_town_strength, .inl (X.E 0, 8, .inl town_strength)), (a_town_place, .inl (X.E 0, 8, .inl town_place)), (a_town_length, .inl (X.E 0, 8, .inl town_length)), (a_town_gives, .inl (X.E 0, 8, .inl town_gives)), (a_tried, .inr (6, [.ref a_tried_kind, .ref a_tried_strength, .ref a_tried_place, .ref a_tried_length, .ref a_tried_gives, .ref a_tried_over, .ref a_tried_under, .int tried_n, .int tried_holders, .int tried_cuts, .int tried_hour, .int tried_bears, .int tried_draw, .ref a])), (a_tried_kind, .inl (X.E 0, 8, .inl tried_kind)), (a_tried_strength, .inl (X.E 0, 8, .inl tried_strength)), (a_tried_place, .inl (X.E 0, 8, .inl tried_place)), (a_tried_length, .inl (X.E 0, 8, .inl tried_length)), (a_tried_gives, .inl (X.E 0, 8, .inl tried_gives)), (a_tried_over, .inl (X.E 1, 8, .inl tried_over)), (a_tried_under, .inl (X.E 1, 8, .inl tried_under)), (a_fell, .inl (X.E 1, 8, .inl fell))] [(0, .ref a), (1, .int x1), (3, .int x3), (4, .int x4)] ce sl 47 [] := by
  intro n0
  induction n0 with
  | zero => intro x4 falls tears tried_n tried_holders tried_cuts tried_hour tried_bears tried_draw tried_kind tried_strength tried_place tried_length tried_gives tried_over tried_under fell otag o_x4 o_falls o_tears o_tried_n o_tried_holders o_tried_cuts o_tried_hour o_tried_bears o_tried_draw o_tried_kind o_tried_strength o_tried_place o_tried_length o_tried_gives o_tried_over o_tried_under o_fell hf; exact nomatch (show (none : Option _) = some _ from hf)
  | succ n0 ih =>
    intro x4 falls tears tried_n tried_holders tried_cuts tried_hour tried_bears tried_draw tried_kind tried_strength tried_place tried_length tried_gives tried_over tried_under fell otag o_x4 o_falls o_tears o_tried_n o_tried_holders o_tried_cuts o_tried_hour o_tried_bears o_tried_draw o_tried_kind o_tried_strength o_tried_place o_tried_length o_tried_gives o_tried_over o_tried_under o_fell hf k0 k1
    replace hf : t_X0_far_L47 x1 x3 town_n town_holders town_cuts town_hour town_bears town_draw town_kind town_strength town_place town_length town_gives (f_X0_far_L47 x1 x3 town_n town_holders town_cuts town_hour town_bears town_draw town_kind town_strength town_place town_length town_gives n0) x4 falls tears tried_n tried_holders tried_cuts tried_hour tried_bears tried_draw tried_kind tried_strength tried_place tried_length tried_gives tried_over tried_under fell = some (otag, o_x4, o_falls, o_tears, o_tried_n, o_tried_holders, o_tried_cuts, o_tried_hour, o_tried_bears, o_tried_draw, o_tried_kind, o_tried_strength, o_tried_place, o_tried_length, o_tried_gives, o_tried_over, o_tried_under, o_fell) := hf
    unfold t_X0_far_L47 at hf
    refine g_aload_n h 0 dX0_far_47 rfl rfl ?_
    refine g_get (ci := 0) (v := .ref a_town) h in_X0 0 1 rfl rfl (fle rfl) rfl q1112 rfl dX0_far_48 ?_
    refine g_getN (ci := 6) (v := .ref a_town_place) h in_X6 7 2 rfl rfl (fle rfl) rfl q554 rfl dX0_far_51 ?_
    refine g_iload_n h 1 dX0_far_54 rfl rfl ?_
    obtain ⟨g9, hf⟩ := gn hf
    refine g_baload h 10 rfl g9 dX0_far_55 ?_
    refine g_iload_n h 2 dX0_far_56 rfl rfl ?_
    refine g_iload h 3 dX0_far_57 rfl ?_
    refine g_iconst (v := 1) h dX0_far_59 kiconst_1 ?_
    refine g_iadd h dX0_far_60 ?_
    refine g_imul h dX0_far_61 ?_
    refine g_iadd h dX0_far_62 ?_
    refine g_i2l h dX0_far_63 ?_
    refine g_lconst (v := 0) h dX0_far_64 rfl ?_
    refine g_ldc2 h q111 dX0_far_65 ?_
    obtain ⟨r_10, hv, hf⟩ := ob1 hf
    refine g_callS (n := 3) (As := [.long (((town_place x1.toNatClampNeg) + (x3 * (x4 + 1))).toInt64), .long 0, .long 99]) (st := []) (wr := [(a, .inr (0, [.ref a_kinds, .ref a_town, .ref a_tried, .ref a_fell, .int falls, .int tears, .ref a_tape, .int typed, .int place, .ref a_read, .ref a_undos, .ref a_kept, .ref a_keptUndos, .int isKept, .ref a_sheets, .ref a_taken])), (a_kinds, .inl (X.E 5, 5, .inr (.inr (.inr (.inr (kq a_kinds_0 a_kinds_1 a_kinds_2 a_kinds_3 a_kinds_4)))))), (a_kinds_0, .inr (1, [])), (a_kinds_1, .inr (2, [])), (a_kinds_2, .inr (3, [])), (a_kinds_3, .inr (4, [])), (a_kinds_4, .inr (5, [])), (a_town, .inr (6, [.ref a_town_kind, .ref a_town_strength, .ref a_town_place, .ref a_town_length, .ref a_town_gives, .ref a_town_over, .ref a_town_under, .int town_n, .int town_holders, .int town_cuts, .int town_hour, .int town_bears, .int town_draw, .ref a])), (a_town_kind, .inl (X.E 0, 8, .inl town_kind)), (a_town_strength, .inl (X.E 0, 8, .inl town_strength)), (a_town_place, .inl (X.E 0, 8, .inl town_place)), (a_town_length, .inl (X.E 0, 8, .inl town_length)), (a_town_gives, .inl (X.E 0, 8, .inl town_gives)), (a_tried, .inr (6, [.ref a_tried_kind, .ref a_tried_strength, .ref a_tried_place, .ref a_tried_length, .ref a_tried_gives, .ref a_tried_over, .ref a_tried_under, .int tried_n, .int tried_holders, .int tried_cuts, .int tried_hour, .int tried_bears, .int tried_draw, .ref a])), (a_tried_kind, .inl (X.E 0, 8, .inl tried_kind)), (a_tried_strength, .inl (X.E 0, 8, .inl tried_strength)), (a_tried_place, .inl (X.E 0, 8, .inl tried_place)), (a_tried_length, .inl (X.E 0, 8, .inl tried_length)), (a_tried_gives, .inl (X.E 0, 8, .inl tried_gives)), (a_tried_over, .inl (X.E 1, 8, .inl tried_over)), (a_tried_under, .inl (X.E 1, 8, .inl tried_under)), (a_fell, .inl (X.E 1, 8, .inl fell))]) (isC := []) (isR := [0, 1, 2, 3, 4, 5, 6, 7, 8, 9, 10, 11, 12, 13, 14, 15, 16, 17, 18, 19, 20, 21]) h hR (ct_X0_in (x0 := ((town_place x1.toNatClampNeg) + (x3 * (x4 + 1))).toInt64) (x2 := 0) (x4 := 99) hv) (lw_S q107 q108 q70 q109) (by decide +kernel) rfl ⟨rfl, rfl, rfl, rfl, by decide⟩ ⟨hce, hsl, fle rfl, fle rfl, fle rfl⟩ rfl dX0_far_68 (pin (perm := [0, 1, 2, 3, 4, 5, 6, 7, 8, 9, 10, 11, 12, 13, 14, 15, 16, 17, 18, 19, 20, 21]) (ws' := [(a, .inr (0, [.ref a_kinds, .ref a_town, .ref a_tried, .ref a_fell, .int falls, .int tears, .ref a_tape, .int typed, .int place, .ref a_read, .ref a_undos, .ref a_kept, .ref a_keptUndos, .int isKept, .ref a_sheets, .ref a_taken])), (a_kinds, .inl (X.E 5, 5, .inr (.inr (.inr (.inr (kq a_kinds_0 a_kinds_1 a_kinds_2 a_kinds_3 a_kinds_4)))))), (a_kinds_0, .inr (1, [])), (a_kinds_1, .inr (2, [])), (a_kinds_2, .inr (3, [])), (a_kinds_3, .inr (4, [])), (a_kinds_4, .inr (5, [])), (a_town, .inr (6, [.ref a_town_kind, .ref a_town_strength, .ref a_town_place, .ref a_town_length, .ref a_town_gives, .ref a_town_over, .ref a_town_under, .int town_n, .int town_holders, .int town_cuts, .int town_hour, .int town_bears, .int town_draw, .ref a])), (a_town_kind, .inl (X.E 0, 8, .inl town_kind)), (a_town_strength, .inl (X.E 0, 8, .inl town_strength)), (a_town_place, .inl (X.E 0, 8, .inl town_place)), (a_town_length, .inl (X.E 0, 8, .inl town_length)), (a_town_gives, .inl (X.E 0, 8, .inl town_gives)), (a_tried, .inr (6, [.ref a_tried_kind, .ref a_tried_strength, .ref a_tried_place, .ref a_tried_length, .ref a_tried_gives, .ref a_tried_over, .ref a_tried_under, .int tried_n, .int tried_holders, .int tried_cuts, .int tried_hour, .int tried_bears, .int tried_draw, .ref a])), (a_tried_kind, .inl (X.E 0, 8, .inl tried_kind)), (a_tried_strength, .inl (X.E 0, 8, .inl tried_strength)), (a_tried_place, .inl (X.E 0, 8, .inl tried_place)), (a_tried_length, .inl (X.E 0, 8, .inl tried_length)), (a_tried_gives, .inl (X.E 0, 8, .inl tried_gives)), (a_tried_over, .inl (X.E 1, 8, .inl tried_over)), (a_tried_under, .inl (X.E 1, 8, .inl tried_under)), (a_fell, .inl (X.E 1, 8, .inl fell))]) (stk := [.int r_10]) rfl rfl rfl ?_)
    clear hv
    refine g_if_eq (tgt := 116) h dX0_far_71 rfl hf (fun c11 hf => ?_) (fun c11 hf => ?_)
    · obtain ⟨rfl, rfl, rfl, rfl, rfl, rfl, rfl, rfl, rfl, rfl, rfl, rfl, rfl, rfl, rfl, rfl, rfl, rfl⟩ := sj18 hf
      exact G.lsub [3] rfl (k1 rfl)
    · refine g_aload_n h 0 dX0_far_74 rfl rfl ?_
      obtain ⟨tried_n_12, tried_holders_13, tried_cuts_14, tried_hour_15, tried_bears_16, tried_draw_17, tried_kind_18, tried_strength_19, tried_place_20, tried_length_21, tried_gives_22, hv, hf⟩ := ob11 hf
      refine g_callV (ci := 0) (q0 := 0) (n := 0) (As := []) (st := []) (wr := [(a_kinds, .inl (X.E 5, 5, .inr (.inr (.inr (.inr (kq a_kinds_0 a_kinds_1 a_kinds_2 a_kinds_3 a_kinds_4)))))), (a_kinds_0, .inr (1, [])), (a_kinds_1, .inr (2, [])), (a_kinds_2, .inr (3, [])), (a_kinds_3, .inr (4, [])), (a_kinds_4, .inr (5, [])), (a_tried_over, .inl (X.E 1, 8, .inl tried_over)), (a_tried_under, .inl (X.E 1, 8, .inl tried_under)), (a_fell, .inl (X.E 1, 8, .inl fell))]) (isC := [0, 7, 8, 9, 10, 11, 12, 13, 14, 15, 16, 17, 18]) (isR := [1, 2, 3, 4, 5, 6, 19, 20, 21]) h hR (ct_X0_tries (a := a) (a_kinds := a_kinds) (a_town := a_town) (a_tried := a_tried) (a_fell := a_fell) (a_tape := a_tape) (a_read := a_read) (a_undos := a_undos) (a_kept := a_kept) (a_keptUndos := a_keptUndos) (a_sheets := a_sheets) (a_taken := a_taken) (a_town_kind := a_town_kind) (a_town_strength := a_town_strength) (a_town_place := a_town_place) (a_town_length := a_town_length) (a_town_gives := a_town_gives) (a_town_over := a_town_over) (a_town_under := a_town_under) (a_tried_kind := a_tried_kind) (a_tried_strength := a_tried_strength) (a_tried_place := a_tried_place) (a_tried_length := a_tried_length) (a_tried_gives := a_tried_gives) (a_tried_over := a_tried_over) (a_tried_under := a_tried_under) (falls := falls) (tears := tears) (typed := typed) (place := place) (isKept := isKept) (town_n := town_n) (town_holders := town_holders) (town_cuts := town_cuts) (town_hour := town_hour) (town_bears := town_bears) (town_draw := town_draw) (town_kind := town_kind) (town_strength := town_strength) (town_place := town_place) (town_length := town_length) (town_gives := town_gives) (tried_n := tried_n) (tried_holders := tried_holders) (tried_cuts := tried_cuts) (tried_hour := tried_hour) (tried_bears := tried_bears) (tried_draw := tried_draw) (tried_kind := tried_kind) (tried_strength := tried_strength) (tried_place := tried_place) (tried_length := tried_length) (tried_gives := tried_gives) hv) rfl rfl (lw_V q772 q774 qs19 q70 q775) (by decide +kernel) rfl ⟨rfl, rfl, rfl, rfl, by decide⟩ ⟨hce, hsl, fle rfl, fle rfl, fle rfl⟩ rfl dX0_far_75 (pin (perm := [9, 0, 1, 2, 3, 4, 5, 10, 11, 12, 13, 14, 15, 16, 17, 18, 19, 20, 21, 6, 7, 8]) (ws' := [(a, .inr (0, [.ref a_kinds, .ref a_town, .ref a_tried, .ref a_fell, .int falls, .int tears, .ref a_tape, .int typed, .int place, .ref a_read, .ref a_undos, .ref a_kept, .ref a_keptUndos, .int isKept, .ref a_sheets, .ref a_taken])), (a_kinds, .inl (X.E 5, 5, .inr (.inr (.inr (.inr (kq a_kinds_0 a_kinds_1 a_kinds_2 a_kinds_3 a_kinds_4)))))), (a_kinds_0, .inr (1, [])), (a_kinds_1, .inr (2, [])), (a_kinds_2, .inr (3, [])), (a_kinds_3, .inr (4, [])), (a_kinds_4, .inr (5, [])), (a_town, .inr (6, [.ref a_town_kind, .ref a_town_strength, .ref a_town_place, .ref a_town_length, .ref a_town_gives, .ref a_town_over, .ref a_town_under, .int town_n, .int town_holders, .int town_cuts, .int town_hour, .int town_bears, .int town_draw, .ref a])), (a_town_kind, .inl (X.E 0, 8, .inl town_kind)), (a_town_strength, .inl (X.E 0, 8, .inl town_strength)), (a_town_place, .inl (X.E 0, 8, .inl town_place)), (a_town_length, .inl (X.E 0, 8, .inl town_length)), (a_town_gives, .inl (X.E 0, 8, .inl town_gives)), (a_tried, .inr (6, [.ref a_tried_kind, .ref a_tried_strength, .ref a_tried_place, .ref a_tried_length, .ref a_tried_gives, .ref a_tried_over, .ref a_tried_under, .int tried_n_12, .int tried_holders_13, .int tried_cuts_14, .int tried_hour_15, .int tried_bears_16, .int tried_draw_17, .ref a])), (a_tried_kind, .inl (X.E 0, 8, .inl tried_kind_18)), (a_tried_strength, .inl (X.E 0, 8, .inl tried_strength_19)), (a_tried_place, .inl (X.E 0, 8, .inl tried_place_20)), (a_tried_length, .inl (X.E 0, 8, .inl tried_length_21)), (a_tried_gives, .inl (X.E 0, 8, .inl tried_gives_22)), (a_tried_over, .inl (X.E 1, 8, .inl tried_over)), (a_tried_under, .inl (X.E 1, 8, .inl tried_under)), (a_fell, .inl (X.E 1, 8, .inl fell))]) (stk := [.ref a_tried]) rfl rfl rfl ?_)
      clear hv
      refine g_astore (lv' := [(5, .ref a_tried), (0, .ref a), (1, .int x1), (3, .int x3), (4, .int x4)]) h dX0_far_78 (hL 5 (fle rfl)) rfl ?_
      refine g_aload h 0 dX0_far_80 rfl ?_
      refine g_getN (ci := 6) (v := .ref a_tried_place) h in_X6 13 2 rfl rfl (fle rfl) rfl q554 rfl dX0_far_82 ?_
      refine g_iload_n h 2 dX0_far_85 rfl rfl ?_
      refine g_dup2 h dX0_far_86 rfl rfl ?_
      refine g_baload h 16 rfl g9 dX0_far_87 ?_
      refine g_iload_n h 3 dX0_far_88 rfl rfl ?_
      refine g_iload h 4 dX0_far_89 rfl ?_
      refine g_iconst (v := 1) h dX0_far_91 kiconst_1 ?_
      refine g_iadd h dX0_far_92 ?_
      refine g_imul h dX0_far_93 ?_
      refine g_i2b h dX0_far_94 ?_
      refine g_iadd h dX0_far_95 ?_
      refine g_i2b h dX0_far_96 ?_
      refine g_bastore (ws' := [(a, .inr (0, [.ref a_kinds, .ref a_town, .ref a_tried, .ref a_fell, .int falls, .int tears, .ref a_tape, .int typed, .int place, .ref a_read, .ref a_undos, .ref a_kept, .ref a_keptUndos, .int isKept, .ref a_sheets, .ref a_taken])), (a_kinds, .inl (X.E 5, 5, .inr (.inr (.inr (.inr (kq a_kinds_0 a_kinds_1 a_kinds_2 a_kinds_3 a_kinds_4)))))), (a_kinds_0, .inr (1, [])), (a_kinds_1, .inr (2, [])), (a_kinds_2, .inr (3, [])), (a_kinds_3, .inr (4, [])), (a_kinds_4, .inr (5, [])), (a_town, .inr (6, [.ref a_town_kind, .ref a_town_strength, .ref a_town_place, .ref a_town_length, .ref a_town_gives, .ref a_town_over, .ref a_town_under, .int town_n, .int town_holders, .int town_cuts, .int town_hour, .int town_bears, .int town_draw, .ref a])), (a_town_kind, .inl (X.E 0, 8, .inl town_kind)), (a_town_strength, .inl (X.E 0, 8, .inl town_strength)), (a_town_place, .inl (X.E 0, 8, .inl town_place)), (a_town_length, .inl (X.E 0, 8, .inl town_length)), (a_town_gives, .inl (X.E 0, 8, .inl town_gives)), (a_tried, .inr (6, [.ref a_tried_kind, .ref a_tried_strength, .ref a_tried_place, .ref a_tried_length, .ref a_tried_gives, .ref a_tried_over, .ref a_tried_under, .int tried_n_12, .int tried_holders_13, .int tried_cuts_14, .int tried_hour_15, .int tried_bears_16, .int tried_draw_17, .ref a])), (a_tried_kind, .inl (X.E 0, 8, .inl tried_kind_18)), (a_tried_strength, .inl (X.E 0, 8, .inl tried_strength_19)), (a_tried_place, .inl (X.E 0, 8, .inl (upd tried_place_20 x1.toNatClampNeg (vp_nar .byte (((tried_place_20 x1.toNatClampNeg) + (x3 * (x4 + 1)).toInt8.toInt32).toInt8.toInt32))))), (a_tried_length, .inl (X.E 0, 8, .inl tried_length_21)), (a_tried_gives, .inl (X.E 0, 8, .inl tried_gives_22)), (a_tried_over, .inl (X.E 1, 8, .inl tried_over)), (a_tried_under, .inl (X.E 1, 8, .inl tried_under)), (a_fell, .inl (X.E 1, 8, .inl fell))]) h 16 rfl g9 rfl dX0_far_97 ?_
      refine g_aload_n h 1 dX0_far_98 rfl rfl ?_
      refine g_aload h 0 dX0_far_99 rfl ?_
      obtain ⟨r_23, falls_24, tears_25, fell_26, tried_holders_27, tried_cuts_28, tried_over_29, tried_under_30, hv, hf⟩ := ob8 hf
      refine g_callV (ci := 0) (q0 := 0) (n := 1) (As := [.ref a_tried]) (st := []) (wr := [(a_town, .inr (6, [.ref a_town_kind, .ref a_town_strength, .ref a_town_place, .ref a_town_length, .ref a_town_gives, .ref a_town_over, .ref a_town_under, .int town_n, .int town_holders, .int town_cuts, .int town_hour, .int town_bears, .int town_draw, .ref a])), (a_town_kind, .inl (X.E 0, 8, .inl town_kind)), (a_town_strength, .inl (X.E 0, 8, .inl town_strength)), (a_town_place, .inl (X.E 0, 8, .inl town_place)), (a_town_length, .inl (X.E 0, 8, .inl town_length)), (a_town_gives, .inl (X.E 0, 8, .inl town_gives))]) (isC := [0, 1, 2, 3, 4, 5, 6, 21, 13, 14, 15, 16, 17, 18, 19, 20]) (isR := [7, 8, 9, 10, 11, 12]) h hR (ct_X0_isStill (a := a) (a_t1 := a_tried) (a_kinds := a_kinds) (a_town := a_town) (a_tried := a_tried) (a_fell := a_fell) (a_tape := a_tape) (a_read := a_read) (a_undos := a_undos) (a_kept := a_kept) (a_keptUndos := a_keptUndos) (a_sheets := a_sheets) (a_taken := a_taken) (a_kinds_0 := a_kinds_0) (a_kinds_1 := a_kinds_1) (a_kinds_2 := a_kinds_2) (a_kinds_3 := a_kinds_3) (a_kinds_4 := a_kinds_4) (a_t1_kind := a_tried_kind) (a_t1_strength := a_tried_strength) (a_t1_place := a_tried_place) (a_t1_length := a_tried_length) (a_t1_gives := a_tried_gives) (a_t1_over := a_tried_over) (a_t1_under := a_tried_under) (falls := falls) (tears := tears) (typed := typed) (place := place) (isKept := isKept) (fell := fell) (t1_n := tried_n_12) (t1_holders := tried_holders_13) (t1_cuts := tried_cuts_14) (t1_hour := tried_hour_15) (t1_bears := tried_bears_16) (t1_draw := tried_draw_17) (t1_kind := tried_kind_18) (t1_strength := tried_strength_19) (t1_place := upd tried_place_20 x1.toNatClampNeg (vp_nar .byte (((tried_place_20 x1.toNatClampNeg) + (x3 * (x4 + 1)).toInt8.toInt32).toInt8.toInt32))) (t1_length := tried_length_21) (t1_gives := tried_gives_22) (t1_over := tried_over) (t1_under := tried_under) hv) rfl rfl (lw_V q776 q778 qs20 q70 q779) (by decide +kernel) rfl ⟨rfl, rfl, rfl, rfl, by decide⟩ ⟨hce, hsl, fle rfl, fle rfl, fle rfl⟩ rfl dX0_far_101 (pin (perm := [6, 7, 8, 9, 10, 11, 12, 0, 1, 2, 3, 4, 5, 14, 15, 16, 17, 18, 19, 20, 21, 13]) (ws' := [(a, .inr (0, [.ref a_kinds, .ref a_town, .ref a_tried, .ref a_fell, .int falls_24, .int tears_25, .ref a_tape, .int typed, .int place, .ref a_read, .ref a_undos, .ref a_kept, .ref a_keptUndos, .int isKept, .ref a_sheets, .ref a_taken])), (a_kinds, .inl (X.E 5, 5, .inr (.inr (.inr (.inr (kq a_kinds_0 a_kinds_1 a_kinds_2 a_kinds_3 a_kinds_4)))))), (a_kinds_0, .inr (1, [])), (a_kinds_1, .inr (2, [])), (a_kinds_2, .inr (3, [])), (a_kinds_3, .inr (4, [])), (a_kinds_4, .inr (5, [])), (a_town, .inr (6, [.ref a_town_kind, .ref a_town_strength, .ref a_town_place, .ref a_town_length, .ref a_town_gives, .ref a_town_over, .ref a_town_under, .int town_n, .int town_holders, .int town_cuts, .int town_hour, .int town_bears, .int town_draw, .ref a])), (a_town_kind, .inl (X.E 0, 8, .inl town_kind)), (a_town_strength, .inl (X.E 0, 8, .inl town_strength)), (a_town_place, .inl (X.E 0, 8, .inl town_place)), (a_town_length, .inl (X.E 0, 8, .inl town_length)), (a_town_gives, .inl (X.E 0, 8, .inl town_gives)), (a_tried, .inr (6, [.ref a_tried_kind, .ref a_tried_strength, .ref a_tried_place, .ref a_tried_length, .ref a_tried_gives, .ref a_tried_over, .ref a_tried_under, .int tried_n_12, .int tried_holders_27, .int tried_cuts_28, .int tried_hour_15, .int tried_bears_16, .int tried_draw_17, .ref a])), (a_tried_kind, .inl (X.E 0, 8, .inl tried_kind_18)), (a_tried_strength, .inl (X.E 0, 8, .inl tried_strength_19)), (a_tried_place, .inl (X.E 0, 8, .inl (upd tried_place_20 x1.toNatClampNeg (vp_nar .byte (((tried_place_20 x1.toNatClampNeg) + (x3 * (x4 + 1)).toInt8.toInt32).toInt8.toInt32))))), (a_tried_length, .inl (X.E 0, 8, .inl tried_length_21)), (a_tried_gives, .inl (X.E 0, 8, .inl tried_gives_22)), (a_tried_over, .inl (X.E 1, 8, .inl tried_over_29)), (a_tried_under, .inl (X.E 1, 8, .inl tried_under_30)), (a_fell, .inl (X.E 1, 8, .inl fell_26))]) (stk := [.int r_23]) rfl rfl rfl ?_)
      clear hv
      refine g_if_ne (tgt := 110) h dX0_far_104 rfl hf (fun c31 hf => ?_) (fun c31 hf => ?_)
      · obtain ⟨rfl, rfl, rfl, rfl, rfl, rfl, rfl, rfl, rfl, rfl, rfl, rfl, rfl, rfl, rfl, rfl, rfl, rfl⟩ := sj18 hf
        exact G.lsub [4] rfl (k0 rfl)
      · refine g_iinc (j := 4) (v := (x4 + 1)) (lv' := [(4, .int (x4 + 1)), (5, .ref a_tried), (0, .ref a), (1, .int x1), (3, .int x3)]) h dX0_far_110 rfl (kinc_1 _) (hL 4 (fle rfl)) rfl ?_
        refine g_goto (tgt := 47) h dX0_far_113 rfl ?_
        exact G.lsub [2, 3, 4, 0] rfl (ih _ _ _ _ _ _ _ _ _ _ _ _ _ _ _ _ _ hf k0 k1)
set_option maxHeartbeats 4000000 in
set_option maxRecDepth 100000 in
theorem ct_X0_far {l : Launch} {D : va_G} {E : Ety} {a a_kinds a_town a_tried a_fell a_tape a_read a_undos a_kept a_keptUndos a_sheets a_taken a_kinds_0 a_kinds_1 a_kinds_2 a_kinds_3 a_kinds_4 a_town_kind a_town_strength a_town_place a_town_length a_town_gives a_town_over a_town_under a_tried_kind a_tried_strength a_tried_place a_tried_length a_tried_gives a_tried_over a_tried_under : Nat} {x1 : Int32} {x2 : Int32} {falls : Int32} {tears : Int32} {typed : Int32} {place : Int32} {isKept : Int32} {town_n : Int32} {town_holders : Int32} {town_cuts : Int32} {town_hour : Int32} {town_bears : Int32} {town_draw : Int32} {town_kind : Nat → Int32} {town_strength : Nat → Int32} {town_place : Nat → Int32} {town_length : Nat → Int32} {town_gives : Nat → Int32} {tried_n : Int32} {tried_holders : Int32} {tried_cuts : Int32} {tried_hour : Int32} {tried_bears : Int32} {tried_draw : Int32} {tried_kind : Nat → Int32} {tried_strength : Nat → Int32} {tried_place : Nat → Int32} {tried_length : Nat → Int32} {tried_gives : Nat → Int32} {tried_over : Nat → Int32} {tried_under : Nat → Int32} {fell : Nat → Int32} {r_ : Int32} {o_falls : Int32} {o_tears : Int32} {o_tried_n : Int32} {o_tried_holders : Int32} {o_tried_cuts : Int32} {o_tried_hour : Int32} {o_tried_bears : Int32} {o_tried_draw : Int32} {o_tried_kind : Nat → Int32} {o_tried_strength : Nat → Int32} {o_tried_place : Nat → Int32} {o_tried_length : Nat → Int32} {o_tried_gives : Nat → Int32} {o_tried_over : Nat → Int32} {o_tried_under : Nat → Int32} {o_fell : Nat → Int32} (hf : f_X0_far x1 x2 falls tears town_n town_holders town_cuts town_hour town_bears town_draw town_kind town_strength town_place town_length town_gives tried_n tried_holders tried_cuts tried_hour tried_bears tried_draw tried_kind tried_strength tried_place tried_length tried_gives tried_over tried_under fell = some (r_, o_falls, o_tears, o_tried_n, o_tried_holders, o_tried_cuts, o_tried_hour, o_tried_bears, o_tried_draw, o_tried_kind, o_tried_strength, o_tried_place, o_tried_length, o_tried_gives, o_tried_over, o_tried_under, o_fell)) : Ct l yX0_far cX0_far 6 (some .int) 7 159 0 0 D E [.ref a, .int x1, .int x2] [(a, .inr (0, [.ref a_kinds, .ref a_town, .ref a_tried, .ref a_fell, .int falls, .int tears, .ref a_tape, .int typed, .int place, .ref a_read, .ref a_undos, .ref a_kept, .ref a_keptUndos, .int isKept, .ref a_sheets, .ref a_taken])), (a_kinds, .inl (E 5, 5, .inr (.inr (.inr (.inr (kq a_kinds_0 a_kinds_1 a_kinds_2 a_kinds_3 a_kinds_4)))))), (a_kinds_0, .inr (1, [])), (a_kinds_1, .inr (2, [])), (a_kinds_2, .inr (3, [])), (a_kinds_3, .inr (4, [])), (a_kinds_4, .inr (5, [])), (a_town, .inr (6, [.ref a_town_kind, .ref a_town_strength, .ref a_town_place, .ref a_town_length, .ref a_town_gives, .ref a_town_over, .ref a_town_under, .int town_n, .int town_holders, .int town_cuts, .int town_hour, .int town_bears, .int town_draw, .ref a])), (a_town_kind, .inl (E 0, 8, .inl town_kind)), (a_town_strength, .inl (E 0, 8, .inl town_strength)), (a_town_place, .inl (E 0, 8, .inl town_place)), (a_town_length, .inl (E 0, 8, .inl town_length)), (a_town_gives, .inl (E 0, 8, .inl town_gives)), (a_tried, .inr (6, [.ref a_tried_kind, .ref a_tried_strength, .ref a_tried_place, .ref a_tried_length, .ref a_tried_gives, .ref a_tried_over, .ref a_tried_under, .int tried_n, .int tried_holders, .int tried_cuts, .int tried_hour, .int tried_bears, .int tried_draw, .ref a])), (a_tried_kind, .inl (E 0, 8, .inl tried_kind)), (a_tried_strength, .inl (E 0, 8, .inl tried_strength)), (a_tried_place, .inl (E 0, 8, .inl tried_place)), (a_tried_length, .inl (E 0, 8, .inl tried_length)), (a_tried_gives, .inl (E 0, 8, .inl tried_gives)), (a_tried_over, .inl (E 1, 8, .inl tried_over)), (a_tried_under, .inl (E 1, 8, .inl tried_under)), (a_fell, .inl (E 1, 8, .inl fell))] (Pn (some (.int r_)) [(a, .inr (0, [.ref a_kinds, .ref a_town, .ref a_tried, .ref a_fell, .int o_falls, .int o_tears, .ref a_tape, .int typed, .int place, .ref a_read, .ref a_undos, .ref a_kept, .ref a_keptUndos, .int isKept, .ref a_sheets, .ref a_taken])), (a_kinds, .inl (E 5, 5, .inr (.inr (.inr (.inr (kq a_kinds_0 a_kinds_1 a_kinds_2 a_kinds_3 a_kinds_4)))))), (a_kinds_0, .inr (1, [])), (a_kinds_1, .inr (2, [])), (a_kinds_2, .inr (3, [])), (a_kinds_3, .inr (4, [])), (a_kinds_4, .inr (5, [])), (a_town, .inr (6, [.ref a_town_kind, .ref a_town_strength, .ref a_town_place, .ref a_town_length, .ref a_town_gives, .ref a_town_over, .ref a_town_under, .int town_n, .int town_holders, .int town_cuts, .int town_hour, .int town_bears, .int town_draw, .ref a])), (a_town_kind, .inl (E 0, 8, .inl town_kind)), (a_town_strength, .inl (E 0, 8, .inl town_strength)), (a_town_place, .inl (E 0, 8, .inl town_place)), (a_town_length, .inl (E 0, 8, .inl town_length)), (a_town_gives, .inl (E 0, 8, .inl town_gives)), (a_tried, .inr (6, [.ref a_tried_kind, .ref a_tried_strength, .ref a_tried_place, .ref a_tried_length, .ref a_tried_gives, .ref a_tried_over, .ref a_tried_under, .int o_tried_n, .int o_tried_holders, .int o_tried_cuts, .int o_tried_hour, .int o_tried_bears, .int o_tried_draw, .ref a])), (a_tried_kind, .inl (E 0, 8, .inl o_tried_kind)), (a_tried_strength, .inl (E 0, 8, .inl o_tried_strength)), (a_tried_place, .inl (E 0, 8, .inl o_tried_place)), (a_tried_length, .inl (E 0, 8, .inl o_tried_length)), (a_tried_gives, .inl (E 0, 8, .inl o_tried_gives)), (a_tried_over, .inl (E 1, 8, .inl o_tried_over)), (a_tried_under, .inl (E 1, 8, .inl o_tried_under)), (a_fell, .inl (E 1, 8, .inl o_fell))]) := by
  refine ct_of (own := RX0) (plainFor_of_name (by decide)) rfl (fle rfl) rfl ?_
  intro X hl hD hE hnL hXF h hR hF hnm
  subst hl; subst hD; subst hE
  have hL : ∀ i, i < 6 → i < X.nL := fun i hi => by rw [hnL]; exact hi
  unfold f_X0_far at hf
  refine g_aload_n h 0 dX0_far_0 rfl rfl ?_
  refine g_iload_n h 1 dX0_far_1 rfl rfl ?_
  obtain ⟨r_1, hv, hf⟩ := ob1 hf
  refine g_callV (ci := 0) (q0 := 0) (n := 1) (As := [.int x1]) (st := []) (wr := [(a_kinds, .inl (X.E 5, 5, .inr (.inr (.inr (.inr (kq a_kinds_0 a_kinds_1 a_kinds_2 a_kinds_3 a_kinds_4)))))), (a_kinds_0, .inr (1, [])), (a_kinds_1, .inr (2, [])), (a_kinds_2, .inr (3, [])), (a_kinds_3, .inr (4, [])), (a_kinds_4, .inr (5, [])), (a_town_kind, .inl (X.E 0, 8, .inl town_kind)), (a_town_strength, .inl (X.E 0, 8, .inl town_strength)), (a_town_place, .inl (X.E 0, 8, .inl town_place)), (a_town_length, .inl (X.E 0, 8, .inl town_length)), (a_town_gives, .inl (X.E 0, 8, .inl town_gives)), (a_tried, .inr (6, [.ref a_tried_kind, .ref a_tried_strength, .ref a_tried_place, .ref a_tried_length, .ref a_tried_gives, .ref a_tried_over, .ref a_tried_under, .int tried_n, .int tried_holders, .int tried_cuts, .int tried_hour, .int tried_bears, .int tried_draw, .ref a])), (a_tried_kind, .inl (X.E 0, 8, .inl tried_kind)), (a_tried_strength, .inl (X.E 0, 8, .inl tried_strength)), (a_tried_place, .inl (X.E 0, 8, .inl tried_place)), (a_tried_length, .inl (X.E 0, 8, .inl tried_length)), (a_tried_gives, .inl (X.E 0, 8, .inl tried_gives)), (a_tried_over, .inl (X.E 1, 8, .inl tried_over)), (a_tried_under, .inl (X.E 1, 8, .inl tried_under)), (a_fell, .inl (X.E 1, 8, .inl fell))]) (isC := [0, 7]) (isR := [1, 2, 3, 4, 5, 6, 8, 9, 10, 11, 12, 13, 14, 15, 16, 17, 18, 19, 20, 21]) h hR (ct_X0_isPerson (a := a) (a_kinds := a_kinds) (a_town := a_town) (a_tried := a_tried) (a_fell := a_fell) (a_tape := a_tape) (a_read := a_read) (a_undos := a_undos) (a_kept := a_kept) (a_keptUndos := a_keptUndos) (a_sheets := a_sheets) (a_taken := a_taken) (a_town_kind := a_town_kind) (a_town_strength := a_town_strength) (a_town_place := a_town_place) (a_town_length := a_town_length) (a_town_gives := a_town_gives) (a_town_over := a_town_over) (a_town_under := a_town_under) (x1 := x1) (falls := falls) (tears := tears) (typed := typed) (place := place) (isKept := isKept) (town_n := town_n) (town_holders := town_holders) (town_cuts := town_cuts) (town_hour := town_hour) (town_bears := town_bears) (town_draw := town_draw) hv) rfl rfl (lw_V q234 q236 qs5 q70 q237) (by decide +kernel) rfl ⟨rfl, rfl, rfl, rfl, by decide⟩ ⟨fle rfl, fle rfl, fle rfl, fle rfl, fle rfl⟩ rfl dX0_far_2 (pin (perm := [20, 0, 1, 2, 3, 4, 5, 21, 6, 7, 8, 9, 10, 11, 12, 13, 14, 15, 16, 17, 18, 19]) (ws' := [(a, .inr (0, [.ref a_kinds, .ref a_town, .ref a_tried, .ref a_fell, .int falls, .int tears, .ref a_tape, .int typed, .int place, .ref a_read, .ref a_undos, .ref a_kept, .ref a_keptUndos, .int isKept, .ref a_sheets, .ref a_taken])), (a_kinds, .inl (X.E 5, 5, .inr (.inr (.inr (.inr (kq a_kinds_0 a_kinds_1 a_kinds_2 a_kinds_3 a_kinds_4)))))), (a_kinds_0, .inr (1, [])), (a_kinds_1, .inr (2, [])), (a_kinds_2, .inr (3, [])), (a_kinds_3, .inr (4, [])), (a_kinds_4, .inr (5, [])), (a_town, .inr (6, [.ref a_town_kind, .ref a_town_strength, .ref a_town_place, .ref a_town_length, .ref a_town_gives, .ref a_town_over, .ref a_town_under, .int town_n, .int town_holders, .int town_cuts, .int town_hour, .int town_bears, .int town_draw, .ref a])), (a_town_kind, .inl (X.E 0, 8, .inl town_kind)), (a_town_strength, .inl (X.E 0, 8, .inl town_strength)), (a_town_place, .inl (X.E 0, 8, .inl town_place)), (a_town_length, .inl (X.E 0, 8, .inl town_length)), (a_town_gives, .inl (X.E 0, 8, .inl town_gives)), (a_tried, .inr (6, [.ref a_tried_kind, .ref a_tried_strength, .ref a_tried_place, .ref a_tried_length, .ref a_tried_gives, .ref a_tried_over, .ref a_tried_under, .int tried_n, .int tried_holders, .int tried_cuts, .int tried_hour, .int tried_bears, .int tried_draw, .ref a])), (a_tried_kind, .inl (X.E 0, 8, .inl tried_kind)), (a_tried_strength, .inl (X.E 0, 8, .inl tried_strength)), (a_tried_place, .inl (X.E 0, 8, .inl tried_place)), (a_tried_length, .inl (X.E 0, 8, .inl tried_length)), (a_tried_gives, .inl (X.E 0, 8, .inl tried_gives)), (a_tried_over, .inl (X.E 1, 8, .inl tried_over)), (a_tried_under, .inl (X.E 1, 8, .inl tried_under)), (a_fell, .inl (X.E 1, 8, .inl fell))]) (stk := [.int r_1]) rfl rfl rfl ?_)
  clear hv
  refine g_if_eq (tgt := 18) h dX0_far_5 rfl hf (fun c2 hf => ?_) (fun c2 hf => ?_)
  · refine g_iconst (v := (-1)) h dX0_far_18 kiconst_m1 ?_
    obtain ⟨rfl, rfl, rfl, rfl, rfl, rfl, rfl, rfl, rfl, rfl, rfl, rfl, rfl, rfl, rfl, rfl, rfl⟩ := sj17 hf
    exact g_iret h hF [0, 1, 2, 3, 4, 5, 6, 7, 8, 9, 10, 11, 12, 13, 14, 15, 16, 17, 18, 19, 20, 21] rfl rfl ⟨rfl, rfl⟩ (fle rfl) (fle rfl) dX0_far_19
  · refine g_iload_n h 2 dX0_far_8 rfl rfl ?_
    refine g_i2l h dX0_far_9 ?_
    refine g_lconst (v := 0) h dX0_far_10 rfl ?_
    refine g_lconst (v := 1) h dX0_far_11 rfl ?_
    obtain ⟨r_3, hv, hf⟩ := ob1 hf
    refine g_callS (n := 3) (As := [.long x2.toInt64, .long 0, .long 1]) (st := []) (wr := [(a, .inr (0, [.ref a_kinds, .ref a_town, .ref a_tried, .ref a_fell, .int falls, .int tears, .ref a_tape, .int typed, .int place, .ref a_read, .ref a_undos, .ref a_kept, .ref a_keptUndos, .int isKept, .ref a_sheets, .ref a_taken])), (a_kinds, .inl (X.E 5, 5, .inr (.inr (.inr (.inr (kq a_kinds_0 a_kinds_1 a_kinds_2 a_kinds_3 a_kinds_4)))))), (a_kinds_0, .inr (1, [])), (a_kinds_1, .inr (2, [])), (a_kinds_2, .inr (3, [])), (a_kinds_3, .inr (4, [])), (a_kinds_4, .inr (5, [])), (a_town, .inr (6, [.ref a_town_kind, .ref a_town_strength, .ref a_town_place, .ref a_town_length, .ref a_town_gives, .ref a_town_over, .ref a_town_under, .int town_n, .int town_holders, .int town_cuts, .int town_hour, .int town_bears, .int town_draw, .ref a])), (a_town_kind, .inl (X.E 0, 8, .inl town_kind)), (a_town_strength, .inl (X.E 0, 8, .inl town_strength)), (a_town_place, .inl (X.E 0, 8, .inl town_place)), (a_town_length, .inl (X.E 0, 8, .inl town_length)), (a_town_gives, .inl (X.E 0, 8, .inl town_gives)), (a_tried, .inr (6, [.ref a_tried_kind, .ref a_tried_strength, .ref a_tried_place, .ref a_tried_length, .ref a_tried_gives, .ref a_tried_over, .ref a_tried_under, .int tried_n, .int tried_holders, .int tried_cuts, .int tried_hour, .int tried_bears, .int tried_draw, .ref a])), (a_tried_kind, .inl (X.E 0, 8, .inl tried_kind)), (a_tried_strength, .inl (X.E 0, 8, .inl tried_strength)), (a_tried_place, .inl (X.E 0, 8, .inl tried_place)), (a_tried_length, .inl (X.E 0, 8, .inl tried_length)), (a_tried_gives, .inl (X.E 0, 8, .inl tried_gives)), (a_tried_over, .inl (X.E 1, 8, .inl tried_over)), (a_tried_under, .inl (X.E 1, 8, .inl tried_under)), (a_fell, .inl (X.E 1, 8, .inl fell))]) (isC := []) (isR := [0, 1, 2, 3, 4, 5, 6, 7, 8, 9, 10, 11, 12, 13, 14, 15, 16, 17, 18, 19, 20, 21]) h hR (ct_X0_in (x0 := x2.toInt64) (x2 := 0) (x4 := 1) hv) (lw_S q107 q108 q70 q109) (by decide +kernel) rfl ⟨rfl, rfl, rfl, rfl, by decide⟩ ⟨fle rfl, fle rfl, fle rfl, fle rfl, fle rfl⟩ rfl dX0_far_12 (pin (perm := [0, 1, 2, 3, 4, 5, 6, 7, 8, 9, 10, 11, 12, 13, 14, 15, 16, 17, 18, 19, 20, 21]) (ws' := [(a, .inr (0, [.ref a_kinds, .ref a_town, .ref a_tried, .ref a_fell, .int falls, .int tears, .ref a_tape, .int typed, .int place, .ref a_read, .ref a_undos, .ref a_kept, .ref a_keptUndos, .int isKept, .ref a_sheets, .ref a_taken])), (a_kinds, .inl (X.E 5, 5, .inr (.inr (.inr (.inr (kq a_kinds_0 a_kinds_1 a_kinds_2 a_kinds_3 a_kinds_4)))))), (a_kinds_0, .inr (1, [])), (a_kinds_1, .inr (2, [])), (a_kinds_2, .inr (3, [])), (a_kinds_3, .inr (4, [])), (a_kinds_4, .inr (5, [])), (a_town, .inr (6, [.ref a_town_kind, .ref a_town_strength, .ref a_town_place, .ref a_town_length, .ref a_town_gives, .ref a_town_over, .ref a_town_under, .int town_n, .int town_holders, .int town_cuts, .int town_hour, .int town_bears, .int town_draw, .ref a])), (a_town_kind, .inl (X.E 0, 8, .inl town_kind)), (a_town_strength, .inl (X.E 0, 8, .inl town_strength)), (a_town_place, .inl (X.E 0, 8, .inl town_place)), (a_town_length, .inl (X.E 0, 8, .inl town_length)), (a_town_gives, .inl (X.E 0, 8, .inl town_gives)), (a_tried, .inr (6, [.ref a_tried_kind, .ref a_tried_strength, .ref a_tried_place, .ref a_tried_length, .ref a_tried_gives, .ref a_tried_over, .ref a_tried_under, .int tried_n, .int tried_holders, .int tried_cuts, .int tried_hour, .int tried_bears, .int tried_draw, .ref a])), (a_tried_kind, .inl (X.E 0, 8, .inl tried_kind)), (a_tried_strength, .inl (X.E 0, 8, .inl tried_strength)), (a_tried_place, .inl (X.E 0, 8, .inl tried_place)), (a_tried_length, .inl (X.E 0, 8, .inl tried_length)), (a_tried_gives, .inl (X.E 0, 8, .inl tried_gives)), (a_tried_over, .inl (X.E 1, 8, .inl tried_over)), (a_tried_under, .inl (X.E 1, 8, .inl tried_under)), (a_fell, .inl (X.E 1, 8, .inl fell))]) (stk := [.int r_3]) rfl rfl rfl ?_)
    clear hv
    refine g_if_ne (tgt := 20) h dX0_far_15 rfl hf (fun c4 hf => ?_) (fun c4 hf => ?_)
    · refine g_iconst (v := (-1)) h dX0_far_18 kiconst_m1 ?_
      obtain ⟨rfl, rfl, rfl, rfl, rfl, rfl, rfl, rfl, rfl, rfl, rfl, rfl, rfl, rfl, rfl, rfl, rfl⟩ := sj17 hf
      exact g_iret h hF [0, 1, 2, 3, 4, 5, 6, 7, 8, 9, 10, 11, 12, 13, 14, 15, 16, 17, 18, 19, 20, 21] rfl rfl ⟨rfl, rfl⟩ (fle rfl) (fle rfl) dX0_far_19
    · refine g_aload_n h 0 dX0_far_20 rfl rfl ?_
      refine g_get (ci := 0) (v := .ref a_town) h in_X0 0 1 rfl rfl (fle rfl) rfl q1112 rfl dX0_far_21 ?_
      refine g_iload_n h 1 dX0_far_24 rfl rfl ?_
      obtain ⟨r_5, hv, hf⟩ := ob1 hf
      refine g_callV (ci := 6) (q0 := 7) (n := 1) (As := [.int x1]) (st := []) (wr := [(a, .inr (0, [.ref a_kinds, .ref a_town, .ref a_tried, .ref a_fell, .int falls, .int tears, .ref a_tape, .int typed, .int place, .ref a_read, .ref a_undos, .ref a_kept, .ref a_keptUndos, .int isKept, .ref a_sheets, .ref a_taken])), (a_kinds, .inl (X.E 5, 5, .inr (.inr (.inr (.inr (kq a_kinds_0 a_kinds_1 a_kinds_2 a_kinds_3 a_kinds_4)))))), (a_kinds_0, .inr (1, [])), (a_kinds_1, .inr (2, [])), (a_kinds_2, .inr (3, [])), (a_kinds_3, .inr (4, [])), (a_kinds_4, .inr (5, [])), (a_town_kind, .inl (X.E 0, 8, .inl town_kind)), (a_town_strength, .inl (X.E 0, 8, .inl town_strength)), (a_town_place, .inl (X.E 0, 8, .inl town_place)), (a_town_length, .inl (X.E 0, 8, .inl town_length)), (a_town_gives, .inl (X.E 0, 8, .inl town_gives)), (a_tried, .inr (6, [.ref a_tried_kind, .ref a_tried_strength, .ref a_tried_place, .ref a_tried_length, .ref a_tried_gives, .ref a_tried_over, .ref a_tried_under, .int tried_n, .int tried_holders, .int tried_cuts, .int tried_hour, .int tried_bears, .int tried_draw, .ref a])), (a_tried_kind, .inl (X.E 0, 8, .inl tried_kind)), (a_tried_strength, .inl (X.E 0, 8, .inl tried_strength)), (a_tried_place, .inl (X.E 0, 8, .inl tried_place)), (a_tried_length, .inl (X.E 0, 8, .inl tried_length)), (a_tried_gives, .inl (X.E 0, 8, .inl tried_gives)), (a_tried_over, .inl (X.E 1, 8, .inl tried_over)), (a_tried_under, .inl (X.E 1, 8, .inl tried_under)), (a_fell, .inl (X.E 1, 8, .inl fell))]) (isC := [7]) (isR := [0, 1, 2, 3, 4, 5, 6, 8, 9, 10, 11, 12, 13, 14, 15, 16, 17, 18, 19, 20, 21]) h hR (ct_X6_holds (a := a_town) (a_kind := a_town_kind) (a_strength := a_town_strength) (a_place := a_town_place) (a_length := a_town_length) (a_gives := a_town_gives) (a_over := a_town_over) (a_under := a_town_under) (a_this0 := a) (x1 := x1) (n := town_n) (holders := town_holders) (cuts := town_cuts) (hour := town_hour) (bears := town_bears) (draw := town_draw) hv) rfl rfl (lw_V q155 q143 q144 q76 q145) (by decide +kernel) rfl ⟨rfl, rfl, rfl, rfl, by decide⟩ ⟨fle rfl, fle rfl, fle rfl, fle rfl, fle rfl⟩ rfl dX0_far_25 (pin (perm := [0, 1, 2, 3, 4, 5, 6, 21, 7, 8, 9, 10, 11, 12, 13, 14, 15, 16, 17, 18, 19, 20]) (ws' := [(a, .inr (0, [.ref a_kinds, .ref a_town, .ref a_tried, .ref a_fell, .int falls, .int tears, .ref a_tape, .int typed, .int place, .ref a_read, .ref a_undos, .ref a_kept, .ref a_keptUndos, .int isKept, .ref a_sheets, .ref a_taken])), (a_kinds, .inl (X.E 5, 5, .inr (.inr (.inr (.inr (kq a_kinds_0 a_kinds_1 a_kinds_2 a_kinds_3 a_kinds_4)))))), (a_kinds_0, .inr (1, [])), (a_kinds_1, .inr (2, [])), (a_kinds_2, .inr (3, [])), (a_kinds_3, .inr (4, [])), (a_kinds_4, .inr (5, [])), (a_town, .inr (6, [.ref a_town_kind, .ref a_town_strength, .ref a_town_place, .ref a_town_length, .ref a_town_gives, .ref a_town_over, .ref a_town_under, .int town_n, .int town_holders, .int town_cuts, .int town_hour, .int town_bears, .int town_draw, .ref a])), (a_town_kind, .inl (X.E 0, 8, .inl town_kind)), (a_town_strength, .inl (X.E 0, 8, .inl town_strength)), (a_town_place, .inl (X.E 0, 8, .inl town_place)), (a_town_length, .inl (X.E 0, 8, .inl town_length)), (a_town_gives, .inl (X.E 0, 8, .inl town_gives)), (a_tried, .inr (6, [.ref a_tried_kind, .ref a_tried_strength, .ref a_tried_place, .ref a_tried_length, .ref a_tried_gives, .ref a_tried_over, .ref a_tried_under, .int tried_n, .int tried_holders, .int tried_cuts, .int tried_hour, .int tried_bears, .int tried_draw, .ref a])), (a_tried_kind, .inl (X.E 0, 8, .inl tried_kind)), (a_tried_strength, .inl (X.E 0, 8, .inl tried_strength)), (a_tried_place, .inl (X.E 0, 8, .inl tried_place)), (a_tried_length, .inl (X.E 0, 8, .inl tried_length)), (a_tried_gives, .inl (X.E 0, 8, .inl tried_gives)), (a_tried_over, .inl (X.E 1, 8, .inl tried_over)), (a_tried_under, .inl (X.E 1, 8, .inl tried_under)), (a_fell, .inl (X.E 1, 8, .inl fell))]) (stk := [.int r_5]) rfl rfl rfl ?_)
      clear hv
      refine g_if_ne (tgt := 34) h dX0_far_28 rfl hf (fun c6 hf => ?_) (fun c6 hf => ?_)
      · refine g_bipush (v := (-2)) h dX0_far_31 kbipush_m2 ?_
        obtain ⟨rfl, rfl, rfl, rfl, rfl, rfl, rfl, rfl, rfl, rfl, rfl, rfl, rfl, rfl, rfl, rfl, rfl⟩ := sj17 hf
        exact g_iret h hF [0, 1, 2, 3, 4, 5, 6, 7, 8, 9, 10, 11, 12, 13, 14, 15, 16, 17, 18, 19, 20, 21] rfl rfl ⟨rfl, rfl⟩ (fle rfl) (fle rfl) dX0_far_33
      · refine g_iload_n h 2 dX0_far_34 rfl rfl ?_
        obtain ⟨z_8, hw, hf⟩ := ob1 hf
        have K35 : G X [(a, .inr (0, [.ref a_kinds, .ref a_town, .ref a_tried, .ref a_fell, .int falls, .int tears, .ref a_tape, .int typed, .int place, .ref a_read, .ref a_undos, .ref a_kept, .ref a_keptUndos, .int isKept, .ref a_sheets, .ref a_taken])), (a_kinds, .inl (X.E 5, 5, .inr (.inr (.inr (.inr (kq a_kinds_0 a_kinds_1 a_kinds_2 a_kinds_3 a_kinds_4)))))), (a_kinds_0, .inr (1, [])), (a_kinds_1, .inr (2, [])), (a_kinds_2, .inr (3, [])), (a_kinds_3, .inr (4, [])), (a_kinds_4, .inr (5, [])), (a_town, .inr (6, [.ref a_town_kind, .ref a_town_strength, .ref a_town_place, .ref a_town_length, .ref a_town_gives, .ref a_town_over, .ref a_town_under, .int town_n, .int town_holders, .int town_cuts, .int town_hour, .int town_bears, .int town_draw, .ref a])), (a_town_kind, .inl (X.E 0, 8, .inl town_kind)), (a_town_strength, .inl (X.E 0, 8, .inl town_strength)), (a_town_place, .inl (X.E 0, 8, .inl town_place)), (a_town_length, .inl (X.E 0, 8, .inl town_length)), (a_town_gives, .inl (X.E 0, 8, .inl town_gives)), (a_tried, .inr (6, [.ref a_tried_kind, .ref a_tried_strength, .ref a_tried_place, .ref a_tried_length, .ref a_tried_gives, .ref a_tried_over, .ref a_tried_under, .int tried_n, .int tried_holders, .int tried_cuts, .int tried_hour, .int tried_bears, .int tried_draw, .ref a])), (a_tried_kind, .inl (X.E 0, 8, .inl tried_kind)), (a_tried_strength, .inl (X.E 0, 8, .inl tried_strength)), (a_tried_place, .inl (X.E 0, 8, .inl tried_place)), (a_tried_length, .inl (X.E 0, 8, .inl tried_length)), (a_tried_gives, .inl (X.E 0, 8, .inl tried_gives)), (a_tried_over, .inl (X.E 1, 8, .inl tried_over)), (a_tried_under, .inl (X.E 1, 8, .inl tried_under)), (a_fell, .inl (X.E 1, 8, .inl fell))] [(0, .ref a), (1, .int x1)] 0 0 43 [.int z_8] := by
          clear hw
          refine g_istore_n (lv' := [(3, .int z_8), (0, .ref a), (1, .int x1)]) h dX0_far_43 rfl (hL 3 (fle rfl)) rfl ?_
          refine g_iconst (v := 0) h dX0_far_44 kiconst_0 ?_
          refine g_istore (lv' := [(4, .int 0), (3, .int z_8), (0, .ref a), (1, .int x1)]) h dX0_far_45 (hL 4 (fle rfl)) rfl ?_
          refine G.lsub (lv' := [(0, .ref a), (1, .int x1), (3, .int z_8), (4, .int 0)]) [2, 3, 1, 0] rfl ?_
          obtain ⟨tag_32, x4_33, falls_34, tears_35, tried_n_36, tried_holders_37, tried_cuts_38, tried_hour_39, tried_bears_40, tried_draw_41, tried_kind_42, tried_strength_43, tried_place_44, tried_length_45, tried_gives_46, tried_over_47, tried_under_48, fell_49, hv, hf⟩ := ob18 hf
          refine w_X0_far_L47 (x1 := x1) (x3 := z_8) (typed := typed) (place := place) (isKept := isKept) (town_n := town_n) (town_holders := town_holders) (town_cuts := town_cuts) (town_hour := town_hour) (town_bears := town_bears) (town_draw := town_draw) (town_kind := town_kind) (town_strength := town_strength) (town_place := town_place) (town_length := town_length) (town_gives := town_gives) h hR hL (fle rfl) (fle rfl) FU _ _ _ _ _ _ _ _ _ _ _ _ _ _ _ _ _ hv ?_ ?_
          · intro ht
            have hf := (if_pos ht).symm.trans hf
            clear hv
            refine g_goto (tgt := 116) h dX0_far_107 rfl ?_
            refine g_iload h 0 dX0_far_116 rfl ?_
            obtain ⟨rfl, rfl, rfl, rfl, rfl, rfl, rfl, rfl, rfl, rfl, rfl, rfl, rfl, rfl, rfl, rfl, rfl⟩ := sj17 hf
            exact g_iret h hF [0, 1, 2, 3, 4, 5, 6, 7, 8, 9, 10, 11, 12, 13, 14, 15, 16, 17, 18, 19, 20, 21] rfl rfl ⟨rfl, rfl⟩ (fle rfl) (fle rfl) dX0_far_118
          · intro ht
            have hf := (if_neg (show ¬ tag_32 = 0 from by rw [ht]; decide)).symm.trans hf
            clear hv
            refine g_iload h 0 dX0_far_116 rfl ?_
            obtain ⟨rfl, rfl, rfl, rfl, rfl, rfl, rfl, rfl, rfl, rfl, rfl, rfl, rfl, rfl, rfl, rfl, rfl⟩ := sj17 hf
            exact g_iret h hF [0, 1, 2, 3, 4, 5, 6, 7, 8, 9, 10, 11, 12, 13, 14, 15, 16, 17, 18, 19, 20, 21] rfl rfl ⟨rfl, rfl⟩ (fle rfl) (fle rfl) dX0_far_118
        clear hf
        have hf := hw
        clear hw
        refine g_if_ne (tgt := 42) h dX0_far_35 rfl hf (fun c7 hf => ?_) (fun c7 hf => ?_)
        · refine g_iconst (v := (-1)) h dX0_far_38 kiconst_m1 ?_
          refine g_goto (tgt := 43) h dX0_far_39 rfl ?_
          obtain rfl := sj1 hf
          exact G.lsub [0, 1] rfl K35
        · refine g_iconst (v := 1) h dX0_far_42 kiconst_1 ?_
          obtain rfl := sj1 hf
          exact G.lsub [0, 1] rfl K35
set_option maxHeartbeats 4000000 in
set_option maxRecDepth 100000 in
theorem ct_X0_fall {l : Launch} {D : va_G} {E : Ety} {a a_kinds a_town a_tried a_fell a_tape a_read a_undos a_kept a_keptUndos a_sheets a_taken a_kinds_0 a_kinds_1 a_kinds_2 a_kinds_3 a_kinds_4 a_town_kind a_town_strength a_town_place a_town_length a_town_gives a_town_over a_town_under a_tried_kind a_tried_strength a_tried_place a_tried_length a_tried_gives a_tried_over a_tried_under : Nat} {x1 : Int32} {x2 : Int32} {falls : Int32} {tears : Int32} {typed : Int32} {place : Int32} {isKept : Int32} {town_n : Int32} {town_holders : Int32} {town_cuts : Int32} {town_hour : Int32} {town_bears : Int32} {town_draw : Int32} {town_kind : Nat → Int32} {town_strength : Nat → Int32} {town_place : Nat → Int32} {town_length : Nat → Int32} {town_gives : Nat → Int32} {tried_n : Int32} {tried_holders : Int32} {tried_cuts : Int32} {tried_hour : Int32} {tried_bears : Int32} {tried_draw : Int32} {tried_kind : Nat → Int32} {tried_strength : Nat → Int32} {tried_place : Nat → Int32} {tried_length : Nat → Int32} {tried_gives : Nat → Int32} {tried_over : Nat → Int32} {tried_under : Nat → Int32} {fell : Nat → Int32} {r_ : Int32} {o_falls : Int32} {o_tears : Int32} {o_tried_n : Int32} {o_tried_holders : Int32} {o_tried_cuts : Int32} {o_tried_hour : Int32} {o_tried_bears : Int32} {o_tried_draw : Int32} {o_tried_kind : Nat → Int32} {o_tried_strength : Nat → Int32} {o_tried_place : Nat → Int32} {o_tried_length : Nat → Int32} {o_tried_gives : Nat → Int32} {o_tried_over : Nat → Int32} {o_tried_under : Nat → Int32} {o_fell : Nat → Int32} (hf : f_X0_fall x1 x2 falls tears town_n town_holders town_cuts town_hour town_bears town_draw town_kind town_strength town_place town_length town_gives tried_n tried_holders tried_cuts tried_hour tried_bears tried_draw tried_kind tried_strength tried_place tried_length tried_gives tried_over tried_under fell = some (r_, o_falls, o_tears, o_tried_n, o_tried_holders, o_tried_cuts, o_tried_hour, o_tried_bears, o_tried_draw, o_tried_kind, o_tried_strength, o_tried_place, o_tried_length, o_tried_gives, o_tried_over, o_tried_under, o_fell)) : Ct l yX0_fall cX0_fall 4 (some .int) 6 138 0 0 D E [.ref a, .int x1, .int x2] [(a, .inr (0, [.ref a_kinds, .ref a_town, .ref a_tried, .ref a_fell, .int falls, .int tears, .ref a_tape, .int typed, .int place, .ref a_read, .ref a_undos, .ref a_kept, .ref a_keptUndos, .int isKept, .ref a_sheets, .ref a_taken])), (a_kinds, .inl (E 5, 5, .inr (.inr (.inr (.inr (kq a_kinds_0 a_kinds_1 a_kinds_2 a_kinds_3 a_kinds_4)))))), (a_kinds_0, .inr (1, [])), (a_kinds_1, .inr (2, [])), (a_kinds_2, .inr (3, [])), (a_kinds_3, .inr (4, [])), (a_kinds_4, .inr (5, [])), (a_town, .inr (6, [.ref a_town_kind, .ref a_town_strength, .ref a_town_place, .ref a_town_length, .ref a_town_gives, .ref a_town_over, .ref a_town_under, .int town_n, .int town_holders, .int town_cuts, .int town_hour, .int town_bears, .int town_draw, .ref a])), (a_town_kind, .inl (E 0, 8, .inl town_kind)), (a_town_strength, .inl (E 0, 8, .inl town_strength)), (a_town_place, .inl (E 0, 8, .inl town_place)), (a_town_length, .inl (E 0, 8, .inl town_length)), (a_town_gives, .inl (E 0, 8, .inl town_gives)), (a_tried, .inr (6, [.ref a_tried_kind, .ref a_tried_strength, .ref a_tried_place, .ref a_tried_length, .ref a_tried_gives, .ref a_tried_over, .ref a_tried_under, .int tried_n, .int tried_holders, .int tried_cuts, .int tried_hour, .int tried_bears, .int tried_draw, .ref a])), (a_tried_kind, .inl (E 0, 8, .inl tried_kind)), (a_tried_strength, .inl (E 0, 8, .inl tried_strength)), (a_tried_place, .inl (E 0, 8, .inl tried_place)), (a_tried_length, .inl (E 0, 8, .inl tried_length)), (a_tried_gives, .inl (E 0, 8, .inl tried_gives)), (a_tried_over, .inl (E 1, 8, .inl tried_over)), (a_tried_under, .inl (E 1, 8, .inl tried_under)), (a_fell, .inl (E 1, 8, .inl fell))] (Pn (some (.int r_)) [(a, .inr (0, [.ref a_kinds, .ref a_town, .ref a_tried, .ref a_fell, .int o_falls, .int o_tears, .ref a_tape, .int typed, .int place, .ref a_read, .ref a_undos, .ref a_kept, .ref a_keptUndos, .int isKept, .ref a_sheets, .ref a_taken])), (a_kinds, .inl (E 5, 5, .inr (.inr (.inr (.inr (kq a_kinds_0 a_kinds_1 a_kinds_2 a_kinds_3 a_kinds_4)))))), (a_kinds_0, .inr (1, [])), (a_kinds_1, .inr (2, [])), (a_kinds_2, .inr (3, [])), (a_kinds_3, .inr (4, [])), (a_kinds_4, .inr (5, [])), (a_town, .inr (6, [.ref a_town_kind, .ref a_town_strength, .ref a_town_place, .ref a_town_length, .ref a_town_gives, .ref a_town_over, .ref a_town_under, .int town_n, .int town_holders, .int town_cuts, .int town_hour, .int town_bears, .int town_draw, .ref a])), (a_town_kind, .inl (E 0, 8, .inl town_kind)), (a_town_strength, .inl (E 0, 8, .inl town_strength)), (a_town_place, .inl (E 0, 8, .inl town_place)), (a_town_length, .inl (E 0, 8, .inl town_length)), (a_town_gives, .inl (E 0, 8, .inl town_gives)), (a_tried, .inr (6, [.ref a_tried_kind, .ref a_tried_strength, .ref a_tried_place, .ref a_tried_length, .ref a_tried_gives, .ref a_tried_over, .ref a_tried_under, .int o_tried_n, .int o_tried_holders, .int o_tried_cuts, .int o_tried_hour, .int o_tried_bears, .int o_tried_draw, .ref a])), (a_tried_kind, .inl (E 0, 8, .inl o_tried_kind)), (a_tried_strength, .inl (E 0, 8, .inl o_tried_strength)), (a_tried_place, .inl (E 0, 8, .inl o_tried_place)), (a_tried_length, .inl (E 0, 8, .inl o_tried_length)), (a_tried_gives, .inl (E 0, 8, .inl o_tried_gives)), (a_tried_over, .inl (E 1, 8, .inl o_tried_over)), (a_tried_under, .inl (E 1, 8, .inl o_tried_under)), (a_fell, .inl (E 1, 8, .inl o_fell))]) := by
  refine ct_of (own := RX0) (plainFor_of_name (by decide)) rfl (fle rfl) rfl ?_
  intro X hl hD hE hnL hXF h hR hF hnm
  subst hl; subst hD; subst hE
  have hL : ∀ i, i < 4 → i < X.nL := fun i hi => by rw [hnL]; exact hi
  unfold f_X0_fall at hf
  refine g_aload_n h 0 dX0_fall_0 rfl rfl ?_
  refine g_iload_n h 1 dX0_fall_1 rfl rfl ?_
  obtain ⟨r_1, hv, hf⟩ := ob1 hf
  refine g_callV (ci := 0) (q0 := 0) (n := 1) (As := [.int x1]) (st := []) (wr := [(a_kinds, .inl (X.E 5, 5, .inr (.inr (.inr (.inr (kq a_kinds_0 a_kinds_1 a_kinds_2 a_kinds_3 a_kinds_4)))))), (a_kinds_0, .inr (1, [])), (a_kinds_1, .inr (2, [])), (a_kinds_2, .inr (3, [])), (a_kinds_3, .inr (4, [])), (a_kinds_4, .inr (5, [])), (a_town_kind, .inl (X.E 0, 8, .inl town_kind)), (a_town_strength, .inl (X.E 0, 8, .inl town_strength)), (a_town_place, .inl (X.E 0, 8, .inl town_place)), (a_town_length, .inl (X.E 0, 8, .inl town_length)), (a_town_gives, .inl (X.E 0, 8, .inl town_gives)), (a_tried, .inr (6, [.ref a_tried_kind, .ref a_tried_strength, .ref a_tried_place, .ref a_tried_length, .ref a_tried_gives, .ref a_tried_over, .ref a_tried_under, .int tried_n, .int tried_holders, .int tried_cuts, .int tried_hour, .int tried_bears, .int tried_draw, .ref a])), (a_tried_kind, .inl (X.E 0, 8, .inl tried_kind)), (a_tried_strength, .inl (X.E 0, 8, .inl tried_strength)), (a_tried_place, .inl (X.E 0, 8, .inl tried_place)), (a_tried_length, .inl (X.E 0, 8, .inl tried_length)), (a_tried_gives, .inl (X.E 0, 8, .inl tried_gives)), (a_tried_over, .inl (X.E 1, 8, .inl tried_over)), (a_tried_under, .inl (X.E 1, 8, .inl tried_under)), (a_fell, .inl (X.E 1, 8, .inl fell))]) (isC := [0, 7]) (isR := [1, 2, 3, 4, 5, 6, 8, 9, 10, 11, 12, 13, 14, 15, 16, 17, 18, 19, 20, 21]) h hR (ct_X0_isPerson (a := a) (a_kinds := a_kinds) (a_town := a_town) (a_tried := a_tried) (a_fell := a_fell) (a_tape := a_tape) (a_read := a_read) (a_undos := a_undos) (a_kept := a_kept) (a_keptUndos := a_keptUndos) (a_sheets := a_sheets) (a_taken := a_taken) (a_town_kind := a_town_kind) (a_town_strength := a_town_strength) (a_town_place := a_town_place) (a_town_length := a_town_length) (a_town_gives := a_town_gives) (a_town_over := a_town_over) (a_town_under := a_town_under) (x1 := x1) (falls := falls) (tears := tears) (typed := typed) (place := place) (isKept := isKept) (town_n := town_n) (town_holders := town_holders) (town_cuts := town_cuts) (town_hour := town_hour) (town_bears := town_bears) (town_draw := town_draw) hv) rfl rfl (lw_V q234 q236 qs5 q70 q237) (by decide +kernel) rfl ⟨rfl, rfl, rfl, rfl, by decide⟩ ⟨fle rfl, fle rfl, fle rfl, fle rfl, fle rfl⟩ rfl dX0_fall_2 (pin (perm := [20, 0, 1, 2, 3, 4, 5, 21, 6, 7, 8, 9, 10, 11, 12, 13, 14, 15, 16, 17, 18, 19]) (ws' := [(a, .inr (0, [.ref a_kinds, .ref a_town, .ref a_tried, .ref a_fell, .int falls, .int tears, .ref a_tape, .int typed, .int place, .ref a_read, .ref a_undos, .ref a_kept, .ref a_keptUndos, .int isKept, .ref a_sheets, .ref a_taken])), (a_kinds, .inl (X.E 5, 5, .inr (.inr (.inr (.inr (kq a_kinds_0 a_kinds_1 a_kinds_2 a_kinds_3 a_kinds_4)))))), (a_kinds_0, .inr (1, [])), (a_kinds_1, .inr (2, [])), (a_kinds_2, .inr (3, [])), (a_kinds_3, .inr (4, [])), (a_kinds_4, .inr (5, [])), (a_town, .inr (6, [.ref a_town_kind, .ref a_town_strength, .ref a_town_place, .ref a_town_length, .ref a_town_gives, .ref a_town_over, .ref a_town_under, .int town_n, .int town_holders, .int town_cuts, .int town_hour, .int town_bears, .int town_draw, .ref a])), (a_town_kind, .inl (X.E 0, 8, .inl town_kind)), (a_town_strength, .inl (X.E 0, 8, .inl town_strength)), (a_town_place, .inl (X.E 0, 8, .inl town_place)), (a_town_length, .inl (X.E 0, 8, .inl town_length)), (a_town_gives, .inl (X.E 0, 8, .inl town_gives)), (a_tried, .inr (6, [.ref a_tried_kind, .ref a_tried_strength, .ref a_tried_place, .ref a_tried_length, .ref a_tried_gives, .ref a_tried_over, .ref a_tried_under, .int tried_n, .int tried_holders, .int tried_cuts, .int tried_hour, .int tried_bears, .int tried_draw, .ref a])), (a_tried_kind, .inl (X.E 0, 8, .inl tried_kind)), (a_tried_strength, .inl (X.E 0, 8, .inl tried_strength)), (a_tried_place, .inl (X.E 0, 8, .inl tried_place)), (a_tried_length, .inl (X.E 0, 8, .inl tried_length)), (a_tried_gives, .inl (X.E 0, 8, .inl tried_gives)), (a_tried_over, .inl (X.E 1, 8, .inl tried_over)), (a_tried_under, .inl (X.E 1, 8, .inl tried_under)), (a_fell, .inl (X.E 1, 8, .inl fell))]) (stk := [.int r_1]) rfl rfl rfl ?_)
  clear hv
  refine g_if_eq (tgt := 13) h dX0_fall_5 rfl hf (fun c2 hf => ?_) (fun c2 hf => ?_)
  · refine g_iconst (v := (-1)) h dX0_fall_13 kiconst_m1 ?_
    obtain ⟨rfl, rfl, rfl, rfl, rfl, rfl, rfl, rfl, rfl, rfl, rfl, rfl, rfl, rfl, rfl, rfl, rfl⟩ := sj17 hf
    exact g_iret h hF [0, 1, 2, 3, 4, 5, 6, 7, 8, 9, 10, 11, 12, 13, 14, 15, 16, 17, 18, 19, 20, 21] rfl rfl ⟨rfl, rfl⟩ (fle rfl) (fle rfl) dX0_fall_14
  · refine g_iload_n h 2 dX0_fall_8 rfl rfl ?_
    refine g_iconst (v := (-1)) h dX0_fall_9 kiconst_m1 ?_
    refine g_icmp_ge (tgt := 15) h dX0_fall_10 rfl hf (fun c3 hf => ?_) (fun c3 hf => ?_)
    · refine g_aload_n h 0 dX0_fall_15 rfl rfl ?_
      refine g_get (ci := 0) (v := .ref a_town) h in_X0 0 1 rfl rfl (fle rfl) rfl q1112 rfl dX0_fall_16 ?_
      refine g_iload_n h 1 dX0_fall_19 rfl rfl ?_
      obtain ⟨r_4, hv, hf⟩ := ob1 hf
      refine g_callV (ci := 6) (q0 := 7) (n := 1) (As := [.int x1]) (st := []) (wr := [(a, .inr (0, [.ref a_kinds, .ref a_town, .ref a_tried, .ref a_fell, .int falls, .int tears, .ref a_tape, .int typed, .int place, .ref a_read, .ref a_undos, .ref a_kept, .ref a_keptUndos, .int isKept, .ref a_sheets, .ref a_taken])), (a_kinds, .inl (X.E 5, 5, .inr (.inr (.inr (.inr (kq a_kinds_0 a_kinds_1 a_kinds_2 a_kinds_3 a_kinds_4)))))), (a_kinds_0, .inr (1, [])), (a_kinds_1, .inr (2, [])), (a_kinds_2, .inr (3, [])), (a_kinds_3, .inr (4, [])), (a_kinds_4, .inr (5, [])), (a_town_kind, .inl (X.E 0, 8, .inl town_kind)), (a_town_strength, .inl (X.E 0, 8, .inl town_strength)), (a_town_place, .inl (X.E 0, 8, .inl town_place)), (a_town_length, .inl (X.E 0, 8, .inl town_length)), (a_town_gives, .inl (X.E 0, 8, .inl town_gives)), (a_tried, .inr (6, [.ref a_tried_kind, .ref a_tried_strength, .ref a_tried_place, .ref a_tried_length, .ref a_tried_gives, .ref a_tried_over, .ref a_tried_under, .int tried_n, .int tried_holders, .int tried_cuts, .int tried_hour, .int tried_bears, .int tried_draw, .ref a])), (a_tried_kind, .inl (X.E 0, 8, .inl tried_kind)), (a_tried_strength, .inl (X.E 0, 8, .inl tried_strength)), (a_tried_place, .inl (X.E 0, 8, .inl tried_place)), (a_tried_length, .inl (X.E 0, 8, .inl tried_length)), (a_tried_gives, .inl (X.E 0, 8, .inl tried_gives)), (a_tried_over, .inl (X.E 1, 8, .inl tried_over)), (a_tried_under, .inl (X.E 1, 8, .inl tried_under)), (a_fell, .inl (X.E 1, 8, .inl fell))]) (isC := [7]) (isR := [0, 1, 2, 3, 4, 5, 6, 8, 9, 10, 11, 12, 13, 14, 15, 16, 17, 18, 19, 20, 21]) h hR (ct_X6_holds (a := a_town) (a_kind := a_town_kind) (a_strength := a_town_strength) (a_place := a_town_place) (a_length := a_town_length) (a_gives := a_town_gives) (a_over := a_town_over) (a_under := a_town_under) (a_this0 := a) (x1 := x1) (n := town_n) (holders := town_holders) (cuts := town_cuts) (hour := town_hour) (bears := town_bears) (draw := town_draw) hv) rfl rfl (lw_V q155 q143 q144 q76 q145) (by decide +kernel) rfl ⟨rfl, rfl, rfl, rfl, by decide⟩ ⟨fle rfl, fle rfl, fle rfl, fle rfl, fle rfl⟩ rfl dX0_fall_20 (pin (perm := [0, 1, 2, 3, 4, 5, 6, 21, 7, 8, 9, 10, 11, 12, 13, 14, 15, 16, 17, 18, 19, 20]) (ws' := [(a, .inr (0, [.ref a_kinds, .ref a_town, .ref a_tried, .ref a_fell, .int falls, .int tears, .ref a_tape, .int typed, .int place, .ref a_read, .ref a_undos, .ref a_kept, .ref a_keptUndos, .int isKept, .ref a_sheets, .ref a_taken])), (a_kinds, .inl (X.E 5, 5, .inr (.inr (.inr (.inr (kq a_kinds_0 a_kinds_1 a_kinds_2 a_kinds_3 a_kinds_4)))))), (a_kinds_0, .inr (1, [])), (a_kinds_1, .inr (2, [])), (a_kinds_2, .inr (3, [])), (a_kinds_3, .inr (4, [])), (a_kinds_4, .inr (5, [])), (a_town, .inr (6, [.ref a_town_kind, .ref a_town_strength, .ref a_town_place, .ref a_town_length, .ref a_town_gives, .ref a_town_over, .ref a_town_under, .int town_n, .int town_holders, .int town_cuts, .int town_hour, .int town_bears, .int town_draw, .ref a])), (a_town_kind, .inl (X.E 0, 8, .inl town_kind)), (a_town_strength, .inl (X.E 0, 8, .inl town_strength)), (a_town_place, .inl (X.E 0, 8, .inl town_place)), (a_town_length, .inl (X.E 0, 8, .inl town_length)), (a_town_gives, .inl (X.E 0, 8, .inl town_gives)), (a_tried, .inr (6, [.ref a_tried_kind, .ref a_tried_strength, .ref a_tried_place, .ref a_tried_length, .ref a_tried_gives, .ref a_tried_over, .ref a_tried_under, .int tried_n, .int tried_holders, .int tried_cuts, .int tried_hour, .int tried_bears, .int tried_draw, .ref a])), (a_tried_kind, .inl (X.E 0, 8, .inl tried_kind)), (a_tried_strength, .inl (X.E 0, 8, .inl tried_strength)), (a_tried_place, .inl (X.E 0, 8, .inl tried_place)), (a_tried_length, .inl (X.E 0, 8, .inl tried_length)), (a_tried_gives, .inl (X.E 0, 8, .inl tried_gives)), (a_tried_over, .inl (X.E 1, 8, .inl tried_over)), (a_tried_under, .inl (X.E 1, 8, .inl tried_under)), (a_fell, .inl (X.E 1, 8, .inl fell))]) (stk := [.int r_4]) rfl rfl rfl ?_)
      clear hv
      refine g_if_ne (tgt := 29) h dX0_fall_23 rfl hf (fun c5 hf => ?_) (fun c5 hf => ?_)
      · refine g_bipush (v := (-2)) h dX0_fall_26 kbipush_m2 ?_
        obtain ⟨rfl, rfl, rfl, rfl, rfl, rfl, rfl, rfl, rfl, rfl, rfl, rfl, rfl, rfl, rfl, rfl, rfl⟩ := sj17 hf
        exact g_iret h hF [0, 1, 2, 3, 4, 5, 6, 7, 8, 9, 10, 11, 12, 13, 14, 15, 16, 17, 18, 19, 20, 21] rfl rfl ⟨rfl, rfl⟩ (fle rfl) (fle rfl) dX0_fall_28
      · refine g_aload_n h 0 dX0_fall_29 rfl rfl ?_
        obtain ⟨tried_n_6, tried_holders_7, tried_cuts_8, tried_hour_9, tried_bears_10, tried_draw_11, tried_kind_12, tried_strength_13, tried_place_14, tried_length_15, tried_gives_16, hv, hf⟩ := ob11 hf
        refine g_callV (ci := 0) (q0 := 0) (n := 0) (As := []) (st := []) (wr := [(a_kinds, .inl (X.E 5, 5, .inr (.inr (.inr (.inr (kq a_kinds_0 a_kinds_1 a_kinds_2 a_kinds_3 a_kinds_4)))))), (a_kinds_0, .inr (1, [])), (a_kinds_1, .inr (2, [])), (a_kinds_2, .inr (3, [])), (a_kinds_3, .inr (4, [])), (a_kinds_4, .inr (5, [])), (a_tried_over, .inl (X.E 1, 8, .inl tried_over)), (a_tried_under, .inl (X.E 1, 8, .inl tried_under)), (a_fell, .inl (X.E 1, 8, .inl fell))]) (isC := [0, 7, 8, 9, 10, 11, 12, 13, 14, 15, 16, 17, 18]) (isR := [1, 2, 3, 4, 5, 6, 19, 20, 21]) h hR (ct_X0_tries (a := a) (a_kinds := a_kinds) (a_town := a_town) (a_tried := a_tried) (a_fell := a_fell) (a_tape := a_tape) (a_read := a_read) (a_undos := a_undos) (a_kept := a_kept) (a_keptUndos := a_keptUndos) (a_sheets := a_sheets) (a_taken := a_taken) (a_town_kind := a_town_kind) (a_town_strength := a_town_strength) (a_town_place := a_town_place) (a_town_length := a_town_length) (a_town_gives := a_town_gives) (a_town_over := a_town_over) (a_town_under := a_town_under) (a_tried_kind := a_tried_kind) (a_tried_strength := a_tried_strength) (a_tried_place := a_tried_place) (a_tried_length := a_tried_length) (a_tried_gives := a_tried_gives) (a_tried_over := a_tried_over) (a_tried_under := a_tried_under) (falls := falls) (tears := tears) (typed := typed) (place := place) (isKept := isKept) (town_n := town_n) (town_holders := town_holders) (town_cuts := town_cuts) (town_hour := town_hour) (town_bears := town_bears) (town_draw := town_draw) (town_kind := town_kind) (town_strength := town_strength) (town_place := town_place) (town_length := town_length) (town_gives := town_gives) (tried_n := tried_n) (tried_holders := tried_holders) (tried_cuts := tried_cuts) (tried_hour := tried_hour) (tried_bears := tried_bears) (tried_draw := tried_draw) (tried_kind := tried_kind) (tried_strength := tried_strength) (tried_place := tried_place) (tried_length := tried_length) (tried_gives := tried_gives) hv) rfl rfl (lw_V q772 q774 qs19 q70 q775) (by decide +kernel) rfl ⟨rfl, rfl, rfl, rfl, by decide⟩ ⟨fle rfl, fle rfl, fle rfl, fle rfl, fle rfl⟩ rfl dX0_fall_30 (pin (perm := [9, 0, 1, 2, 3, 4, 5, 10, 11, 12, 13, 14, 15, 16, 17, 18, 19, 20, 21, 6, 7, 8]) (ws' := [(a, .inr (0, [.ref a_kinds, .ref a_town, .ref a_tried, .ref a_fell, .int falls, .int tears, .ref a_tape, .int typed, .int place, .ref a_read, .ref a_undos, .ref a_kept, .ref a_keptUndos, .int isKept, .ref a_sheets, .ref a_taken])), (a_kinds, .inl (X.E 5, 5, .inr (.inr (.inr (.inr (kq a_kinds_0 a_kinds_1 a_kinds_2 a_kinds_3 a_kinds_4)))))), (a_kinds_0, .inr (1, [])), (a_kinds_1, .inr (2, [])), (a_kinds_2, .inr (3, [])), (a_kinds_3, .inr (4, [])), (a_kinds_4, .inr (5, [])), (a_town, .inr (6, [.ref a_town_kind, .ref a_town_strength, .ref a_town_place, .ref a_town_length, .ref a_town_gives, .ref a_town_over, .ref a_town_under, .int town_n, .int town_holders, .int town_cuts, .int town_hour, .int town_bears, .int town_draw, .ref a])), (a_town_kind, .inl (X.E 0, 8, .inl town_kind)), (a_town_strength, .inl (X.E 0, 8, .inl town_strength)), (a_town_place, .inl (X.E 0, 8, .inl town_place)), (a_town_length, .inl (X.E 0, 8, .inl town_length)), (a_town_gives, .inl (X.E 0, 8, .inl town_gives)), (a_tried, .inr (6, [.ref a_tried_kind, .ref a_tried_strength, .ref a_tried_place, .ref a_tried_length, .ref a_tried_gives, .ref a_tried_over, .ref a_tried_under, .int tried_n_6, .int tried_holders_7, .int tried_cuts_8, .int tried_hour_9, .int tried_bears_10, .int tried_draw_11, .ref a])), (a_tried_kind, .inl (X.E 0, 8, .inl tried_kind_12)), (a_tried_strength, .inl (X.E 0, 8, .inl tried_strength_13)), (a_tried_place, .inl (X.E 0, 8, .inl tried_place_14)), (a_tried_length, .inl (X.E 0, 8, .inl tried_length_15)), (a_tried_gives, .inl (X.E 0, 8, .inl tried_gives_16)), (a_tried_over, .inl (X.E 1, 8, .inl tried_over)), (a_tried_under, .inl (X.E 1, 8, .inl tried_under)), (a_fell, .inl (X.E 1, 8, .inl fell))]) (stk := [.ref a_tried]) rfl rfl rfl ?_)
        clear hv
        refine g_astore_n (lv' := [(3, .ref a_tried), (0, .ref a), (1, .int x1), (2, .int x2)]) h dX0_fall_33 rfl (hL 3 (fle rfl)) rfl ?_
        refine g_aload_n h 0 dX0_fall_34 rfl rfl ?_
        refine g_iload_n h 2 dX0_fall_35 rfl rfl ?_
        obtain ⟨tried_holders_17, hv, hf⟩ := ob1 hf
        refine g_callV (ci := 6) (q0 := 13) (n := 1) (As := [.int x1]) (st := []) (wr := [(a, .inr (0, [.ref a_kinds, .ref a_town, .ref a_tried, .ref a_fell, .int falls, .int tears, .ref a_tape, .int typed, .int place, .ref a_read, .ref a_undos, .ref a_kept, .ref a_keptUndos, .int isKept, .ref a_sheets, .ref a_taken])), (a_kinds, .inl (X.E 5, 5, .inr (.inr (.inr (.inr (kq a_kinds_0 a_kinds_1 a_kinds_2 a_kinds_3 a_kinds_4)))))), (a_kinds_0, .inr (1, [])), (a_kinds_1, .inr (2, [])), (a_kinds_2, .inr (3, [])), (a_kinds_3, .inr (4, [])), (a_kinds_4, .inr (5, [])), (a_town, .inr (6, [.ref a_town_kind, .ref a_town_strength, .ref a_town_place, .ref a_town_length, .ref a_town_gives, .ref a_town_over, .ref a_town_under, .int town_n, .int town_holders, .int town_cuts, .int town_hour, .int town_bears, .int town_draw, .ref a])), (a_town_kind, .inl (X.E 0, 8, .inl town_kind)), (a_town_strength, .inl (X.E 0, 8, .inl town_strength)), (a_town_place, .inl (X.E 0, 8, .inl town_place)), (a_town_length, .inl (X.E 0, 8, .inl town_length)), (a_town_gives, .inl (X.E 0, 8, .inl town_gives)), (a_tried_kind, .inl (X.E 0, 8, .inl tried_kind_12)), (a_tried_strength, .inl (X.E 0, 8, .inl tried_strength_13)), (a_tried_place, .inl (X.E 0, 8, .inl tried_place_14)), (a_tried_length, .inl (X.E 0, 8, .inl tried_length_15)), (a_tried_gives, .inl (X.E 0, 8, .inl tried_gives_16)), (a_tried_over, .inl (X.E 1, 8, .inl tried_over)), (a_tried_under, .inl (X.E 1, 8, .inl tried_under)), (a_fell, .inl (X.E 1, 8, .inl fell))]) (isC := [13]) (isR := [0, 1, 2, 3, 4, 5, 6, 7, 8, 9, 10, 11, 12, 14, 15, 16, 17, 18, 19, 20, 21]) h hR (ct_X6_lets (a := a_tried) (a_kind := a_tried_kind) (a_strength := a_tried_strength) (a_place := a_tried_place) (a_length := a_tried_length) (a_gives := a_tried_gives) (a_over := a_tried_over) (a_under := a_tried_under) (a_this0 := a) (x1 := x1) (n := tried_n_6) (holders := tried_holders_7) (cuts := tried_cuts_8) (hour := tried_hour_9) (bears := tried_bears_10) (draw := tried_draw_11) hv) rfl rfl (lw_V q226 q227 q228 q76 q229) (by decide +kernel) rfl ⟨rfl, rfl, rfl, rfl, by decide⟩ ⟨fle rfl, fle rfl, fle rfl, fle rfl, fle rfl⟩ rfl dX0_fall_36 (pin (perm := [0, 1, 2, 3, 4, 5, 6, 7, 8, 9, 10, 11, 12, 21, 13, 14, 15, 16, 17, 18, 19, 20]) (ws' := [(a, .inr (0, [.ref a_kinds, .ref a_town, .ref a_tried, .ref a_fell, .int falls, .int tears, .ref a_tape, .int typed, .int place, .ref a_read, .ref a_undos, .ref a_kept, .ref a_keptUndos, .int isKept, .ref a_sheets, .ref a_taken])), (a_kinds, .inl (X.E 5, 5, .inr (.inr (.inr (.inr (kq a_kinds_0 a_kinds_1 a_kinds_2 a_kinds_3 a_kinds_4)))))), (a_kinds_0, .inr (1, [])), (a_kinds_1, .inr (2, [])), (a_kinds_2, .inr (3, [])), (a_kinds_3, .inr (4, [])), (a_kinds_4, .inr (5, [])), (a_town, .inr (6, [.ref a_town_kind, .ref a_town_strength, .ref a_town_place, .ref a_town_length, .ref a_town_gives, .ref a_town_over, .ref a_town_under, .int town_n, .int town_holders, .int town_cuts, .int town_hour, .int town_bears, .int town_draw, .ref a])), (a_town_kind, .inl (X.E 0, 8, .inl town_kind)), (a_town_strength, .inl (X.E 0, 8, .inl town_strength)), (a_town_place, .inl (X.E 0, 8, .inl town_place)), (a_town_length, .inl (X.E 0, 8, .inl town_length)), (a_town_gives, .inl (X.E 0, 8, .inl town_gives)), (a_tried, .inr (6, [.ref a_tried_kind, .ref a_tried_strength, .ref a_tried_place, .ref a_tried_length, .ref a_tried_gives, .ref a_tried_over, .ref a_tried_under, .int tried_n_6, .int tried_holders_17, .int tried_cuts_8, .int tried_hour_9, .int tried_bears_10, .int tried_draw_11, .ref a])), (a_tried_kind, .inl (X.E 0, 8, .inl tried_kind_12)), (a_tried_strength, .inl (X.E 0, 8, .inl tried_strength_13)), (a_tried_place, .inl (X.E 0, 8, .inl tried_place_14)), (a_tried_length, .inl (X.E 0, 8, .inl tried_length_15)), (a_tried_gives, .inl (X.E 0, 8, .inl tried_gives_16)), (a_tried_over, .inl (X.E 1, 8, .inl tried_over)), (a_tried_under, .inl (X.E 1, 8, .inl tried_under)), (a_fell, .inl (X.E 1, 8, .inl fell))]) (stk := []) rfl rfl rfl ?_)
        clear hv
        refine g_aload_n h 1 dX0_fall_39 rfl rfl ?_
        refine g_aload_n h 0 dX0_fall_40 rfl rfl ?_
        obtain ⟨r_18, falls_19, tears_20, fell_21, tried_holders_22, tried_cuts_23, tried_over_24, tried_under_25, hv, hf⟩ := ob8 hf
        refine g_callV (ci := 0) (q0 := 0) (n := 1) (As := [.ref a_tried]) (st := []) (wr := [(a_town, .inr (6, [.ref a_town_kind, .ref a_town_strength, .ref a_town_place, .ref a_town_length, .ref a_town_gives, .ref a_town_over, .ref a_town_under, .int town_n, .int town_holders, .int town_cuts, .int town_hour, .int town_bears, .int town_draw, .ref a])), (a_town_kind, .inl (X.E 0, 8, .inl town_kind)), (a_town_strength, .inl (X.E 0, 8, .inl town_strength)), (a_town_place, .inl (X.E 0, 8, .inl town_place)), (a_town_length, .inl (X.E 0, 8, .inl town_length)), (a_town_gives, .inl (X.E 0, 8, .inl town_gives))]) (isC := [0, 1, 2, 3, 4, 5, 6, 21, 13, 14, 15, 16, 17, 18, 19, 20]) (isR := [7, 8, 9, 10, 11, 12]) h hR (ct_X0_settles (a := a) (a_t1 := a_tried) (a_kinds := a_kinds) (a_town := a_town) (a_tried := a_tried) (a_fell := a_fell) (a_tape := a_tape) (a_read := a_read) (a_undos := a_undos) (a_kept := a_kept) (a_keptUndos := a_keptUndos) (a_sheets := a_sheets) (a_taken := a_taken) (a_kinds_0 := a_kinds_0) (a_kinds_1 := a_kinds_1) (a_kinds_2 := a_kinds_2) (a_kinds_3 := a_kinds_3) (a_kinds_4 := a_kinds_4) (a_t1_kind := a_tried_kind) (a_t1_strength := a_tried_strength) (a_t1_place := a_tried_place) (a_t1_length := a_tried_length) (a_t1_gives := a_tried_gives) (a_t1_over := a_tried_over) (a_t1_under := a_tried_under) (falls := falls) (tears := tears) (typed := typed) (place := place) (isKept := isKept) (fell := fell) (t1_n := tried_n_6) (t1_holders := tried_holders_17) (t1_cuts := tried_cuts_8) (t1_hour := tried_hour_9) (t1_bears := tried_bears_10) (t1_draw := tried_draw_11) (t1_kind := tried_kind_12) (t1_strength := tried_strength_13) (t1_place := tried_place_14) (t1_length := tried_length_15) (t1_gives := tried_gives_16) (t1_over := tried_over) (t1_under := tried_under) hv) rfl rfl (lw_V q130 q132 qs1 q70 q133) (by decide +kernel) rfl ⟨rfl, rfl, rfl, rfl, by decide⟩ ⟨fle rfl, fle rfl, fle rfl, fle rfl, fle rfl⟩ rfl dX0_fall_41 (pin (perm := [6, 7, 8, 9, 10, 11, 12, 0, 1, 2, 3, 4, 5, 14, 15, 16, 17, 18, 19, 20, 21, 13]) (ws' := [(a, .inr (0, [.ref a_kinds, .ref a_town, .ref a_tried, .ref a_fell, .int falls_19, .int tears_20, .ref a_tape, .int typed, .int place, .ref a_read, .ref a_undos, .ref a_kept, .ref a_keptUndos, .int isKept, .ref a_sheets, .ref a_taken])), (a_kinds, .inl (X.E 5, 5, .inr (.inr (.inr (.inr (kq a_kinds_0 a_kinds_1 a_kinds_2 a_kinds_3 a_kinds_4)))))), (a_kinds_0, .inr (1, [])), (a_kinds_1, .inr (2, [])), (a_kinds_2, .inr (3, [])), (a_kinds_3, .inr (4, [])), (a_kinds_4, .inr (5, [])), (a_town, .inr (6, [.ref a_town_kind, .ref a_town_strength, .ref a_town_place, .ref a_town_length, .ref a_town_gives, .ref a_town_over, .ref a_town_under, .int town_n, .int town_holders, .int town_cuts, .int town_hour, .int town_bears, .int town_draw, .ref a])), (a_town_kind, .inl (X.E 0, 8, .inl town_kind)), (a_town_strength, .inl (X.E 0, 8, .inl town_strength)), (a_town_place, .inl (X.E 0, 8, .inl town_place)), (a_town_length, .inl (X.E 0, 8, .inl town_length)), (a_town_gives, .inl (X.E 0, 8, .inl town_gives)), (a_tried, .inr (6, [.ref a_tried_kind, .ref a_tried_strength, .ref a_tried_place, .ref a_tried_length, .ref a_tried_gives, .ref a_tried_over, .ref a_tried_under, .int tried_n_6, .int tried_holders_22, .int tried_cuts_23, .int tried_hour_9, .int tried_bears_10, .int tried_draw_11, .ref a])), (a_tried_kind, .inl (X.E 0, 8, .inl tried_kind_12)), (a_tried_strength, .inl (X.E 0, 8, .inl tried_strength_13)), (a_tried_place, .inl (X.E 0, 8, .inl tried_place_14)), (a_tried_length, .inl (X.E 0, 8, .inl tried_length_15)), (a_tried_gives, .inl (X.E 0, 8, .inl tried_gives_16)), (a_tried_over, .inl (X.E 1, 8, .inl tried_over_24)), (a_tried_under, .inl (X.E 1, 8, .inl tried_under_25)), (a_fell, .inl (X.E 1, 8, .inl fell_21))]) (stk := [.int r_18]) rfl rfl rfl ?_)
        clear hv
        refine g_pop h dX0_fall_44 rfl ?_
        refine g_iload_n h 3 dX0_fall_45 rfl rfl ?_
        refine g_if_ge (tgt := 56) h dX0_fall_46 rfl hf (fun c26 hf => ?_) (fun c26 hf => ?_)
        · refine g_iload_n h 3 dX0_fall_56 rfl rfl ?_
          refine g_aload_n h 1 dX0_fall_57 rfl rfl ?_
          refine g_get (ci := 0) (v := .int falls_19) h in_X0 0 4 rfl rfl (fle rfl) rfl q1115 rfl dX0_fall_58 ?_
          refine g_icmp_ge (tgt := 73) h dX0_fall_61 rfl hf (fun c27 hf => ?_) (fun c27 hf => ?_)
          · refine g_bipush (v := (-4)) h dX0_fall_73 kbipush_m4 ?_
            obtain ⟨rfl, rfl, rfl, rfl, rfl, rfl, rfl, rfl, rfl, rfl, rfl, rfl, rfl, rfl, rfl, rfl, rfl⟩ := sj17 hf
            exact g_iret h hF [0, 1, 2, 3, 4, 5, 6, 7, 8, 9, 10, 11, 12, 13, 14, 15, 16, 17, 18, 19, 20, 21] rfl rfl ⟨rfl, rfl⟩ (fle rfl) (fle rfl) dX0_fall_75
          · refine g_aload_n h 1 dX0_fall_64 rfl rfl ?_
            refine g_get (ci := 0) (v := .ref a_fell) h in_X0 0 3 rfl rfl (fle rfl) rfl q1114 rfl dX0_fall_65 ?_
            refine g_iload_n h 3 dX0_fall_68 rfl rfl ?_
            obtain ⟨g28, hf⟩ := gn hf
            refine g_iaload h 21 rfl g28 dX0_fall_69 ?_
            refine g_goto (tgt := 75) h dX0_fall_70 rfl ?_
            obtain ⟨rfl, rfl, rfl, rfl, rfl, rfl, rfl, rfl, rfl, rfl, rfl, rfl, rfl, rfl, rfl, rfl, rfl⟩ := sj17 hf
            exact g_iret h hF [0, 1, 2, 3, 4, 5, 6, 7, 8, 9, 10, 11, 12, 13, 14, 15, 16, 17, 18, 19, 20, 21] rfl rfl ⟨rfl, rfl⟩ (fle rfl) (fle rfl) dX0_fall_75
        · refine g_aload_n h 1 dX0_fall_49 rfl rfl ?_
          refine g_get (ci := 0) (v := .int falls_19) h in_X0 0 4 rfl rfl (fle rfl) rfl q1115 rfl dX0_fall_50 ?_
          refine g_goto (tgt := 75) h dX0_fall_53 rfl ?_
          obtain ⟨rfl, rfl, rfl, rfl, rfl, rfl, rfl, rfl, rfl, rfl, rfl, rfl, rfl, rfl, rfl, rfl, rfl⟩ := sj17 hf
          exact g_iret h hF [0, 1, 2, 3, 4, 5, 6, 7, 8, 9, 10, 11, 12, 13, 14, 15, 16, 17, 18, 19, 20, 21] rfl rfl ⟨rfl, rfl⟩ (fle rfl) (fle rfl) dX0_fall_75
    · refine g_iconst (v := (-1)) h dX0_fall_13 kiconst_m1 ?_
      obtain ⟨rfl, rfl, rfl, rfl, rfl, rfl, rfl, rfl, rfl, rfl, rfl, rfl, rfl, rfl, rfl, rfl, rfl⟩ := sj17 hf
      exact g_iret h hF [0, 1, 2, 3, 4, 5, 6, 7, 8, 9, 10, 11, 12, 13, 14, 15, 16, 17, 18, 19, 20, 21] rfl rfl ⟨rfl, rfl⟩ (fle rfl) (fle rfl) dX0_fall_14
set_option maxHeartbeats 4000000 in
set_option maxRecDepth 100000 in
theorem ct_X0_isMore {l : Launch} {D : va_G} {E : Ety}  {x0 : Int32} {x1 : Int32} {r_ : Int32} (hf : f_X0_isMore x0 x1 = some r_) : Ct l yX0_isMore cX0_isMore 2 (some .boolean) 0 0 0 0 D E [.int x0, .int x1] [] (Pn (some (.int r_)) []) := by
  refine ct_of (own := RX0) (plainFor_of_name (by decide)) rfl (fle rfl) rfl ?_
  intro X hl hD hE hnL hXF h hR hF hnm
  subst hl; subst hD; subst hE
  have hL : ∀ i, i < 2 → i < X.nL := fun i hi => by rw [hnL]; exact hi
  unfold f_X0_isMore at hf
  refine g_iload_n h 0 dX0_isMore_0 rfl rfl ?_
  refine g_bipush (v := 64) h dX0_isMore_1 kbipush_64 ?_
  refine g_idiv h dX0_isMore_3 (by decide) ?_
  refine g_iload_n h 1 dX0_isMore_4 rfl rfl ?_
  refine g_bipush (v := 64) h dX0_isMore_5 kbipush_64 ?_
  refine g_irem h dX0_isMore_7 (by decide) ?_
  refine g_imul h dX0_isMore_8 ?_
  refine g_iload_n h 1 dX0_isMore_9 rfl rfl ?_
  refine g_bipush (v := 64) h dX0_isMore_10 kbipush_64 ?_
  refine g_idiv h dX0_isMore_12 (by decide) ?_
  refine g_iload_n h 0 dX0_isMore_13 rfl rfl ?_
  refine g_bipush (v := 64) h dX0_isMore_14 kbipush_64 ?_
  refine g_irem h dX0_isMore_16 (by decide) ?_
  refine g_imul h dX0_isMore_17 ?_
  refine g_icmp_le (tgt := 25) h dX0_isMore_18 rfl hf (fun c1 hf => ?_) (fun c1 hf => ?_)
  · refine g_iconst (v := 0) h dX0_isMore_25 kiconst_0 ?_
    obtain rfl := sj1 hf
    exact g_zret h hF rfl [] rfl rfl ⟨rfl, rfl⟩ (fle rfl) (fle rfl) dX0_isMore_26
  · refine g_iconst (v := 1) h dX0_isMore_21 kiconst_1 ?_
    refine g_goto (tgt := 26) h dX0_isMore_22 rfl ?_
    obtain rfl := sj1 hf
    exact g_zret h hF rfl [] rfl rfl ⟨rfl, rfl⟩ (fle rfl) (fle rfl) dX0_isMore_26
set_option maxHeartbeats 4000000 in
set_option maxRecDepth 100000 in
theorem ct_X0_part {l : Launch} {D : va_G} {E : Ety}  {x0 : Int32} {n_0 : Int64} {n_1 : Int64} (hf : f_X0_part x0 = some (n_0, n_1)) : Ct l yX0_part cX0_part 1 (some (.object "OneElastic$Part")) 2 55 1 2 D E [.int x0] [] (Pr (fun q => [(q, .inr (9, [.long n_0, .long n_1]))])) := by
  refine ct_of (own := RX0) (plainFor_of_name (by decide)) rfl (fle rfl) rfl ?_
  intro X hl hD hE hnL hXF h hR hF hnm
  subst hl; subst hD; subst hE
  have hL : ∀ i, i < 1 → i < X.nL := fun i hi => by rw [hnL]; exact hi
  unfold f_X0_part at hf
  refine g_new (ci := 9) (fs := [.long 0, .long 0]) h hR in_X9 tyX9 tyX9_ok q249 q250 q82 rfl df_X9 (fle rfl) (fle rfl) dX0_part_0 (fun q1 => ?_)
  refine G.sub (ws' := [(q1, .inr (9, [.long 0, .long 0]))]) [0] rfl rfl ?_
  refine g_dup h dX0_part_3 rfl ?_
  refine g_iload_n h 0 dX0_part_4 rfl rfl ?_
  refine g_bipush (v := 64) h dX0_part_5 kbipush_64 ?_
  refine g_idiv h dX0_part_7 (by decide) ?_
  refine g_i2l h dX0_part_8 ?_
  refine g_iload_n h 0 dX0_part_9 rfl rfl ?_
  refine g_bipush (v := 64) h dX0_part_10 kbipush_64 ?_
  refine g_irem h dX0_part_12 (by decide) ?_
  refine g_i2l h dX0_part_13 ?_
  obtain ⟨q1_f0_2, q1_f1_3, hv, hf⟩ := ob2 hf
  refine g_callI (n := 2) (As := [.long ((x0 / 64).toInt64), .long ((x0 - x0 / 64 * 64).toInt64)]) (st := [.ref q1]) (wr := []) (isC := [0]) (isR := []) h hR (ct_X9_init (a := q1) (x1 := (x0 / 64).toInt64) (x3 := (x0 - x0 / 64 * 64).toInt64) (above := 0) (below := 0) hv) q253 q82 q251 q252 rfl (by decide +kernel) rfl ⟨rfl, rfl, rfl, rfl, by decide⟩ ⟨fle rfl, fle rfl, fle rfl, fle rfl, fle rfl⟩ rfl dX0_part_14 (pin (perm := [0]) (ws' := [(q1, .inr (9, [.long q1_f0_2, .long q1_f1_3]))]) (stk := [.ref q1]) rfl rfl rfl ?_)
  clear hv
  obtain ⟨rfl, rfl⟩ := sj2 hf
  exact g_aret h hF (Or.inl ⟨_, rfl⟩) (Or.inr ⟨_, rfl⟩) [0] rfl rfl ⟨_, rfl, rfl⟩ (fle rfl) (fle rfl) dX0_part_17
set_option maxHeartbeats 4000000 in
set_option maxRecDepth 100000 in
theorem w_X0_tie_L37 {X : Cx} {a a_fell a_kept a_keptUndos a_kinds a_read a_sheets a_taken a_tape a_town a_town_gives a_town_kind a_town_length a_town_over a_town_place a_town_strength a_town_under a_tried a_tried_gives a_tried_kind a_tried_length a_tried_over a_tried_place a_tried_strength a_tried_under a_undos : Nat} {x1 : Int32} {x2 : Int32} {falls : Int32} {tears : Int32} {typed : Int32} {place : Int32} {isKept : Int32} {town_n : Int32} {town_holders : Int32} {town_cuts : Int32} {town_hour : Int32} {town_bears : Int32} {town_draw : Int32} {town_kind : Nat → Int32} {town_strength : Nat → Int32} {town_place : Nat → Int32} {town_length : Nat → Int32} {town_gives : Nat → Int32} {tried_n : Int32} {tried_cuts : Int32} {tried_hour : Int32} {tried_bears : Int32} {tried_draw : Int32} {tried_kind : Nat → Int32} {tried_strength : Nat → Int32} {tried_length : Nat → Int32} {tried_gives : Nat → Int32} {ce sl : Nat} (h : Ok X cX0_tie RX0) (hR : Rm X 3 101 1 2) (hL : ∀ i, i < 8 → i < X.nL) (hce : ce ≤ 1) (hsl : sl ≤ 2) : ∀ (n0 : Nat) (x3 : Int32) (x4 : Int32) (x6 : Int32) (tried_holders : Int32) (tried_place : Nat → Int32) (tried_over : Nat → Int32) (tried_under : Nat → Int32) {o_x3 : Int32} {o_x4 : Int32} {o_tried_holders : Int32} {o_tried_place : Nat → Int32} {o_tried_over : Nat → Int32} {o_tried_under : Nat → Int32}, f_X0_tie_L37 x1 tried_n tried_cuts tried_length tried_gives n0 x3 x4 x6 tried_holders tried_place tried_over tried_under = some (o_x3, o_x4, o_tried_holders, o_tried_place, o_tried_over, o_tried_under) → (G X [(a, .inr (0, [.ref a_kinds, .ref a_town, .ref a_tried, .ref a_fell, .int falls, .int tears, .ref a_tape, .int typed, .int place, .ref a_read, .ref a_undos, .ref a_kept, .ref a_keptUndos, .int isKept, .ref a_sheets, .ref a_taken])), (a_town, .inr (6, [.ref a_town_kind, .ref a_town_strength, .ref a_town_place, .ref a_town_length, .ref a_town_gives, .ref a_town_over, .ref a_town_under, .int town_n, .int town_holders, .int town_cuts, .int town_hour, .int town_bears, .int town_draw, .ref a])), (a_town_kind, .inl (X.E 0, 8, .inl town_kind)), (a_town_strength, .inl (X.E 0, 8, .inl town_strength)), (a_town_place, .inl (X.E 0, 8, .inl town_place)), (a_town_length, .inl (X.E 0, 8, .inl town_length)), (a_town_gives, .inl (X.E 0, 8, .inl town_gives)), (a_tried, .inr (6, [.ref a_tried_kind, .ref a_tried_strength, .ref a_tried_place, .ref a_tried_length, .ref a_tried_gives, .ref a_tried_over, .ref a_tried_under, .int tried_n, .int o_tried_holders, .int tried_cuts, .int tried_hour, .int tried_bears, .int tried_draw, .ref a])), (a_tried_kind, .inl (X.E 0, 8, .inl tried_kind)), (a_tried_strength, .inl (X.E 0, 8, .inl tried_strength)), (a_tried_place, .inl (X.E 0, 8, .inl o_tried_place)), (a_tried_length, .inl (X.E 0, 8, .inl tried_length)), (a_tried_gives, .inl (X.E 0, 8, .inl tried_gives)), (a_tried_over, .inl (X.E 1, 8, .inl o_tried_over)), (a_tried_under, .inl (X.E 1, 8, .inl o_tried_under))] [(2, .int x2), (3, .int o_x3), (4, .int o_x4)] ce sl 94 []) → G X [(a, .inr (0, [.ref a_kinds, .ref a_town, .ref a_tried, .ref a_fell, .int falls, .int tears, .ref a_tape, .int typed, .int place, .ref a_read, .ref a_undos, .ref a_kept, .ref a_keptUndos, .int isKept, .ref a_sheets, .ref a_taken])), (a_town, .inr (6, [.ref a_town_kind, .ref a_town_strength, .ref a_town_place, .ref a_town_length, .ref a_town_gives, .ref a_town_over, .ref a_town_under, .int town_n, .int town_holders, .int town_cuts, .int town_hour, .int town_bears, .int town_draw, .ref a])), (a_town_kind, .inl (X.E 0, 8, .inl town_kind)), (a_town_strength, .inl (X.E 0, 8, .inl town_strength)), (a_town_place, .inl (X.E 0, 8, .inl town_place)), (a_town_length, .inl (X.E 0, 8, .inl town_length)), (a_town_gives, .inl (X.E 0, 8, .inl town_gives)), (a_tried, .inr (6, [.ref a_tried_kind, .ref a_tried_strength, .ref a_tried_place, .ref a_tried_length, .ref a_tried_gives, .ref a_tried_over, .ref a_tried_under, .int tried_n, .int tried_holders, .int tried_cuts, .int tried_hour, .int tried_bears, .int tried_draw, .ref a])), (a_tried_kind, .inl (X.E 0, 8, .inl tried_kind)), (a_tried_strength, .inl (X.E 0, 8, .inl tried_strength)), (a_tried_place, .inl (X.E 0, 8, .inl tried_place)), (a_tried_length, .inl (X.E 0, 8, .inl tried_length)), (a_tried_gives, .inl (X.E 0, 8, .inl tried_gives)), (a_tried_over, .inl (X.E 1, 8, .inl tried_over)), (a_tried_under, .inl (X.E 1, 8, .inl tried_under))] [(1, .int x1), (2, .int x2), (3, .int x3), (4, .int x4), (5, .ref a_tried), (6, .int x6)] ce sl 37 [] := by
  intro n0
  induction n0 with
  | zero => intro x3 x4 x6 tried_holders tried_place tried_over tried_under o_x3 o_x4 o_tried_holders o_tried_place o_tried_over o_tried_under hf; exact nomatch (show (none : Option _) = some _ from hf)
  | succ n0 ih =>
    intro x3 x4 x6 tried_holders tried_place tried_over tried_under o_x3 o_x4 o_tried_holders o_tried_place o_tried_over o_tried_under hf k0
    replace hf : t_X0_tie_L37 x1 tried_n tried_cuts tried_length tried_gives (f_X0_tie_L37 x1 tried_n tried_cuts tried_length tried_gives n0) x3 x4 x6 tried_holders tried_place tried_over tried_under = some (o_x3, o_x4, o_tried_holders, o_tried_place, o_tried_over, o_tried_under) := hf
    unfold t_X0_tie_L37 at hf
    refine g_iload h 5 dX0_tie_37 rfl ?_
    refine g_bipush (v := 99) h dX0_tie_39 kbipush_99 ?_
    refine g_icmp_gt (tgt := 94) h dX0_tie_41 rfl hf (fun c16 hf => ?_) (fun c16 hf => ?_)
    · obtain ⟨rfl, rfl, rfl, rfl, rfl, rfl⟩ := sj6 hf
      exact G.lsub [1, 2, 3] rfl k0
    · refine g_aload h 4 dX0_tie_44 rfl ?_
      refine g_iload_n h 0 dX0_tie_46 rfl rfl ?_
      refine g_iload h 5 dX0_tie_47 rfl ?_
      refine g_i2l h dX0_tie_49 ?_
      obtain ⟨tried_holders_17, tried_place_18, hv, hf⟩ := ob2 hf
      refine g_callV (ci := 6) (q0 := 7) (n := 2) (As := [.int x1, .long x6.toInt64]) (st := []) (wr := [(a, .inr (0, [.ref a_kinds, .ref a_town, .ref a_tried, .ref a_fell, .int falls, .int tears, .ref a_tape, .int typed, .int place, .ref a_read, .ref a_undos, .ref a_kept, .ref a_keptUndos, .int isKept, .ref a_sheets, .ref a_taken])), (a_town, .inr (6, [.ref a_town_kind, .ref a_town_strength, .ref a_town_place, .ref a_town_length, .ref a_town_gives, .ref a_town_over, .ref a_town_under, .int town_n, .int town_holders, .int town_cuts, .int town_hour, .int town_bears, .int town_draw, .ref a])), (a_town_kind, .inl (X.E 0, 8, .inl town_kind)), (a_town_strength, .inl (X.E 0, 8, .inl town_strength)), (a_town_place, .inl (X.E 0, 8, .inl town_place)), (a_town_length, .inl (X.E 0, 8, .inl town_length)), (a_town_gives, .inl (X.E 0, 8, .inl town_gives)), (a_tried_kind, .inl (X.E 0, 8, .inl tried_kind)), (a_tried_strength, .inl (X.E 0, 8, .inl tried_strength)), (a_tried_length, .inl (X.E 0, 8, .inl tried_length)), (a_tried_gives, .inl (X.E 0, 8, .inl tried_gives)), (a_tried_over, .inl (X.E 1, 8, .inl tried_over)), (a_tried_under, .inl (X.E 1, 8, .inl tried_under))]) (isC := [7, 10]) (isR := [0, 1, 2, 3, 4, 5, 6, 8, 9, 11, 12, 13, 14]) h hR (ct_X6_takesHold (a := a_tried) (a_kind := a_tried_kind) (a_strength := a_tried_strength) (a_place := a_tried_place) (a_length := a_tried_length) (a_gives := a_tried_gives) (a_over := a_tried_over) (a_under := a_tried_under) (a_this0 := a) (x1 := x1) (x2 := x6.toInt64) (n := tried_n) (holders := tried_holders) (cuts := tried_cuts) (hour := tried_hour) (bears := tried_bears) (draw := tried_draw) (place := tried_place) hv) rfl rfl (lw_V q119 q120 q121 q76 q122) (by decide +kernel) rfl ⟨rfl, rfl, rfl, rfl, by decide⟩ ⟨hce, hsl, fle rfl, fle rfl, fle rfl⟩ rfl dX0_tie_50 (pin (perm := [0, 1, 2, 3, 4, 5, 6, 13, 7, 8, 14, 9, 10, 11, 12]) (ws' := [(a, .inr (0, [.ref a_kinds, .ref a_town, .ref a_tried, .ref a_fell, .int falls, .int tears, .ref a_tape, .int typed, .int place, .ref a_read, .ref a_undos, .ref a_kept, .ref a_keptUndos, .int isKept, .ref a_sheets, .ref a_taken])), (a_town, .inr (6, [.ref a_town_kind, .ref a_town_strength, .ref a_town_place, .ref a_town_length, .ref a_town_gives, .ref a_town_over, .ref a_town_under, .int town_n, .int town_holders, .int town_cuts, .int town_hour, .int town_bears, .int town_draw, .ref a])), (a_town_kind, .inl (X.E 0, 8, .inl town_kind)), (a_town_strength, .inl (X.E 0, 8, .inl town_strength)), (a_town_place, .inl (X.E 0, 8, .inl town_place)), (a_town_length, .inl (X.E 0, 8, .inl town_length)), (a_town_gives, .inl (X.E 0, 8, .inl town_gives)), (a_tried, .inr (6, [.ref a_tried_kind, .ref a_tried_strength, .ref a_tried_place, .ref a_tried_length, .ref a_tried_gives, .ref a_tried_over, .ref a_tried_under, .int tried_n, .int tried_holders_17, .int tried_cuts, .int tried_hour, .int tried_bears, .int tried_draw, .ref a])), (a_tried_kind, .inl (X.E 0, 8, .inl tried_kind)), (a_tried_strength, .inl (X.E 0, 8, .inl tried_strength)), (a_tried_place, .inl (X.E 0, 8, .inl tried_place_18)), (a_tried_length, .inl (X.E 0, 8, .inl tried_length)), (a_tried_gives, .inl (X.E 0, 8, .inl tried_gives)), (a_tried_over, .inl (X.E 1, 8, .inl tried_over)), (a_tried_under, .inl (X.E 1, 8, .inl tried_under))]) (stk := []) rfl rfl rfl ?_)
      clear hv
      refine g_aload h 4 dX0_tie_53 rfl ?_
      obtain ⟨tried_over_19, tried_under_20, hv, hf⟩ := ob2 hf
      refine g_callV (ci := 6) (q0 := 7) (n := 0) (As := []) (st := []) (wr := [(a, .inr (0, [.ref a_kinds, .ref a_town, .ref a_tried, .ref a_fell, .int falls, .int tears, .ref a_tape, .int typed, .int place, .ref a_read, .ref a_undos, .ref a_kept, .ref a_keptUndos, .int isKept, .ref a_sheets, .ref a_taken])), (a_town, .inr (6, [.ref a_town_kind, .ref a_town_strength, .ref a_town_place, .ref a_town_length, .ref a_town_gives, .ref a_town_over, .ref a_town_under, .int town_n, .int town_holders, .int town_cuts, .int town_hour, .int town_bears, .int town_draw, .ref a])), (a_town_kind, .inl (X.E 0, 8, .inl town_kind)), (a_town_strength, .inl (X.E 0, 8, .inl town_strength)), (a_town_place, .inl (X.E 0, 8, .inl town_place)), (a_town_length, .inl (X.E 0, 8, .inl town_length)), (a_town_gives, .inl (X.E 0, 8, .inl town_gives)), (a_tried_kind, .inl (X.E 0, 8, .inl tried_kind)), (a_tried_strength, .inl (X.E 0, 8, .inl tried_strength))]) (isC := [7, 10, 11, 12, 13, 14]) (isR := [0, 1, 2, 3, 4, 5, 6, 8, 9]) h hR (ct_X6_measured (a := a_tried) (a_kind := a_tried_kind) (a_strength := a_tried_strength) (a_place := a_tried_place) (a_length := a_tried_length) (a_gives := a_tried_gives) (a_over := a_tried_over) (a_under := a_tried_under) (a_this0 := a) (n := tried_n) (holders := tried_holders_17) (cuts := tried_cuts) (hour := tried_hour) (bears := tried_bears) (draw := tried_draw) (place := tried_place_18) (length := tried_length) (gives := tried_gives) (over := tried_over) (under := tried_under) hv) rfl rfl (lw_V q134 q135 q136 q76 q137) (by decide +kernel) rfl ⟨rfl, rfl, rfl, rfl, by decide⟩ ⟨hce, hsl, fle rfl, fle rfl, fle rfl⟩ rfl dX0_tie_55 (pin (perm := [0, 1, 2, 3, 4, 5, 6, 9, 7, 8, 10, 11, 12, 13, 14]) (ws' := [(a, .inr (0, [.ref a_kinds, .ref a_town, .ref a_tried, .ref a_fell, .int falls, .int tears, .ref a_tape, .int typed, .int place, .ref a_read, .ref a_undos, .ref a_kept, .ref a_keptUndos, .int isKept, .ref a_sheets, .ref a_taken])), (a_town, .inr (6, [.ref a_town_kind, .ref a_town_strength, .ref a_town_place, .ref a_town_length, .ref a_town_gives, .ref a_town_over, .ref a_town_under, .int town_n, .int town_holders, .int town_cuts, .int town_hour, .int town_bears, .int town_draw, .ref a])), (a_town_kind, .inl (X.E 0, 8, .inl town_kind)), (a_town_strength, .inl (X.E 0, 8, .inl town_strength)), (a_town_place, .inl (X.E 0, 8, .inl town_place)), (a_town_length, .inl (X.E 0, 8, .inl town_length)), (a_town_gives, .inl (X.E 0, 8, .inl town_gives)), (a_tried, .inr (6, [.ref a_tried_kind, .ref a_tried_strength, .ref a_tried_place, .ref a_tried_length, .ref a_tried_gives, .ref a_tried_over, .ref a_tried_under, .int tried_n, .int tried_holders_17, .int tried_cuts, .int tried_hour, .int tried_bears, .int tried_draw, .ref a])), (a_tried_kind, .inl (X.E 0, 8, .inl tried_kind)), (a_tried_strength, .inl (X.E 0, 8, .inl tried_strength)), (a_tried_place, .inl (X.E 0, 8, .inl tried_place_18)), (a_tried_length, .inl (X.E 0, 8, .inl tried_length)), (a_tried_gives, .inl (X.E 0, 8, .inl tried_gives)), (a_tried_over, .inl (X.E 1, 8, .inl tried_over_19)), (a_tried_under, .inl (X.E 1, 8, .inl tried_under_20))]) (stk := [.ref a_tried]) rfl rfl rfl ?_)
      clear hv
      obtain ⟨r_21, hv, hf⟩ := ob1 hf
      refine g_callV (ci := 6) (q0 := 7) (n := 0) (As := []) (st := []) (wr := [(a, .inr (0, [.ref a_kinds, .ref a_town, .ref a_tried, .ref a_fell, .int falls, .int tears, .ref a_tape, .int typed, .int place, .ref a_read, .ref a_undos, .ref a_kept, .ref a_keptUndos, .int isKept, .ref a_sheets, .ref a_taken])), (a_town, .inr (6, [.ref a_town_kind, .ref a_town_strength, .ref a_town_place, .ref a_town_length, .ref a_town_gives, .ref a_town_over, .ref a_town_under, .int town_n, .int town_holders, .int town_cuts, .int town_hour, .int town_bears, .int town_draw, .ref a])), (a_town_kind, .inl (X.E 0, 8, .inl town_kind)), (a_town_strength, .inl (X.E 0, 8, .inl town_strength)), (a_town_place, .inl (X.E 0, 8, .inl town_place)), (a_town_length, .inl (X.E 0, 8, .inl town_length)), (a_town_gives, .inl (X.E 0, 8, .inl town_gives)), (a_tried_kind, .inl (X.E 0, 8, .inl tried_kind)), (a_tried_strength, .inl (X.E 0, 8, .inl tried_strength)), (a_tried_place, .inl (X.E 0, 8, .inl tried_place_18)), (a_tried_length, .inl (X.E 0, 8, .inl tried_length)), (a_tried_gives, .inl (X.E 0, 8, .inl tried_gives))]) (isC := [7, 13, 14]) (isR := [0, 1, 2, 3, 4, 5, 6, 8, 9, 10, 11, 12]) h hR (ct_X6_greatest (a := a_tried) (a_kind := a_tried_kind) (a_strength := a_tried_strength) (a_place := a_tried_place) (a_length := a_tried_length) (a_gives := a_tried_gives) (a_over := a_tried_over) (a_under := a_tried_under) (a_this0 := a) (n := tried_n) (holders := tried_holders_17) (cuts := tried_cuts) (hour := tried_hour) (bears := tried_bears) (draw := tried_draw) (over := tried_over_19) (under := tried_under_20) hv) rfl rfl (lw_V q309 q310 q311 q76 q312) (by decide +kernel) rfl ⟨rfl, rfl, rfl, rfl, by decide⟩ ⟨hce, hsl, fle rfl, fle rfl, fle rfl⟩ rfl dX0_tie_58 (pin (perm := [0, 1, 2, 3, 4, 5, 6, 12, 7, 8, 9, 10, 11, 13, 14]) (ws' := [(a, .inr (0, [.ref a_kinds, .ref a_town, .ref a_tried, .ref a_fell, .int falls, .int tears, .ref a_tape, .int typed, .int place, .ref a_read, .ref a_undos, .ref a_kept, .ref a_keptUndos, .int isKept, .ref a_sheets, .ref a_taken])), (a_town, .inr (6, [.ref a_town_kind, .ref a_town_strength, .ref a_town_place, .ref a_town_length, .ref a_town_gives, .ref a_town_over, .ref a_town_under, .int town_n, .int town_holders, .int town_cuts, .int town_hour, .int town_bears, .int town_draw, .ref a])), (a_town_kind, .inl (X.E 0, 8, .inl town_kind)), (a_town_strength, .inl (X.E 0, 8, .inl town_strength)), (a_town_place, .inl (X.E 0, 8, .inl town_place)), (a_town_length, .inl (X.E 0, 8, .inl town_length)), (a_town_gives, .inl (X.E 0, 8, .inl town_gives)), (a_tried, .inr (6, [.ref a_tried_kind, .ref a_tried_strength, .ref a_tried_place, .ref a_tried_length, .ref a_tried_gives, .ref a_tried_over, .ref a_tried_under, .int tried_n, .int tried_holders_17, .int tried_cuts, .int tried_hour, .int tried_bears, .int tried_draw, .ref a])), (a_tried_kind, .inl (X.E 0, 8, .inl tried_kind)), (a_tried_strength, .inl (X.E 0, 8, .inl tried_strength)), (a_tried_place, .inl (X.E 0, 8, .inl tried_place_18)), (a_tried_length, .inl (X.E 0, 8, .inl tried_length)), (a_tried_gives, .inl (X.E 0, 8, .inl tried_gives)), (a_tried_over, .inl (X.E 1, 8, .inl tried_over_19)), (a_tried_under, .inl (X.E 1, 8, .inl tried_under_20))]) (stk := [.int r_21]) rfl rfl rfl ?_)
      clear hv
      refine g_istore (lv' := [(7, .int r_21), (1, .int x1), (2, .int x2), (3, .int x3), (4, .int x4), (5, .ref a_tried), (6, .int x6)]) h dX0_tie_61 (hL 7 (fle rfl)) rfl ?_
      refine g_iload_n h 3 dX0_tie_63 rfl rfl ?_
      refine g_bipush (v := (-4)) h dX0_tie_64 kbipush_m4 ?_
      refine g_icmp_eq (tgt := 81) h dX0_tie_66 rfl hf (fun c22 hf => ?_) (fun c22 hf => ?_)
      · refine g_iload h 0 dX0_tie_81 rfl ?_
        refine g_istore_n (lv' := [(3, .int r_21), (7, .int r_21), (1, .int x1), (2, .int x2), (4, .int x4), (5, .ref a_tried), (6, .int x6)]) h dX0_tie_83 rfl (hL 3 (fle rfl)) rfl ?_
        refine g_iload h 6 dX0_tie_84 rfl ?_
        refine g_istore (lv' := [(4, .int x6), (3, .int r_21), (7, .int r_21), (1, .int x1), (2, .int x2), (5, .ref a_tried), (6, .int x6)]) h dX0_tie_86 (hL 4 (fle rfl)) rfl ?_
        refine g_iinc (j := 6) (v := (x6 + 1)) (lv' := [(6, .int (x6 + 1)), (4, .int x6), (3, .int r_21), (7, .int r_21), (1, .int x1), (2, .int x2), (5, .ref a_tried)]) h dX0_tie_88 rfl (kinc_1 _) (hL 6 (fle rfl)) rfl ?_
        refine g_goto (tgt := 37) h dX0_tie_91 rfl ?_
        exact G.lsub [4, 5, 2, 1, 6, 0] rfl (ih _ _ _ _ _ _ _ hf k0)
      · refine g_iload_n h 3 dX0_tie_69 rfl rfl ?_
        refine g_iload h 0 dX0_tie_70 rfl ?_
        obtain ⟨r_23, hv, hf⟩ := ob1 hf
        refine g_callS (n := 2) (As := [.int x3, .int r_21]) (st := []) (wr := [(a, .inr (0, [.ref a_kinds, .ref a_town, .ref a_tried, .ref a_fell, .int falls, .int tears, .ref a_tape, .int typed, .int place, .ref a_read, .ref a_undos, .ref a_kept, .ref a_keptUndos, .int isKept, .ref a_sheets, .ref a_taken])), (a_town, .inr (6, [.ref a_town_kind, .ref a_town_strength, .ref a_town_place, .ref a_town_length, .ref a_town_gives, .ref a_town_over, .ref a_town_under, .int town_n, .int town_holders, .int town_cuts, .int town_hour, .int town_bears, .int town_draw, .ref a])), (a_town_kind, .inl (X.E 0, 8, .inl town_kind)), (a_town_strength, .inl (X.E 0, 8, .inl town_strength)), (a_town_place, .inl (X.E 0, 8, .inl town_place)), (a_town_length, .inl (X.E 0, 8, .inl town_length)), (a_town_gives, .inl (X.E 0, 8, .inl town_gives)), (a_tried, .inr (6, [.ref a_tried_kind, .ref a_tried_strength, .ref a_tried_place, .ref a_tried_length, .ref a_tried_gives, .ref a_tried_over, .ref a_tried_under, .int tried_n, .int tried_holders_17, .int tried_cuts, .int tried_hour, .int tried_bears, .int tried_draw, .ref a])), (a_tried_kind, .inl (X.E 0, 8, .inl tried_kind)), (a_tried_strength, .inl (X.E 0, 8, .inl tried_strength)), (a_tried_place, .inl (X.E 0, 8, .inl tried_place_18)), (a_tried_length, .inl (X.E 0, 8, .inl tried_length)), (a_tried_gives, .inl (X.E 0, 8, .inl tried_gives)), (a_tried_over, .inl (X.E 1, 8, .inl tried_over_19)), (a_tried_under, .inl (X.E 1, 8, .inl tried_under_20))]) (isC := []) (isR := [0, 1, 2, 3, 4, 5, 6, 7, 8, 9, 10, 11, 12, 13, 14]) h hR (ct_X0_isMore (x0 := x3) (x1 := r_21) hv) (lw_S q789 q790 q70 q791) (by decide +kernel) rfl ⟨rfl, rfl, rfl, rfl, by decide⟩ ⟨hce, hsl, fle rfl, fle rfl, fle rfl⟩ rfl dX0_tie_72 (pin (perm := [0, 1, 2, 3, 4, 5, 6, 7, 8, 9, 10, 11, 12, 13, 14]) (ws' := [(a, .inr (0, [.ref a_kinds, .ref a_town, .ref a_tried, .ref a_fell, .int falls, .int tears, .ref a_tape, .int typed, .int place, .ref a_read, .ref a_undos, .ref a_kept, .ref a_keptUndos, .int isKept, .ref a_sheets, .ref a_taken])), (a_town, .inr (6, [.ref a_town_kind, .ref a_town_strength, .ref a_town_place, .ref a_town_length, .ref a_town_gives, .ref a_town_over, .ref a_town_under, .int town_n, .int town_holders, .int town_cuts, .int town_hour, .int town_bears, .int town_draw, .ref a])), (a_town_kind, .inl (X.E 0, 8, .inl town_kind)), (a_town_strength, .inl (X.E 0, 8, .inl town_strength)), (a_town_place, .inl (X.E 0, 8, .inl town_place)), (a_town_length, .inl (X.E 0, 8, .inl town_length)), (a_town_gives, .inl (X.E 0, 8, .inl town_gives)), (a_tried, .inr (6, [.ref a_tried_kind, .ref a_tried_strength, .ref a_tried_place, .ref a_tried_length, .ref a_tried_gives, .ref a_tried_over, .ref a_tried_under, .int tried_n, .int tried_holders_17, .int tried_cuts, .int tried_hour, .int tried_bears, .int tried_draw, .ref a])), (a_tried_kind, .inl (X.E 0, 8, .inl tried_kind)), (a_tried_strength, .inl (X.E 0, 8, .inl tried_strength)), (a_tried_place, .inl (X.E 0, 8, .inl tried_place_18)), (a_tried_length, .inl (X.E 0, 8, .inl tried_length)), (a_tried_gives, .inl (X.E 0, 8, .inl tried_gives)), (a_tried_over, .inl (X.E 1, 8, .inl tried_over_19)), (a_tried_under, .inl (X.E 1, 8, .inl tried_under_20))]) (stk := [.int r_23]) rfl rfl rfl ?_)
        clear hv
        refine g_if_ne (tgt := 81) h dX0_tie_75 rfl hf (fun c24 hf => ?_) (fun c24 hf => ?_)
        · refine g_goto (tgt := 88) h dX0_tie_78 rfl ?_
          refine g_iinc (j := 6) (v := (x6 + 1)) (lv' := [(6, .int (x6 + 1)), (7, .int r_21), (1, .int x1), (2, .int x2), (3, .int x3), (4, .int x4), (5, .ref a_tried)]) h dX0_tie_88 rfl (kinc_1 _) (hL 6 (fle rfl)) rfl ?_
          refine g_goto (tgt := 37) h dX0_tie_91 rfl ?_
          exact G.lsub [2, 3, 4, 5, 6, 0] rfl (ih _ _ _ _ _ _ _ hf k0)
        · refine g_iload h 0 dX0_tie_81 rfl ?_
          refine g_istore_n (lv' := [(3, .int r_21), (7, .int r_21), (1, .int x1), (2, .int x2), (4, .int x4), (5, .ref a_tried), (6, .int x6)]) h dX0_tie_83 rfl (hL 3 (fle rfl)) rfl ?_
          refine g_iload h 6 dX0_tie_84 rfl ?_
          refine g_istore (lv' := [(4, .int x6), (3, .int r_21), (7, .int r_21), (1, .int x1), (2, .int x2), (5, .ref a_tried), (6, .int x6)]) h dX0_tie_86 (hL 4 (fle rfl)) rfl ?_
          refine g_iinc (j := 6) (v := (x6 + 1)) (lv' := [(6, .int (x6 + 1)), (4, .int x6), (3, .int r_21), (7, .int r_21), (1, .int x1), (2, .int x2), (5, .ref a_tried)]) h dX0_tie_88 rfl (kinc_1 _) (hL 6 (fle rfl)) rfl ?_
          refine g_goto (tgt := 37) h dX0_tie_91 rfl ?_
          exact G.lsub [4, 5, 2, 1, 6, 0] rfl (ih _ _ _ _ _ _ _ hf k0)
set_option maxHeartbeats 4000000 in
set_option maxRecDepth 100000 in
theorem ct_X0_tie {l : Launch} {D : va_G} {E : Ety} {a a_kinds a_town a_tried a_fell a_tape a_read a_undos a_kept a_keptUndos a_sheets a_taken a_town_kind a_town_strength a_town_place a_town_length a_town_gives a_town_over a_town_under a_tried_kind a_tried_strength a_tried_place a_tried_length a_tried_gives a_tried_over a_tried_under : Nat} {x1 : Int32} {x2 : Int32} {falls : Int32} {tears : Int32} {typed : Int32} {place : Int32} {isKept : Int32} {town_n : Int32} {town_holders : Int32} {town_cuts : Int32} {town_hour : Int32} {town_bears : Int32} {town_draw : Int32} {town_kind : Nat → Int32} {town_strength : Nat → Int32} {town_place : Nat → Int32} {town_length : Nat → Int32} {town_gives : Nat → Int32} {tried_n : Int32} {tried_holders : Int32} {tried_cuts : Int32} {tried_hour : Int32} {tried_bears : Int32} {tried_draw : Int32} {tried_kind : Nat → Int32} {tried_strength : Nat → Int32} {tried_place : Nat → Int32} {tried_length : Nat → Int32} {tried_gives : Nat → Int32} {tried_over : Nat → Int32} {tried_under : Nat → Int32} {r_ : Int32} {o_tried_n : Int32} {o_tried_holders : Int32} {o_tried_cuts : Int32} {o_tried_hour : Int32} {o_tried_bears : Int32} {o_tried_draw : Int32} {o_tried_kind : Nat → Int32} {o_tried_strength : Nat → Int32} {o_tried_place : Nat → Int32} {o_tried_length : Nat → Int32} {o_tried_gives : Nat → Int32} {o_tried_over : Nat → Int32} {o_tried_under : Nat → Int32} (hf : f_X0_tie x1 x2 town_n town_holders town_cuts town_hour town_bears town_draw town_kind town_strength town_place town_length town_gives tried_n tried_holders tried_cuts tried_hour tried_bears tried_draw tried_kind tried_strength tried_place tried_length tried_gives tried_over tried_under = some (r_, o_tried_n, o_tried_holders, o_tried_cuts, o_tried_hour, o_tried_bears, o_tried_draw, o_tried_kind, o_tried_strength, o_tried_place, o_tried_length, o_tried_gives, o_tried_over, o_tried_under)) : Ct l yX0_tie cX0_tie 8 (some .int) 3 101 1 2 D E [.ref a, .int x1, .int x2] [(a, .inr (0, [.ref a_kinds, .ref a_town, .ref a_tried, .ref a_fell, .int falls, .int tears, .ref a_tape, .int typed, .int place, .ref a_read, .ref a_undos, .ref a_kept, .ref a_keptUndos, .int isKept, .ref a_sheets, .ref a_taken])), (a_town, .inr (6, [.ref a_town_kind, .ref a_town_strength, .ref a_town_place, .ref a_town_length, .ref a_town_gives, .ref a_town_over, .ref a_town_under, .int town_n, .int town_holders, .int town_cuts, .int town_hour, .int town_bears, .int town_draw, .ref a])), (a_town_kind, .inl (E 0, 8, .inl town_kind)), (a_town_strength, .inl (E 0, 8, .inl town_strength)), (a_town_place, .inl (E 0, 8, .inl town_place)), (a_town_length, .inl (E 0, 8, .inl town_length)), (a_town_gives, .inl (E 0, 8, .inl town_gives)), (a_tried, .inr (6, [.ref a_tried_kind, .ref a_tried_strength, .ref a_tried_place, .ref a_tried_length, .ref a_tried_gives, .ref a_tried_over, .ref a_tried_under, .int tried_n, .int tried_holders, .int tried_cuts, .int tried_hour, .int tried_bears, .int tried_draw, .ref a])), (a_tried_kind, .inl (E 0, 8, .inl tried_kind)), (a_tried_strength, .inl (E 0, 8, .inl tried_strength)), (a_tried_place, .inl (E 0, 8, .inl tried_place)), (a_tried_length, .inl (E 0, 8, .inl tried_length)), (a_tried_gives, .inl (E 0, 8, .inl tried_gives)), (a_tried_over, .inl (E 1, 8, .inl tried_over)), (a_tried_under, .inl (E 1, 8, .inl tried_under))] (Pn (some (.int r_)) [(a, .inr (0, [.ref a_kinds, .ref a_town, .ref a_tried, .ref a_fell, .int falls, .int tears, .ref a_tape, .int typed, .int place, .ref a_read, .ref a_undos, .ref a_kept, .ref a_keptUndos, .int isKept, .ref a_sheets, .ref a_taken])), (a_town, .inr (6, [.ref a_town_kind, .ref a_town_strength, .ref a_town_place, .ref a_town_length, .ref a_town_gives, .ref a_town_over, .ref a_town_under, .int town_n, .int town_holders, .int town_cuts, .int town_hour, .int town_bears, .int town_draw, .ref a])), (a_town_kind, .inl (E 0, 8, .inl town_kind)), (a_town_strength, .inl (E 0, 8, .inl town_strength)), (a_town_place, .inl (E 0, 8, .inl town_place)), (a_town_length, .inl (E 0, 8, .inl town_length)), (a_town_gives, .inl (E 0, 8, .inl town_gives)), (a_tried, .inr (6, [.ref a_tried_kind, .ref a_tried_strength, .ref a_tried_place, .ref a_tried_length, .ref a_tried_gives, .ref a_tried_over, .ref a_tried_under, .int o_tried_n, .int o_tried_holders, .int o_tried_cuts, .int o_tried_hour, .int o_tried_bears, .int o_tried_draw, .ref a])), (a_tried_kind, .inl (E 0, 8, .inl o_tried_kind)), (a_tried_strength, .inl (E 0, 8, .inl o_tried_strength)), (a_tried_place, .inl (E 0, 8, .inl o_tried_place)), (a_tried_length, .inl (E 0, 8, .inl o_tried_length)), (a_tried_gives, .inl (E 0, 8, .inl o_tried_gives)), (a_tried_over, .inl (E 1, 8, .inl o_tried_over)), (a_tried_under, .inl (E 1, 8, .inl o_tried_under))]) := by
  refine ct_of (own := RX0) (plainFor_of_name (by decide)) rfl (fle rfl) rfl ?_
  intro X hl hD hE hnL hXF h hR hF hnm
  subst hl; subst hD; subst hE
  have hL : ∀ i, i < 8 → i < X.nL := fun i hi => by rw [hnL]; exact hi
  unfold f_X0_tie at hf
  refine g_aload_n h 0 dX0_tie_0 rfl rfl ?_
  refine g_iload_n h 1 dX0_tie_1 rfl rfl ?_
  obtain ⟨r_1, hv, hf⟩ := ob1 hf
  refine g_callV (ci := 0) (q0 := 0) (n := 1) (As := [.int x1]) (st := []) (wr := [(a_town_kind, .inl (X.E 0, 8, .inl town_kind)), (a_town_strength, .inl (X.E 0, 8, .inl town_strength)), (a_town_place, .inl (X.E 0, 8, .inl town_place)), (a_town_length, .inl (X.E 0, 8, .inl town_length)), (a_town_gives, .inl (X.E 0, 8, .inl town_gives)), (a_tried, .inr (6, [.ref a_tried_kind, .ref a_tried_strength, .ref a_tried_place, .ref a_tried_length, .ref a_tried_gives, .ref a_tried_over, .ref a_tried_under, .int tried_n, .int tried_holders, .int tried_cuts, .int tried_hour, .int tried_bears, .int tried_draw, .ref a])), (a_tried_kind, .inl (X.E 0, 8, .inl tried_kind)), (a_tried_strength, .inl (X.E 0, 8, .inl tried_strength)), (a_tried_place, .inl (X.E 0, 8, .inl tried_place)), (a_tried_length, .inl (X.E 0, 8, .inl tried_length)), (a_tried_gives, .inl (X.E 0, 8, .inl tried_gives)), (a_tried_over, .inl (X.E 1, 8, .inl tried_over)), (a_tried_under, .inl (X.E 1, 8, .inl tried_under))]) (isC := [0, 1]) (isR := [2, 3, 4, 5, 6, 7, 8, 9, 10, 11, 12, 13, 14]) h hR (ct_X0_isPerson (a := a) (a_kinds := a_kinds) (a_town := a_town) (a_tried := a_tried) (a_fell := a_fell) (a_tape := a_tape) (a_read := a_read) (a_undos := a_undos) (a_kept := a_kept) (a_keptUndos := a_keptUndos) (a_sheets := a_sheets) (a_taken := a_taken) (a_town_kind := a_town_kind) (a_town_strength := a_town_strength) (a_town_place := a_town_place) (a_town_length := a_town_length) (a_town_gives := a_town_gives) (a_town_over := a_town_over) (a_town_under := a_town_under) (x1 := x1) (falls := falls) (tears := tears) (typed := typed) (place := place) (isKept := isKept) (town_n := town_n) (town_holders := town_holders) (town_cuts := town_cuts) (town_hour := town_hour) (town_bears := town_bears) (town_draw := town_draw) hv) rfl rfl (lw_V q234 q236 qs5 q70 q237) (by decide +kernel) rfl ⟨rfl, rfl, rfl, rfl, by decide⟩ ⟨fle rfl, fle rfl, fle rfl, fle rfl, fle rfl⟩ rfl dX0_tie_2 (pin (perm := [13, 14, 0, 1, 2, 3, 4, 5, 6, 7, 8, 9, 10, 11, 12]) (ws' := [(a, .inr (0, [.ref a_kinds, .ref a_town, .ref a_tried, .ref a_fell, .int falls, .int tears, .ref a_tape, .int typed, .int place, .ref a_read, .ref a_undos, .ref a_kept, .ref a_keptUndos, .int isKept, .ref a_sheets, .ref a_taken])), (a_town, .inr (6, [.ref a_town_kind, .ref a_town_strength, .ref a_town_place, .ref a_town_length, .ref a_town_gives, .ref a_town_over, .ref a_town_under, .int town_n, .int town_holders, .int town_cuts, .int town_hour, .int town_bears, .int town_draw, .ref a])), (a_town_kind, .inl (X.E 0, 8, .inl town_kind)), (a_town_strength, .inl (X.E 0, 8, .inl town_strength)), (a_town_place, .inl (X.E 0, 8, .inl town_place)), (a_town_length, .inl (X.E 0, 8, .inl town_length)), (a_town_gives, .inl (X.E 0, 8, .inl town_gives)), (a_tried, .inr (6, [.ref a_tried_kind, .ref a_tried_strength, .ref a_tried_place, .ref a_tried_length, .ref a_tried_gives, .ref a_tried_over, .ref a_tried_under, .int tried_n, .int tried_holders, .int tried_cuts, .int tried_hour, .int tried_bears, .int tried_draw, .ref a])), (a_tried_kind, .inl (X.E 0, 8, .inl tried_kind)), (a_tried_strength, .inl (X.E 0, 8, .inl tried_strength)), (a_tried_place, .inl (X.E 0, 8, .inl tried_place)), (a_tried_length, .inl (X.E 0, 8, .inl tried_length)), (a_tried_gives, .inl (X.E 0, 8, .inl tried_gives)), (a_tried_over, .inl (X.E 1, 8, .inl tried_over)), (a_tried_under, .inl (X.E 1, 8, .inl tried_under))]) (stk := [.int r_1]) rfl rfl rfl ?_)
  clear hv
  refine g_if_eq (tgt := 20) h dX0_tie_5 rfl hf (fun c2 hf => ?_) (fun c2 hf => ?_)
  · refine g_iconst (v := (-1)) h dX0_tie_20 kiconst_m1 ?_
    obtain ⟨rfl, rfl, rfl, rfl, rfl, rfl, rfl, rfl, rfl, rfl, rfl, rfl, rfl, rfl⟩ := sj14 hf
    exact g_iret h hF [0, 1, 2, 3, 4, 5, 6, 7, 8, 9, 10, 11, 12, 13, 14] rfl rfl ⟨rfl, rfl⟩ (fle rfl) (fle rfl) dX0_tie_21
  · refine g_iload_n h 2 dX0_tie_8 rfl rfl ?_
    refine g_i2l h dX0_tie_9 ?_
    refine g_lconst (v := 0) h dX0_tie_10 rfl ?_
    refine g_ldc2 h q788 dX0_tie_11 ?_
    obtain ⟨r_3, hv, hf⟩ := ob1 hf
    refine g_callS (n := 3) (As := [.long x2.toInt64, .long 0, .long 2]) (st := []) (wr := [(a, .inr (0, [.ref a_kinds, .ref a_town, .ref a_tried, .ref a_fell, .int falls, .int tears, .ref a_tape, .int typed, .int place, .ref a_read, .ref a_undos, .ref a_kept, .ref a_keptUndos, .int isKept, .ref a_sheets, .ref a_taken])), (a_town, .inr (6, [.ref a_town_kind, .ref a_town_strength, .ref a_town_place, .ref a_town_length, .ref a_town_gives, .ref a_town_over, .ref a_town_under, .int town_n, .int town_holders, .int town_cuts, .int town_hour, .int town_bears, .int town_draw, .ref a])), (a_town_kind, .inl (X.E 0, 8, .inl town_kind)), (a_town_strength, .inl (X.E 0, 8, .inl town_strength)), (a_town_place, .inl (X.E 0, 8, .inl town_place)), (a_town_length, .inl (X.E 0, 8, .inl town_length)), (a_town_gives, .inl (X.E 0, 8, .inl town_gives)), (a_tried, .inr (6, [.ref a_tried_kind, .ref a_tried_strength, .ref a_tried_place, .ref a_tried_length, .ref a_tried_gives, .ref a_tried_over, .ref a_tried_under, .int tried_n, .int tried_holders, .int tried_cuts, .int tried_hour, .int tried_bears, .int tried_draw, .ref a])), (a_tried_kind, .inl (X.E 0, 8, .inl tried_kind)), (a_tried_strength, .inl (X.E 0, 8, .inl tried_strength)), (a_tried_place, .inl (X.E 0, 8, .inl tried_place)), (a_tried_length, .inl (X.E 0, 8, .inl tried_length)), (a_tried_gives, .inl (X.E 0, 8, .inl tried_gives)), (a_tried_over, .inl (X.E 1, 8, .inl tried_over)), (a_tried_under, .inl (X.E 1, 8, .inl tried_under))]) (isC := []) (isR := [0, 1, 2, 3, 4, 5, 6, 7, 8, 9, 10, 11, 12, 13, 14]) h hR (ct_X0_in (x0 := x2.toInt64) (x2 := 0) (x4 := 2) hv) (lw_S q107 q108 q70 q109) (by decide +kernel) rfl ⟨rfl, rfl, rfl, rfl, by decide⟩ ⟨fle rfl, fle rfl, fle rfl, fle rfl, fle rfl⟩ rfl dX0_tie_14 (pin (perm := [0, 1, 2, 3, 4, 5, 6, 7, 8, 9, 10, 11, 12, 13, 14]) (ws' := [(a, .inr (0, [.ref a_kinds, .ref a_town, .ref a_tried, .ref a_fell, .int falls, .int tears, .ref a_tape, .int typed, .int place, .ref a_read, .ref a_undos, .ref a_kept, .ref a_keptUndos, .int isKept, .ref a_sheets, .ref a_taken])), (a_town, .inr (6, [.ref a_town_kind, .ref a_town_strength, .ref a_town_place, .ref a_town_length, .ref a_town_gives, .ref a_town_over, .ref a_town_under, .int town_n, .int town_holders, .int town_cuts, .int town_hour, .int town_bears, .int town_draw, .ref a])), (a_town_kind, .inl (X.E 0, 8, .inl town_kind)), (a_town_strength, .inl (X.E 0, 8, .inl town_strength)), (a_town_place, .inl (X.E 0, 8, .inl town_place)), (a_town_length, .inl (X.E 0, 8, .inl town_length)), (a_town_gives, .inl (X.E 0, 8, .inl town_gives)), (a_tried, .inr (6, [.ref a_tried_kind, .ref a_tried_strength, .ref a_tried_place, .ref a_tried_length, .ref a_tried_gives, .ref a_tried_over, .ref a_tried_under, .int tried_n, .int tried_holders, .int tried_cuts, .int tried_hour, .int tried_bears, .int tried_draw, .ref a])), (a_tried_kind, .inl (X.E 0, 8, .inl tried_kind)), (a_tried_strength, .inl (X.E 0, 8, .inl tried_strength)), (a_tried_place, .inl (X.E 0, 8, .inl tried_place)), (a_tried_length, .inl (X.E 0, 8, .inl tried_length)), (a_tried_gives, .inl (X.E 0, 8, .inl tried_gives)), (a_tried_over, .inl (X.E 1, 8, .inl tried_over)), (a_tried_under, .inl (X.E 1, 8, .inl tried_under))]) (stk := [.int r_3]) rfl rfl rfl ?_)
    clear hv
    refine g_if_ne (tgt := 22) h dX0_tie_17 rfl hf (fun c4 hf => ?_) (fun c4 hf => ?_)
    · refine g_iconst (v := (-1)) h dX0_tie_20 kiconst_m1 ?_
      obtain ⟨rfl, rfl, rfl, rfl, rfl, rfl, rfl, rfl, rfl, rfl, rfl, rfl, rfl, rfl⟩ := sj14 hf
      exact g_iret h hF [0, 1, 2, 3, 4, 5, 6, 7, 8, 9, 10, 11, 12, 13, 14] rfl rfl ⟨rfl, rfl⟩ (fle rfl) (fle rfl) dX0_tie_21
    · refine g_bipush (v := (-4)) h dX0_tie_22 kbipush_m4 ?_
      refine g_istore_n (lv' := [(3, .int (-4)), (0, .ref a), (1, .int x1), (2, .int x2)]) h dX0_tie_24 rfl (hL 3 (fle rfl)) rfl ?_
      refine g_iconst (v := 0) h dX0_tie_25 kiconst_0 ?_
      refine g_istore (lv' := [(4, .int 0), (3, .int (-4)), (0, .ref a), (1, .int x1), (2, .int x2)]) h dX0_tie_26 (hL 4 (fle rfl)) rfl ?_
      refine g_aload_n h 2 dX0_tie_28 rfl rfl ?_
      obtain ⟨tried_n_5, tried_holders_6, tried_cuts_7, tried_hour_8, tried_bears_9, tried_draw_10, tried_kind_11, tried_strength_12, tried_place_13, tried_length_14, tried_gives_15, hv, hf⟩ := ob11 hf
      refine g_callV (ci := 0) (q0 := 0) (n := 0) (As := []) (st := []) (wr := [(a_tried_over, .inl (X.E 1, 8, .inl tried_over)), (a_tried_under, .inl (X.E 1, 8, .inl tried_under))]) (isC := [0, 1, 2, 3, 4, 5, 6, 7, 8, 9, 10, 11, 12]) (isR := [13, 14]) h hR (ct_X0_tries (a := a) (a_kinds := a_kinds) (a_town := a_town) (a_tried := a_tried) (a_fell := a_fell) (a_tape := a_tape) (a_read := a_read) (a_undos := a_undos) (a_kept := a_kept) (a_keptUndos := a_keptUndos) (a_sheets := a_sheets) (a_taken := a_taken) (a_town_kind := a_town_kind) (a_town_strength := a_town_strength) (a_town_place := a_town_place) (a_town_length := a_town_length) (a_town_gives := a_town_gives) (a_town_over := a_town_over) (a_town_under := a_town_under) (a_tried_kind := a_tried_kind) (a_tried_strength := a_tried_strength) (a_tried_place := a_tried_place) (a_tried_length := a_tried_length) (a_tried_gives := a_tried_gives) (a_tried_over := a_tried_over) (a_tried_under := a_tried_under) (falls := falls) (tears := tears) (typed := typed) (place := place) (isKept := isKept) (town_n := town_n) (town_holders := town_holders) (town_cuts := town_cuts) (town_hour := town_hour) (town_bears := town_bears) (town_draw := town_draw) (town_kind := town_kind) (town_strength := town_strength) (town_place := town_place) (town_length := town_length) (town_gives := town_gives) (tried_n := tried_n) (tried_holders := tried_holders) (tried_cuts := tried_cuts) (tried_hour := tried_hour) (tried_bears := tried_bears) (tried_draw := tried_draw) (tried_kind := tried_kind) (tried_strength := tried_strength) (tried_place := tried_place) (tried_length := tried_length) (tried_gives := tried_gives) hv) rfl rfl (lw_V q772 q774 qs19 q70 q775) (by decide +kernel) rfl ⟨rfl, rfl, rfl, rfl, by decide⟩ ⟨fle rfl, fle rfl, fle rfl, fle rfl, fle rfl⟩ rfl dX0_tie_29 (pin (perm := [2, 3, 4, 5, 6, 7, 8, 9, 10, 11, 12, 13, 14, 0, 1]) (ws' := [(a, .inr (0, [.ref a_kinds, .ref a_town, .ref a_tried, .ref a_fell, .int falls, .int tears, .ref a_tape, .int typed, .int place, .ref a_read, .ref a_undos, .ref a_kept, .ref a_keptUndos, .int isKept, .ref a_sheets, .ref a_taken])), (a_town, .inr (6, [.ref a_town_kind, .ref a_town_strength, .ref a_town_place, .ref a_town_length, .ref a_town_gives, .ref a_town_over, .ref a_town_under, .int town_n, .int town_holders, .int town_cuts, .int town_hour, .int town_bears, .int town_draw, .ref a])), (a_town_kind, .inl (X.E 0, 8, .inl town_kind)), (a_town_strength, .inl (X.E 0, 8, .inl town_strength)), (a_town_place, .inl (X.E 0, 8, .inl town_place)), (a_town_length, .inl (X.E 0, 8, .inl town_length)), (a_town_gives, .inl (X.E 0, 8, .inl town_gives)), (a_tried, .inr (6, [.ref a_tried_kind, .ref a_tried_strength, .ref a_tried_place, .ref a_tried_length, .ref a_tried_gives, .ref a_tried_over, .ref a_tried_under, .int tried_n_5, .int tried_holders_6, .int tried_cuts_7, .int tried_hour_8, .int tried_bears_9, .int tried_draw_10, .ref a])), (a_tried_kind, .inl (X.E 0, 8, .inl tried_kind_11)), (a_tried_strength, .inl (X.E 0, 8, .inl tried_strength_12)), (a_tried_place, .inl (X.E 0, 8, .inl tried_place_13)), (a_tried_length, .inl (X.E 0, 8, .inl tried_length_14)), (a_tried_gives, .inl (X.E 0, 8, .inl tried_gives_15)), (a_tried_over, .inl (X.E 1, 8, .inl tried_over)), (a_tried_under, .inl (X.E 1, 8, .inl tried_under))]) (stk := [.ref a_tried]) rfl rfl rfl ?_)
      clear hv
      refine g_astore (lv' := [(5, .ref a_tried), (4, .int 0), (3, .int (-4)), (0, .ref a), (1, .int x1), (2, .int x2)]) h dX0_tie_32 (hL 5 (fle rfl)) rfl ?_
      refine g_iconst (v := 0) h dX0_tie_34 kiconst_0 ?_
      refine g_istore (lv' := [(6, .int 0), (5, .ref a_tried), (4, .int 0), (3, .int (-4)), (0, .ref a), (1, .int x1), (2, .int x2)]) h dX0_tie_35 (hL 6 (fle rfl)) rfl ?_
      refine G.lsub (lv' := [(1, .int x1), (2, .int x2), (3, .int (-4)), (4, .int 0), (5, .ref a_tried), (6, .int 0)]) [5, 6, 3, 2, 1, 0] rfl ?_
      obtain ⟨x3_25, x4_26, tried_holders_27, tried_place_28, tried_over_29, tried_under_30, hv, hf⟩ := ob6 hf
      refine w_X0_tie_L37 (x1 := x1) (x2 := x2) (falls := falls) (tears := tears) (typed := typed) (place := place) (isKept := isKept) (town_n := town_n) (town_holders := town_holders) (town_cuts := town_cuts) (town_hour := town_hour) (town_bears := town_bears) (town_draw := town_draw) (town_kind := town_kind) (town_strength := town_strength) (town_place := town_place) (town_length := town_length) (town_gives := town_gives) (tried_n := tried_n_5) (tried_cuts := tried_cuts_7) (tried_hour := tried_hour_8) (tried_bears := tried_bears_9) (tried_draw := tried_draw_10) (tried_kind := tried_kind_11) (tried_strength := tried_strength_12) (tried_length := tried_length_14) (tried_gives := tried_gives_15) h hR hL (fle rfl) (fle rfl) FU _ _ _ _ _ _ _ hv ?_
      · clear hv
        refine g_iload_n h 0 dX0_tie_94 rfl rfl ?_
        refine g_if_ne (tgt := 103) h dX0_tie_95 rfl hf (fun c31 hf => ?_) (fun c31 hf => ?_)
        · refine g_iload h 2 dX0_tie_98 rfl ?_
          refine g_goto (tgt := 113) h dX0_tie_100 rfl ?_
          obtain ⟨rfl, rfl, rfl, rfl, rfl, rfl, rfl, rfl, rfl, rfl, rfl, rfl, rfl, rfl⟩ := sj14 hf
          exact g_iret h hF [0, 1, 2, 3, 4, 5, 6, 7, 8, 9, 10, 11, 12, 13, 14] rfl rfl ⟨rfl, rfl⟩ (fle rfl) (fle rfl) dX0_tie_113
        · refine g_iload_n h 1 dX0_tie_103 rfl rfl ?_
          obtain ⟨r_32, r_33, hv, hf⟩ := ob2 hf
          refine g_callS (n := 1) (As := [.int x3_25]) (st := []) (wr := [(a, .inr (0, [.ref a_kinds, .ref a_town, .ref a_tried, .ref a_fell, .int falls, .int tears, .ref a_tape, .int typed, .int place, .ref a_read, .ref a_undos, .ref a_kept, .ref a_keptUndos, .int isKept, .ref a_sheets, .ref a_taken])), (a_town, .inr (6, [.ref a_town_kind, .ref a_town_strength, .ref a_town_place, .ref a_town_length, .ref a_town_gives, .ref a_town_over, .ref a_town_under, .int town_n, .int town_holders, .int town_cuts, .int town_hour, .int town_bears, .int town_draw, .ref a])), (a_town_kind, .inl (X.E 0, 8, .inl town_kind)), (a_town_strength, .inl (X.E 0, 8, .inl town_strength)), (a_town_place, .inl (X.E 0, 8, .inl town_place)), (a_town_length, .inl (X.E 0, 8, .inl town_length)), (a_town_gives, .inl (X.E 0, 8, .inl town_gives)), (a_tried, .inr (6, [.ref a_tried_kind, .ref a_tried_strength, .ref a_tried_place, .ref a_tried_length, .ref a_tried_gives, .ref a_tried_over, .ref a_tried_under, .int tried_n_5, .int tried_holders_27, .int tried_cuts_7, .int tried_hour_8, .int tried_bears_9, .int tried_draw_10, .ref a])), (a_tried_kind, .inl (X.E 0, 8, .inl tried_kind_11)), (a_tried_strength, .inl (X.E 0, 8, .inl tried_strength_12)), (a_tried_place, .inl (X.E 0, 8, .inl tried_place_28)), (a_tried_length, .inl (X.E 0, 8, .inl tried_length_14)), (a_tried_gives, .inl (X.E 0, 8, .inl tried_gives_15)), (a_tried_over, .inl (X.E 1, 8, .inl tried_over_29)), (a_tried_under, .inl (X.E 1, 8, .inl tried_under_30))]) (isC := []) (isR := [0, 1, 2, 3, 4, 5, 6, 7, 8, 9, 10, 11, 12, 13, 14]) h hR (ct_X0_part (x0 := x3_25) hv) (lw_S q792 q793 q70 q794) (by decide +kernel) rfl ⟨rfl, rfl, rfl, rfl, by decide⟩ ⟨fle rfl, fle rfl, fle rfl, fle rfl, fle rfl⟩ rfl dX0_tie_104 (pinr (fun q34 => G.sub (ws' := [(a, .inr (0, [.ref a_kinds, .ref a_town, .ref a_tried, .ref a_fell, .int falls, .int tears, .ref a_tape, .int typed, .int place, .ref a_read, .ref a_undos, .ref a_kept, .ref a_keptUndos, .int isKept, .ref a_sheets, .ref a_taken])), (a_town, .inr (6, [.ref a_town_kind, .ref a_town_strength, .ref a_town_place, .ref a_town_length, .ref a_town_gives, .ref a_town_over, .ref a_town_under, .int town_n, .int town_holders, .int town_cuts, .int town_hour, .int town_bears, .int town_draw, .ref a])), (a_town_kind, .inl (X.E 0, 8, .inl town_kind)), (a_town_strength, .inl (X.E 0, 8, .inl town_strength)), (a_town_place, .inl (X.E 0, 8, .inl town_place)), (a_town_length, .inl (X.E 0, 8, .inl town_length)), (a_town_gives, .inl (X.E 0, 8, .inl town_gives)), (a_tried, .inr (6, [.ref a_tried_kind, .ref a_tried_strength, .ref a_tried_place, .ref a_tried_length, .ref a_tried_gives, .ref a_tried_over, .ref a_tried_under, .int tried_n_5, .int tried_holders_27, .int tried_cuts_7, .int tried_hour_8, .int tried_bears_9, .int tried_draw_10, .ref a])), (a_tried_kind, .inl (X.E 0, 8, .inl tried_kind_11)), (a_tried_strength, .inl (X.E 0, 8, .inl tried_strength_12)), (a_tried_place, .inl (X.E 0, 8, .inl tried_place_28)), (a_tried_length, .inl (X.E 0, 8, .inl tried_length_14)), (a_tried_gives, .inl (X.E 0, 8, .inl tried_gives_15)), (a_tried_over, .inl (X.E 1, 8, .inl tried_over_29)), (a_tried_under, .inl (X.E 1, 8, .inl tried_under_30)), (q34, .inr (9, [.long r_32, .long r_33]))]) [0, 1, 2, 3, 4, 5, 6, 7, 8, 9, 10, 11, 12, 13, 14, 15] rfl rfl ?_))
          clear hv
          refine g_iload_n h 0 dX0_tie_107 rfl rfl ?_
          refine g_iconst (v := 1) h dX0_tie_108 kiconst_1 ?_
          refine g_isub h dX0_tie_109 ?_
          obtain ⟨r_35, hv, hf⟩ := ob1 hf
          refine g_callV (ci := 9) (q0 := 15) (n := 1) (As := [.int (x2 - 1)]) (st := []) (wr := [(a, .inr (0, [.ref a_kinds, .ref a_town, .ref a_tried, .ref a_fell, .int falls, .int tears, .ref a_tape, .int typed, .int place, .ref a_read, .ref a_undos, .ref a_kept, .ref a_keptUndos, .int isKept, .ref a_sheets, .ref a_taken])), (a_town, .inr (6, [.ref a_town_kind, .ref a_town_strength, .ref a_town_place, .ref a_town_length, .ref a_town_gives, .ref a_town_over, .ref a_town_under, .int town_n, .int town_holders, .int town_cuts, .int town_hour, .int town_bears, .int town_draw, .ref a])), (a_town_kind, .inl (X.E 0, 8, .inl town_kind)), (a_town_strength, .inl (X.E 0, 8, .inl town_strength)), (a_town_place, .inl (X.E 0, 8, .inl town_place)), (a_town_length, .inl (X.E 0, 8, .inl town_length)), (a_town_gives, .inl (X.E 0, 8, .inl town_gives)), (a_tried, .inr (6, [.ref a_tried_kind, .ref a_tried_strength, .ref a_tried_place, .ref a_tried_length, .ref a_tried_gives, .ref a_tried_over, .ref a_tried_under, .int tried_n_5, .int tried_holders_27, .int tried_cuts_7, .int tried_hour_8, .int tried_bears_9, .int tried_draw_10, .ref a])), (a_tried_kind, .inl (X.E 0, 8, .inl tried_kind_11)), (a_tried_strength, .inl (X.E 0, 8, .inl tried_strength_12)), (a_tried_place, .inl (X.E 0, 8, .inl tried_place_28)), (a_tried_length, .inl (X.E 0, 8, .inl tried_length_14)), (a_tried_gives, .inl (X.E 0, 8, .inl tried_gives_15)), (a_tried_over, .inl (X.E 1, 8, .inl tried_over_29)), (a_tried_under, .inl (X.E 1, 8, .inl tried_under_30))]) (isC := [15]) (isR := [0, 1, 2, 3, 4, 5, 6, 7, 8, 9, 10, 11, 12, 13, 14]) h hR (ct_X9_told (a := q34) (x1 := (x2 - 1)) (above := r_32) (below := r_33) hv) rfl rfl (lw_V q280 q281 q282 q82 q283) (by decide +kernel) rfl ⟨rfl, rfl, rfl, rfl, by decide⟩ ⟨fle rfl, fle rfl, fle rfl, fle rfl, fle rfl⟩ rfl dX0_tie_110 (pin (perm := [0, 1, 2, 3, 4, 5, 6, 7, 8, 9, 10, 11, 12, 13, 14, 15]) (ws' := [(a, .inr (0, [.ref a_kinds, .ref a_town, .ref a_tried, .ref a_fell, .int falls, .int tears, .ref a_tape, .int typed, .int place, .ref a_read, .ref a_undos, .ref a_kept, .ref a_keptUndos, .int isKept, .ref a_sheets, .ref a_taken])), (a_town, .inr (6, [.ref a_town_kind, .ref a_town_strength, .ref a_town_place, .ref a_town_length, .ref a_town_gives, .ref a_town_over, .ref a_town_under, .int town_n, .int town_holders, .int town_cuts, .int town_hour, .int town_bears, .int town_draw, .ref a])), (a_town_kind, .inl (X.E 0, 8, .inl town_kind)), (a_town_strength, .inl (X.E 0, 8, .inl town_strength)), (a_town_place, .inl (X.E 0, 8, .inl town_place)), (a_town_length, .inl (X.E 0, 8, .inl town_length)), (a_town_gives, .inl (X.E 0, 8, .inl town_gives)), (a_tried, .inr (6, [.ref a_tried_kind, .ref a_tried_strength, .ref a_tried_place, .ref a_tried_length, .ref a_tried_gives, .ref a_tried_over, .ref a_tried_under, .int tried_n_5, .int tried_holders_27, .int tried_cuts_7, .int tried_hour_8, .int tried_bears_9, .int tried_draw_10, .ref a])), (a_tried_kind, .inl (X.E 0, 8, .inl tried_kind_11)), (a_tried_strength, .inl (X.E 0, 8, .inl tried_strength_12)), (a_tried_place, .inl (X.E 0, 8, .inl tried_place_28)), (a_tried_length, .inl (X.E 0, 8, .inl tried_length_14)), (a_tried_gives, .inl (X.E 0, 8, .inl tried_gives_15)), (a_tried_over, .inl (X.E 1, 8, .inl tried_over_29)), (a_tried_under, .inl (X.E 1, 8, .inl tried_under_30)), (q34, .inr (9, [.long r_32, .long r_33]))]) (stk := [.int r_35]) rfl rfl rfl ?_)
          clear hv
          obtain ⟨rfl, rfl, rfl, rfl, rfl, rfl, rfl, rfl, rfl, rfl, rfl, rfl, rfl, rfl⟩ := sj14 hf
          exact g_iret h hF [0, 1, 2, 3, 4, 5, 6, 7, 8, 9, 10, 11, 12, 13, 14] rfl rfl ⟨rfl, rfl⟩ (fle rfl) (fle rfl) dX0_tie_113
set_option maxHeartbeats 4000000 in
set_option maxRecDepth 100000 in
theorem w_X0_when_L7 {X : Cx} {a a_fell a_kept a_keptUndos a_kinds a_kinds_0 a_kinds_1 a_kinds_2 a_kinds_3 a_kinds_4 a_read a_sheets a_taken a_tape a_town a_town_gives a_town_kind a_town_length a_town_over a_town_place a_town_strength a_town_under a_tried a_tried_gives a_tried_kind a_tried_length a_tried_over a_tried_place a_tried_strength a_tried_under a_undos : Nat} {typed : Int32} {place : Int32} {isKept : Int32} {town_n : Int32} {town_holders : Int32} {town_cuts : Int32} {town_hour : Int32} {town_bears : Int32} {town_draw : Int32} {town_kind : Nat → Int32} {town_strength : Nat → Int32} {town_place : Nat → Int32} {town_length : Nat → Int32} {town_gives : Nat → Int32} {tried_n : Int32} {tried_bears : Int32} {tried_draw : Int32} {tried_kind : Nat → Int32} {tried_strength : Nat → Int32} {tried_place : Nat → Int32} {tried_length : Nat → Int32} {tried_gives : Nat → Int32} {ce sl : Nat} (h : Ok X cX0_when RX0) (hR : Rm X 7 159 0 0) (hL : ∀ i, i < 3 → i < X.nL) (hce : ce ≤ 0) (hsl : sl ≤ 0) : ∀ (n0 : Nat) (x2 : Int32) (falls : Int32) (tears : Int32) (tried_holders : Int32) (tried_cuts : Int32) (tried_hour : Int32) (tried_over : Nat → Int32) (tried_under : Nat → Int32) (fell : Nat → Int32) {otag : Nat} {o_x2 : Int32} {o_falls : Int32} {o_tears : Int32} {o_tried_holders : Int32} {o_tried_cuts : Int32} {o_tried_hour : Int32} {o_tried_over : Nat → Int32} {o_tried_under : Nat → Int32} {o_fell : Nat → Int32}, f_X0_when_L7 tried_n tried_bears tried_kind tried_strength tried_place tried_length tried_gives n0 x2 falls tears tried_holders tried_cuts tried_hour tried_over tried_under fell = some (otag, o_x2, o_falls, o_tears, o_tried_holders, o_tried_cuts, o_tried_hour, o_tried_over, o_tried_under, o_fell) → (otag = 0 → G X [(a, .inr (0, [.ref a_kinds, .ref a_town, .ref a_tried, .ref a_fell, .int o_falls, .int o_tears, .ref a_tape, .int typed, .int place, .ref a_read, .ref a_undos, .ref a_kept, .ref a_keptUndos, .int isKept, .ref a_sheets, .ref a_taken])), (a_kinds, .inl (X.E 5, 5, .inr (.inr (.inr (.inr (kq a_kinds_0 a_kinds_1 a_kinds_2 a_kinds_3 a_kinds_4)))))), (a_kinds_0, .inr (1, [])), (a_kinds_1, .inr (2, [])), (a_kinds_2, .inr (3, [])), (a_kinds_3, .inr (4, [])), (a_kinds_4, .inr (5, [])), (a_town, .inr (6, [.ref a_town_kind, .ref a_town_strength, .ref a_town_place, .ref a_town_length, .ref a_town_gives, .ref a_town_over, .ref a_town_under, .int town_n, .int town_holders, .int town_cuts, .int town_hour, .int town_bears, .int town_draw, .ref a])), (a_town_kind, .inl (X.E 0, 8, .inl town_kind)), (a_town_strength, .inl (X.E 0, 8, .inl town_strength)), (a_town_place, .inl (X.E 0, 8, .inl town_place)), (a_town_length, .inl (X.E 0, 8, .inl town_length)), (a_town_gives, .inl (X.E 0, 8, .inl town_gives)), (a_tried, .inr (6, [.ref a_tried_kind, .ref a_tried_strength, .ref a_tried_place, .ref a_tried_length, .ref a_tried_gives, .ref a_tried_over, .ref a_tried_under, .int tried_n, .int o_tried_holders, .int o_tried_cuts, .int o_tried_hour, .int tried_bears, .int tried_draw, .ref a])), (a_tried_kind, .inl (X.E 0, 8, .inl tried_kind)), (a_tried_strength, .inl (X.E 0, 8, .inl tried_strength)), (a_tried_place, .inl (X.E 0, 8, .inl tried_place)), (a_tried_length, .inl (X.E 0, 8, .inl tried_length)), (a_tried_gives, .inl (X.E 0, 8, .inl tried_gives)), (a_tried_over, .inl (X.E 1, 8, .inl o_tried_over)), (a_tried_under, .inl (X.E 1, 8, .inl o_tried_under)), (a_fell, .inl (X.E 1, 8, .inl o_fell))] [(2, .int o_x2)] ce sl 25 []) → (otag = 1 → G X [(a, .inr (0, [.ref a_kinds, .ref a_town, .ref a_tried, .ref a_fell, .int o_falls, .int o_tears, .ref a_tape, .int typed, .int place, .ref a_read, .ref a_undos, .ref a_kept, .ref a_keptUndos, .int isKept, .ref a_sheets, .ref a_taken])), (a_kinds, .inl (X.E 5, 5, .inr (.inr (.inr (.inr (kq a_kinds_0 a_kinds_1 a_kinds_2 a_kinds_3 a_kinds_4)))))), (a_kinds_0, .inr (1, [])), (a_kinds_1, .inr (2, [])), (a_kinds_2, .inr (3, [])), (a_kinds_3, .inr (4, [])), (a_kinds_4, .inr (5, [])), (a_town, .inr (6, [.ref a_town_kind, .ref a_town_strength, .ref a_town_place, .ref a_town_length, .ref a_town_gives, .ref a_town_over, .ref a_town_under, .int town_n, .int town_holders, .int town_cuts, .int town_hour, .int town_bears, .int town_draw, .ref a])), (a_town_kind, .inl (X.E 0, 8, .inl town_kind)), (a_town_strength, .inl (X.E 0, 8, .inl town_strength)), (a_town_place, .inl (X.E 0, 8, .inl town_place)), (a_town_length, .inl (X.E 0, 8, .inl town_length)), (a_town_gives, .inl (X.E 0, 8, .inl town_gives)), (a_tried, .inr (6, [.ref a_tried_kind, .ref a_tried_strength, .ref a_tried_place, .ref a_tried_length, .ref a_tried_gives, .ref a_tried_over, .ref a_tried_under, .int tried_n, .int o_tried_holders, .int o_tried_cuts, .int o_tried_hour, .int tried_bears, .int tried_draw, .ref a])), (a_tried_kind, .inl (X.E 0, 8, .inl tried_kind)), (a_tried_strength, .inl (X.E 0, 8, .inl tried_strength)), (a_tried_place, .inl (X.E 0, 8, .inl tried_place)), (a_tried_length, .inl (X.E 0, 8, .inl tried_length)), (a_tried_gives, .inl (X.E 0, 8, .inl tried_gives)), (a_tried_over, .inl (X.E 1, 8, .inl o_tried_over)), (a_tried_under, .inl (X.E 1, 8, .inl o_tried_under)), (a_fell, .inl (X.E 1, 8, .inl o_fell))] [] ce sl 33 []) → G X [(a, .inr (0, [.ref a_kinds, .ref a_town, .ref a_tried, .ref a_fell, .int falls, .int tears, .ref a_tape, .int typed, .int place, .ref a_read, .ref a_undos, .ref a_kept, .ref a_keptUndos, .int isKept, .ref a_sheets, .ref a_taken])), (a_kinds, .inl (X.E 5, 5, .inr (.inr (.inr (.inr (kq a_kinds_0 a_kinds_1 a_kinds_2 a_kinds_3 a_kinds_4)))))), (a_kinds_0, .inr (1, [])), (a_kinds_1, .inr (2, [])), (a_kinds_2, .inr (3, [])), (a_kinds_3, .inr (4, [])), (a_kinds_4, .inr (5, [])), (a_town, .inr (6, [.ref a_town_kind, .ref a_town_strength, .ref a_town_place, .ref a_town_length, .ref a_town_gives, .ref a_town_over, .ref a_town_under, .int town_n, .int town_holders, .int town_cuts, .int town_hour, .int town_bears, .int town_draw, .ref a])), (a_town_kind, .inl (X.E 0, 8, .inl town_kind)), (a_town_strength, .inl (X.E 0, 8, .inl town_strength)), (a_town_place, .inl (X.E 0, 8, .inl town_place)), (a_town_length, .inl (X.E 0, 8, .inl town_length)), (a_town_gives, .inl (X.E 0, 8, .inl town_gives)), (a_tried, .inr (6, [.ref a_tried_kind, .ref a_tried_strength, .ref a_tried_place, .ref a_tried_length, .ref a_tried_gives, .ref a_tried_over, .ref a_tried_under, .int tried_n, .int tried_holders, .int tried_cuts, .int tried_hour, .int tried_bears, .int tried_draw, .ref a])), (a_tried_kind, .inl (X.E 0, 8, .inl tried_kind)), (a_tried_strength, .inl (X.E 0, 8, .inl tried_strength)), (a_tried_place, .inl (X.E 0, 8, .inl tried_place)), (a_tried_length, .inl (X.E 0, 8, .inl tried_length)), (a_tried_gives, .inl (X.E 0, 8, .inl tried_gives)), (a_tried_over, .inl (X.E 1, 8, .inl tried_over)), (a_tried_under, .inl (X.E 1, 8, .inl tried_under)), (a_fell, .inl (X.E 1, 8, .inl fell))] [(0, .ref a), (1, .ref a_tried), (2, .int x2)] ce sl 7 [] := by
  intro n0
  induction n0 with
  | zero => intro x2 falls tears tried_holders tried_cuts tried_hour tried_over tried_under fell otag o_x2 o_falls o_tears o_tried_holders o_tried_cuts o_tried_hour o_tried_over o_tried_under o_fell hf; exact nomatch (show (none : Option _) = some _ from hf)
  | succ n0 ih =>
    intro x2 falls tears tried_holders tried_cuts tried_hour tried_over tried_under fell otag o_x2 o_falls o_tears o_tried_holders o_tried_cuts o_tried_hour o_tried_over o_tried_under o_fell hf k0 k1
    replace hf : t_X0_when_L7 tried_n tried_bears tried_kind tried_strength tried_place tried_length tried_gives (f_X0_when_L7 tried_n tried_bears tried_kind tried_strength tried_place tried_length tried_gives n0) x2 falls tears tried_holders tried_cuts tried_hour tried_over tried_under fell = some (otag, o_x2, o_falls, o_tears, o_tried_holders, o_tried_cuts, o_tried_hour, o_tried_over, o_tried_under, o_fell) := hf
    unfold t_X0_when_L7 at hf
    refine g_iload_n h 2 dX0_when_7 rfl rfl ?_
    refine g_bipush (v := 24) h dX0_when_8 kbipush_24 ?_
    refine g_icmp_gt (tgt := 33) h dX0_when_10 rfl hf (fun c12 hf => ?_) (fun c12 hf => ?_)
    · obtain ⟨rfl, rfl, rfl, rfl, rfl, rfl, rfl, rfl, rfl, rfl⟩ := sj10 hf
      exact G.lsub [] rfl (k1 rfl)
    · refine g_aload_n h 1 dX0_when_13 rfl rfl ?_
      obtain ⟨tried_hour_13, hv, hf⟩ := ob1 hf
      refine g_callS (n := 1) (As := [.ref a_tried]) (st := []) (wr := [(a, .inr (0, [.ref a_kinds, .ref a_town, .ref a_tried, .ref a_fell, .int falls, .int tears, .ref a_tape, .int typed, .int place, .ref a_read, .ref a_undos, .ref a_kept, .ref a_keptUndos, .int isKept, .ref a_sheets, .ref a_taken])), (a_kinds, .inl (X.E 5, 5, .inr (.inr (.inr (.inr (kq a_kinds_0 a_kinds_1 a_kinds_2 a_kinds_3 a_kinds_4)))))), (a_kinds_0, .inr (1, [])), (a_kinds_1, .inr (2, [])), (a_kinds_2, .inr (3, [])), (a_kinds_3, .inr (4, [])), (a_kinds_4, .inr (5, [])), (a_town, .inr (6, [.ref a_town_kind, .ref a_town_strength, .ref a_town_place, .ref a_town_length, .ref a_town_gives, .ref a_town_over, .ref a_town_under, .int town_n, .int town_holders, .int town_cuts, .int town_hour, .int town_bears, .int town_draw, .ref a])), (a_town_kind, .inl (X.E 0, 8, .inl town_kind)), (a_town_strength, .inl (X.E 0, 8, .inl town_strength)), (a_town_place, .inl (X.E 0, 8, .inl town_place)), (a_town_length, .inl (X.E 0, 8, .inl town_length)), (a_town_gives, .inl (X.E 0, 8, .inl town_gives)), (a_tried_kind, .inl (X.E 0, 8, .inl tried_kind)), (a_tried_strength, .inl (X.E 0, 8, .inl tried_strength)), (a_tried_place, .inl (X.E 0, 8, .inl tried_place)), (a_tried_length, .inl (X.E 0, 8, .inl tried_length)), (a_tried_gives, .inl (X.E 0, 8, .inl tried_gives)), (a_tried_over, .inl (X.E 1, 8, .inl tried_over)), (a_tried_under, .inl (X.E 1, 8, .inl tried_under)), (a_fell, .inl (X.E 1, 8, .inl fell))]) (isC := [13]) (isR := [0, 1, 2, 3, 4, 5, 6, 7, 8, 9, 10, 11, 12, 14, 15, 16, 17, 18, 19, 20, 21]) h hR (ct_X0_passes (a_t0 := a_tried) (a_t0_kind := a_tried_kind) (a_t0_strength := a_tried_strength) (a_t0_place := a_tried_place) (a_t0_length := a_tried_length) (a_t0_gives := a_tried_gives) (a_t0_over := a_tried_over) (a_t0_under := a_tried_under) (a_t0_this0 := a) (t0_n := tried_n) (t0_holders := tried_holders) (t0_cuts := tried_cuts) (t0_hour := tried_hour) (t0_bears := tried_bears) (t0_draw := tried_draw) hv) (lw_S q724 q725 q70 q726) (by decide +kernel) rfl ⟨rfl, rfl, rfl, rfl, by decide⟩ ⟨hce, hsl, fle rfl, fle rfl, fle rfl⟩ rfl dX0_when_14 (pin (perm := [0, 1, 2, 3, 4, 5, 6, 7, 8, 9, 10, 11, 12, 21, 13, 14, 15, 16, 17, 18, 19, 20]) (ws' := [(a, .inr (0, [.ref a_kinds, .ref a_town, .ref a_tried, .ref a_fell, .int falls, .int tears, .ref a_tape, .int typed, .int place, .ref a_read, .ref a_undos, .ref a_kept, .ref a_keptUndos, .int isKept, .ref a_sheets, .ref a_taken])), (a_kinds, .inl (X.E 5, 5, .inr (.inr (.inr (.inr (kq a_kinds_0 a_kinds_1 a_kinds_2 a_kinds_3 a_kinds_4)))))), (a_kinds_0, .inr (1, [])), (a_kinds_1, .inr (2, [])), (a_kinds_2, .inr (3, [])), (a_kinds_3, .inr (4, [])), (a_kinds_4, .inr (5, [])), (a_town, .inr (6, [.ref a_town_kind, .ref a_town_strength, .ref a_town_place, .ref a_town_length, .ref a_town_gives, .ref a_town_over, .ref a_town_under, .int town_n, .int town_holders, .int town_cuts, .int town_hour, .int town_bears, .int town_draw, .ref a])), (a_town_kind, .inl (X.E 0, 8, .inl town_kind)), (a_town_strength, .inl (X.E 0, 8, .inl town_strength)), (a_town_place, .inl (X.E 0, 8, .inl town_place)), (a_town_length, .inl (X.E 0, 8, .inl town_length)), (a_town_gives, .inl (X.E 0, 8, .inl town_gives)), (a_tried, .inr (6, [.ref a_tried_kind, .ref a_tried_strength, .ref a_tried_place, .ref a_tried_length, .ref a_tried_gives, .ref a_tried_over, .ref a_tried_under, .int tried_n, .int tried_holders, .int tried_cuts, .int tried_hour_13, .int tried_bears, .int tried_draw, .ref a])), (a_tried_kind, .inl (X.E 0, 8, .inl tried_kind)), (a_tried_strength, .inl (X.E 0, 8, .inl tried_strength)), (a_tried_place, .inl (X.E 0, 8, .inl tried_place)), (a_tried_length, .inl (X.E 0, 8, .inl tried_length)), (a_tried_gives, .inl (X.E 0, 8, .inl tried_gives)), (a_tried_over, .inl (X.E 1, 8, .inl tried_over)), (a_tried_under, .inl (X.E 1, 8, .inl tried_under)), (a_fell, .inl (X.E 1, 8, .inl fell))]) (stk := []) rfl rfl rfl ?_)
      clear hv
      refine g_aload_n h 0 dX0_when_17 rfl rfl ?_
      refine g_aload_n h 1 dX0_when_18 rfl rfl ?_
      obtain ⟨r_14, falls_15, tears_16, fell_17, tried_holders_18, tried_cuts_19, tried_over_20, tried_under_21, hv, hf⟩ := ob8 hf
      refine g_callV (ci := 0) (q0 := 0) (n := 1) (As := [.ref a_tried]) (st := []) (wr := [(a_town, .inr (6, [.ref a_town_kind, .ref a_town_strength, .ref a_town_place, .ref a_town_length, .ref a_town_gives, .ref a_town_over, .ref a_town_under, .int town_n, .int town_holders, .int town_cuts, .int town_hour, .int town_bears, .int town_draw, .ref a])), (a_town_kind, .inl (X.E 0, 8, .inl town_kind)), (a_town_strength, .inl (X.E 0, 8, .inl town_strength)), (a_town_place, .inl (X.E 0, 8, .inl town_place)), (a_town_length, .inl (X.E 0, 8, .inl town_length)), (a_town_gives, .inl (X.E 0, 8, .inl town_gives))]) (isC := [0, 1, 2, 3, 4, 5, 6, 21, 13, 14, 15, 16, 17, 18, 19, 20]) (isR := [7, 8, 9, 10, 11, 12]) h hR (ct_X0_isStill (a := a) (a_t1 := a_tried) (a_kinds := a_kinds) (a_town := a_town) (a_tried := a_tried) (a_fell := a_fell) (a_tape := a_tape) (a_read := a_read) (a_undos := a_undos) (a_kept := a_kept) (a_keptUndos := a_keptUndos) (a_sheets := a_sheets) (a_taken := a_taken) (a_kinds_0 := a_kinds_0) (a_kinds_1 := a_kinds_1) (a_kinds_2 := a_kinds_2) (a_kinds_3 := a_kinds_3) (a_kinds_4 := a_kinds_4) (a_t1_kind := a_tried_kind) (a_t1_strength := a_tried_strength) (a_t1_place := a_tried_place) (a_t1_length := a_tried_length) (a_t1_gives := a_tried_gives) (a_t1_over := a_tried_over) (a_t1_under := a_tried_under) (falls := falls) (tears := tears) (typed := typed) (place := place) (isKept := isKept) (fell := fell) (t1_n := tried_n) (t1_holders := tried_holders) (t1_cuts := tried_cuts) (t1_hour := tried_hour_13) (t1_bears := tried_bears) (t1_draw := tried_draw) (t1_kind := tried_kind) (t1_strength := tried_strength) (t1_place := tried_place) (t1_length := tried_length) (t1_gives := tried_gives) (t1_over := tried_over) (t1_under := tried_under) hv) rfl rfl (lw_V q776 q778 qs20 q70 q779) (by decide +kernel) rfl ⟨rfl, rfl, rfl, rfl, by decide⟩ ⟨hce, hsl, fle rfl, fle rfl, fle rfl⟩ rfl dX0_when_19 (pin (perm := [6, 7, 8, 9, 10, 11, 12, 0, 1, 2, 3, 4, 5, 14, 15, 16, 17, 18, 19, 20, 21, 13]) (ws' := [(a, .inr (0, [.ref a_kinds, .ref a_town, .ref a_tried, .ref a_fell, .int falls_15, .int tears_16, .ref a_tape, .int typed, .int place, .ref a_read, .ref a_undos, .ref a_kept, .ref a_keptUndos, .int isKept, .ref a_sheets, .ref a_taken])), (a_kinds, .inl (X.E 5, 5, .inr (.inr (.inr (.inr (kq a_kinds_0 a_kinds_1 a_kinds_2 a_kinds_3 a_kinds_4)))))), (a_kinds_0, .inr (1, [])), (a_kinds_1, .inr (2, [])), (a_kinds_2, .inr (3, [])), (a_kinds_3, .inr (4, [])), (a_kinds_4, .inr (5, [])), (a_town, .inr (6, [.ref a_town_kind, .ref a_town_strength, .ref a_town_place, .ref a_town_length, .ref a_town_gives, .ref a_town_over, .ref a_town_under, .int town_n, .int town_holders, .int town_cuts, .int town_hour, .int town_bears, .int town_draw, .ref a])), (a_town_kind, .inl (X.E 0, 8, .inl town_kind)), (a_town_strength, .inl (X.E 0, 8, .inl town_strength)), (a_town_place, .inl (X.E 0, 8, .inl town_place)), (a_town_length, .inl (X.E 0, 8, .inl town_length)), (a_town_gives, .inl (X.E 0, 8, .inl town_gives)), (a_tried, .inr (6, [.ref a_tried_kind, .ref a_tried_strength, .ref a_tried_place, .ref a_tried_length, .ref a_tried_gives, .ref a_tried_over, .ref a_tried_under, .int tried_n, .int tried_holders_18, .int tried_cuts_19, .int tried_hour_13, .int tried_bears, .int tried_draw, .ref a])), (a_tried_kind, .inl (X.E 0, 8, .inl tried_kind)), (a_tried_strength, .inl (X.E 0, 8, .inl tried_strength)), (a_tried_place, .inl (X.E 0, 8, .inl tried_place)), (a_tried_length, .inl (X.E 0, 8, .inl tried_length)), (a_tried_gives, .inl (X.E 0, 8, .inl tried_gives)), (a_tried_over, .inl (X.E 1, 8, .inl tried_over_20)), (a_tried_under, .inl (X.E 1, 8, .inl tried_under_21)), (a_fell, .inl (X.E 1, 8, .inl fell_17))]) (stk := [.int r_14]) rfl rfl rfl ?_)
      clear hv
      refine g_if_ne (tgt := 27) h dX0_when_22 rfl hf (fun c22 hf => ?_) (fun c22 hf => ?_)
      · obtain ⟨rfl, rfl, rfl, rfl, rfl, rfl, rfl, rfl, rfl, rfl⟩ := sj10 hf
        exact G.lsub [2] rfl (k0 rfl)
      · refine g_iinc (j := 2) (v := (x2 + 1)) (lv' := [(2, .int (x2 + 1)), (0, .ref a), (1, .ref a_tried)]) h dX0_when_27 rfl (kinc_1 _) (hL 2 (fle rfl)) rfl ?_
        refine g_goto (tgt := 7) h dX0_when_30 rfl ?_
        exact G.lsub [1, 2, 0] rfl (ih _ _ _ _ _ _ _ _ _ hf k0 k1)
set_option maxHeartbeats 4000000 in
set_option maxRecDepth 100000 in
theorem ct_X0_when {l : Launch} {D : va_G} {E : Ety} {a a_kinds a_town a_tried a_fell a_tape a_read a_undos a_kept a_keptUndos a_sheets a_taken a_kinds_0 a_kinds_1 a_kinds_2 a_kinds_3 a_kinds_4 a_town_kind a_town_strength a_town_place a_town_length a_town_gives a_town_over a_town_under a_tried_kind a_tried_strength a_tried_place a_tried_length a_tried_gives a_tried_over a_tried_under : Nat} {falls : Int32} {tears : Int32} {typed : Int32} {place : Int32} {isKept : Int32} {town_n : Int32} {town_holders : Int32} {town_cuts : Int32} {town_hour : Int32} {town_bears : Int32} {town_draw : Int32} {town_kind : Nat → Int32} {town_strength : Nat → Int32} {town_place : Nat → Int32} {town_length : Nat → Int32} {town_gives : Nat → Int32} {tried_n : Int32} {tried_holders : Int32} {tried_cuts : Int32} {tried_hour : Int32} {tried_bears : Int32} {tried_draw : Int32} {tried_kind : Nat → Int32} {tried_strength : Nat → Int32} {tried_place : Nat → Int32} {tried_length : Nat → Int32} {tried_gives : Nat → Int32} {tried_over : Nat → Int32} {tried_under : Nat → Int32} {fell : Nat → Int32} {r_ : Int32} {o_falls : Int32} {o_tears : Int32} {o_tried_n : Int32} {o_tried_holders : Int32} {o_tried_cuts : Int32} {o_tried_hour : Int32} {o_tried_bears : Int32} {o_tried_draw : Int32} {o_tried_kind : Nat → Int32} {o_tried_strength : Nat → Int32} {o_tried_place : Nat → Int32} {o_tried_length : Nat → Int32} {o_tried_gives : Nat → Int32} {o_tried_over : Nat → Int32} {o_tried_under : Nat → Int32} {o_fell : Nat → Int32} (hf : f_X0_when falls tears town_n town_holders town_cuts town_hour town_bears town_draw town_kind town_strength town_place town_length town_gives tried_kind tried_strength tried_place tried_length tried_gives tried_over tried_under fell = some (r_, o_falls, o_tears, o_tried_n, o_tried_holders, o_tried_cuts, o_tried_hour, o_tried_bears, o_tried_draw, o_tried_kind, o_tried_strength, o_tried_place, o_tried_length, o_tried_gives, o_tried_over, o_tried_under, o_fell)) : Ct l yX0_when cX0_when 3 (some .int) 7 159 0 0 D E [.ref a] [(a, .inr (0, [.ref a_kinds, .ref a_town, .ref a_tried, .ref a_fell, .int falls, .int tears, .ref a_tape, .int typed, .int place, .ref a_read, .ref a_undos, .ref a_kept, .ref a_keptUndos, .int isKept, .ref a_sheets, .ref a_taken])), (a_kinds, .inl (E 5, 5, .inr (.inr (.inr (.inr (kq a_kinds_0 a_kinds_1 a_kinds_2 a_kinds_3 a_kinds_4)))))), (a_kinds_0, .inr (1, [])), (a_kinds_1, .inr (2, [])), (a_kinds_2, .inr (3, [])), (a_kinds_3, .inr (4, [])), (a_kinds_4, .inr (5, [])), (a_town, .inr (6, [.ref a_town_kind, .ref a_town_strength, .ref a_town_place, .ref a_town_length, .ref a_town_gives, .ref a_town_over, .ref a_town_under, .int town_n, .int town_holders, .int town_cuts, .int town_hour, .int town_bears, .int town_draw, .ref a])), (a_town_kind, .inl (E 0, 8, .inl town_kind)), (a_town_strength, .inl (E 0, 8, .inl town_strength)), (a_town_place, .inl (E 0, 8, .inl town_place)), (a_town_length, .inl (E 0, 8, .inl town_length)), (a_town_gives, .inl (E 0, 8, .inl town_gives)), (a_tried, .inr (6, [.ref a_tried_kind, .ref a_tried_strength, .ref a_tried_place, .ref a_tried_length, .ref a_tried_gives, .ref a_tried_over, .ref a_tried_under, .int tried_n, .int tried_holders, .int tried_cuts, .int tried_hour, .int tried_bears, .int tried_draw, .ref a])), (a_tried_kind, .inl (E 0, 8, .inl tried_kind)), (a_tried_strength, .inl (E 0, 8, .inl tried_strength)), (a_tried_place, .inl (E 0, 8, .inl tried_place)), (a_tried_length, .inl (E 0, 8, .inl tried_length)), (a_tried_gives, .inl (E 0, 8, .inl tried_gives)), (a_tried_over, .inl (E 1, 8, .inl tried_over)), (a_tried_under, .inl (E 1, 8, .inl tried_under)), (a_fell, .inl (E 1, 8, .inl fell))] (Pn (some (.int r_)) [(a, .inr (0, [.ref a_kinds, .ref a_town, .ref a_tried, .ref a_fell, .int o_falls, .int o_tears, .ref a_tape, .int typed, .int place, .ref a_read, .ref a_undos, .ref a_kept, .ref a_keptUndos, .int isKept, .ref a_sheets, .ref a_taken])), (a_kinds, .inl (E 5, 5, .inr (.inr (.inr (.inr (kq a_kinds_0 a_kinds_1 a_kinds_2 a_kinds_3 a_kinds_4)))))), (a_kinds_0, .inr (1, [])), (a_kinds_1, .inr (2, [])), (a_kinds_2, .inr (3, [])), (a_kinds_3, .inr (4, [])), (a_kinds_4, .inr (5, [])), (a_town, .inr (6, [.ref a_town_kind, .ref a_town_strength, .ref a_town_place, .ref a_town_length, .ref a_town_gives, .ref a_town_over, .ref a_town_under, .int town_n, .int town_holders, .int town_cuts, .int town_hour, .int town_bears, .int town_draw, .ref a])), (a_town_kind, .inl (E 0, 8, .inl town_kind)), (a_town_strength, .inl (E 0, 8, .inl town_strength)), (a_town_place, .inl (E 0, 8, .inl town_place)), (a_town_length, .inl (E 0, 8, .inl town_length)), (a_town_gives, .inl (E 0, 8, .inl town_gives)), (a_tried, .inr (6, [.ref a_tried_kind, .ref a_tried_strength, .ref a_tried_place, .ref a_tried_length, .ref a_tried_gives, .ref a_tried_over, .ref a_tried_under, .int o_tried_n, .int o_tried_holders, .int o_tried_cuts, .int o_tried_hour, .int o_tried_bears, .int o_tried_draw, .ref a])), (a_tried_kind, .inl (E 0, 8, .inl o_tried_kind)), (a_tried_strength, .inl (E 0, 8, .inl o_tried_strength)), (a_tried_place, .inl (E 0, 8, .inl o_tried_place)), (a_tried_length, .inl (E 0, 8, .inl o_tried_length)), (a_tried_gives, .inl (E 0, 8, .inl o_tried_gives)), (a_tried_over, .inl (E 1, 8, .inl o_tried_over)), (a_tried_under, .inl (E 1, 8, .inl o_tried_under)), (a_fell, .inl (E 1, 8, .inl o_fell))]) := by
  refine ct_of (own := RX0) (plainFor_of_name (by decide)) rfl (fle rfl) rfl ?_
  intro X hl hD hE hnL hXF h hR hF hnm
  subst hl; subst hD; subst hE
  have hL : ∀ i, i < 3 → i < X.nL := fun i hi => by rw [hnL]; exact hi
  unfold f_X0_when at hf
  refine g_aload_n h 0 dX0_when_0 rfl rfl ?_
  obtain ⟨tried_n_1, tried_holders_2, tried_cuts_3, tried_hour_4, tried_bears_5, tried_draw_6, tried_kind_7, tried_strength_8, tried_place_9, tried_length_10, tried_gives_11, hv, hf⟩ := ob11 hf
  refine g_callV (ci := 0) (q0 := 0) (n := 0) (As := []) (st := []) (wr := [(a_kinds, .inl (X.E 5, 5, .inr (.inr (.inr (.inr (kq a_kinds_0 a_kinds_1 a_kinds_2 a_kinds_3 a_kinds_4)))))), (a_kinds_0, .inr (1, [])), (a_kinds_1, .inr (2, [])), (a_kinds_2, .inr (3, [])), (a_kinds_3, .inr (4, [])), (a_kinds_4, .inr (5, [])), (a_tried_over, .inl (X.E 1, 8, .inl tried_over)), (a_tried_under, .inl (X.E 1, 8, .inl tried_under)), (a_fell, .inl (X.E 1, 8, .inl fell))]) (isC := [0, 7, 8, 9, 10, 11, 12, 13, 14, 15, 16, 17, 18]) (isR := [1, 2, 3, 4, 5, 6, 19, 20, 21]) h hR (ct_X0_tries (a := a) (a_kinds := a_kinds) (a_town := a_town) (a_tried := a_tried) (a_fell := a_fell) (a_tape := a_tape) (a_read := a_read) (a_undos := a_undos) (a_kept := a_kept) (a_keptUndos := a_keptUndos) (a_sheets := a_sheets) (a_taken := a_taken) (a_town_kind := a_town_kind) (a_town_strength := a_town_strength) (a_town_place := a_town_place) (a_town_length := a_town_length) (a_town_gives := a_town_gives) (a_town_over := a_town_over) (a_town_under := a_town_under) (a_tried_kind := a_tried_kind) (a_tried_strength := a_tried_strength) (a_tried_place := a_tried_place) (a_tried_length := a_tried_length) (a_tried_gives := a_tried_gives) (a_tried_over := a_tried_over) (a_tried_under := a_tried_under) (falls := falls) (tears := tears) (typed := typed) (place := place) (isKept := isKept) (town_n := town_n) (town_holders := town_holders) (town_cuts := town_cuts) (town_hour := town_hour) (town_bears := town_bears) (town_draw := town_draw) (town_kind := town_kind) (town_strength := town_strength) (town_place := town_place) (town_length := town_length) (town_gives := town_gives) (tried_n := tried_n) (tried_holders := tried_holders) (tried_cuts := tried_cuts) (tried_hour := tried_hour) (tried_bears := tried_bears) (tried_draw := tried_draw) (tried_kind := tried_kind) (tried_strength := tried_strength) (tried_place := tried_place) (tried_length := tried_length) (tried_gives := tried_gives) hv) rfl rfl (lw_V q772 q774 qs19 q70 q775) (by decide +kernel) rfl ⟨rfl, rfl, rfl, rfl, by decide⟩ ⟨fle rfl, fle rfl, fle rfl, fle rfl, fle rfl⟩ rfl dX0_when_1 (pin (perm := [9, 0, 1, 2, 3, 4, 5, 10, 11, 12, 13, 14, 15, 16, 17, 18, 19, 20, 21, 6, 7, 8]) (ws' := [(a, .inr (0, [.ref a_kinds, .ref a_town, .ref a_tried, .ref a_fell, .int falls, .int tears, .ref a_tape, .int typed, .int place, .ref a_read, .ref a_undos, .ref a_kept, .ref a_keptUndos, .int isKept, .ref a_sheets, .ref a_taken])), (a_kinds, .inl (X.E 5, 5, .inr (.inr (.inr (.inr (kq a_kinds_0 a_kinds_1 a_kinds_2 a_kinds_3 a_kinds_4)))))), (a_kinds_0, .inr (1, [])), (a_kinds_1, .inr (2, [])), (a_kinds_2, .inr (3, [])), (a_kinds_3, .inr (4, [])), (a_kinds_4, .inr (5, [])), (a_town, .inr (6, [.ref a_town_kind, .ref a_town_strength, .ref a_town_place, .ref a_town_length, .ref a_town_gives, .ref a_town_over, .ref a_town_under, .int town_n, .int town_holders, .int town_cuts, .int town_hour, .int town_bears, .int town_draw, .ref a])), (a_town_kind, .inl (X.E 0, 8, .inl town_kind)), (a_town_strength, .inl (X.E 0, 8, .inl town_strength)), (a_town_place, .inl (X.E 0, 8, .inl town_place)), (a_town_length, .inl (X.E 0, 8, .inl town_length)), (a_town_gives, .inl (X.E 0, 8, .inl town_gives)), (a_tried, .inr (6, [.ref a_tried_kind, .ref a_tried_strength, .ref a_tried_place, .ref a_tried_length, .ref a_tried_gives, .ref a_tried_over, .ref a_tried_under, .int tried_n_1, .int tried_holders_2, .int tried_cuts_3, .int tried_hour_4, .int tried_bears_5, .int tried_draw_6, .ref a])), (a_tried_kind, .inl (X.E 0, 8, .inl tried_kind_7)), (a_tried_strength, .inl (X.E 0, 8, .inl tried_strength_8)), (a_tried_place, .inl (X.E 0, 8, .inl tried_place_9)), (a_tried_length, .inl (X.E 0, 8, .inl tried_length_10)), (a_tried_gives, .inl (X.E 0, 8, .inl tried_gives_11)), (a_tried_over, .inl (X.E 1, 8, .inl tried_over)), (a_tried_under, .inl (X.E 1, 8, .inl tried_under)), (a_fell, .inl (X.E 1, 8, .inl fell))]) (stk := [.ref a_tried]) rfl rfl rfl ?_)
  clear hv
  refine g_astore_n (lv' := [(1, .ref a_tried), (0, .ref a)]) h dX0_when_4 rfl (hL 1 (fle rfl)) rfl ?_
  refine g_iconst (v := 1) h dX0_when_5 kiconst_1 ?_
  refine g_istore_n (lv' := [(2, .int 1), (1, .ref a_tried), (0, .ref a)]) h dX0_when_6 rfl (hL 2 (fle rfl)) rfl ?_
  refine G.lsub (lv' := [(0, .ref a), (1, .ref a_tried), (2, .int 1)]) [2, 1, 0] rfl ?_
  obtain ⟨tag_23, x2_24, falls_25, tears_26, tried_holders_27, tried_cuts_28, tried_hour_29, tried_over_30, tried_under_31, fell_32, hv, hf⟩ := ob10 hf
  refine w_X0_when_L7 (typed := typed) (place := place) (isKept := isKept) (town_n := town_n) (town_holders := town_holders) (town_cuts := town_cuts) (town_hour := town_hour) (town_bears := town_bears) (town_draw := town_draw) (town_kind := town_kind) (town_strength := town_strength) (town_place := town_place) (town_length := town_length) (town_gives := town_gives) (tried_n := tried_n_1) (tried_bears := tried_bears_5) (tried_draw := tried_draw_6) (tried_kind := tried_kind_7) (tried_strength := tried_strength_8) (tried_place := tried_place_9) (tried_length := tried_length_10) (tried_gives := tried_gives_11) h hR hL (fle rfl) (fle rfl) FU _ _ _ _ _ _ _ _ _ hv ?_ ?_
  · intro ht
    have hf := (if_pos ht).symm.trans hf
    clear hv
    refine g_iload_n h 0 dX0_when_25 rfl rfl ?_
    obtain ⟨rfl, rfl, rfl, rfl, rfl, rfl, rfl, rfl, rfl, rfl, rfl, rfl, rfl, rfl, rfl, rfl, rfl⟩ := sj17 hf
    exact g_iret h hF [0, 1, 2, 3, 4, 5, 6, 7, 8, 9, 10, 11, 12, 13, 14, 15, 16, 17, 18, 19, 20, 21] rfl rfl ⟨rfl, rfl⟩ (fle rfl) (fle rfl) dX0_when_26
  · intro ht
    have hf := (if_neg (show ¬ tag_23 = 0 from by rw [ht]; decide)).symm.trans hf
    clear hv
    refine g_bipush (v := (-4)) h dX0_when_33 kbipush_m4 ?_
    obtain ⟨rfl, rfl, rfl, rfl, rfl, rfl, rfl, rfl, rfl, rfl, rfl, rfl, rfl, rfl, rfl, rfl, rfl⟩ := sj17 hf
    exact g_iret h hF [0, 1, 2, 3, 4, 5, 6, 7, 8, 9, 10, 11, 12, 13, 14, 15, 16, 17, 18, 19, 20, 21] rfl rfl ⟨rfl, rfl⟩ (fle rfl) (fle rfl) dX0_when_35
set_option maxHeartbeats 4000000 in
set_option maxRecDepth 100000 in
theorem w_X0_odds_L32 {X : Cx} {a a_fell a_kept a_keptUndos a_kinds a_kinds_0 a_kinds_1 a_kinds_2 a_kinds_3 a_kinds_4 a_read a_sheets a_taken a_tape a_town a_town_gives a_town_kind a_town_length a_town_over a_town_place a_town_strength a_town_under a_tried a_tried_gives a_tried_kind a_tried_length a_tried_over a_tried_place a_tried_strength a_tried_under a_undos : Nat} {x1 : Int32} {x2 : Int32} {x3 : Int64} {falls : Int32} {tears : Int32} {typed : Int32} {place : Int32} {isKept : Int32} {town_n : Int32} {town_holders : Int32} {town_cuts : Int32} {town_hour : Int32} {town_bears : Int32} {town_draw : Int32} {town_kind : Nat → Int32} {town_strength : Nat → Int32} {town_place : Nat → Int32} {town_length : Nat → Int32} {town_gives : Nat → Int32} {tried_n : Int32} {tried_holders : Int32} {tried_cuts : Int32} {tried_hour : Int32} {tried_bears : Int32} {tried_draw : Int32} {tried_kind : Nat → Int32} {tried_strength : Nat → Int32} {tried_place : Nat → Int32} {tried_length : Nat → Int32} {tried_gives : Nat → Int32} {tried_over : Nat → Int32} {tried_under : Nat → Int32} {fell : Nat → Int32} {ce sl : Nat} (h : Ok X cX0_odds RX0) (hR : Rm X 7 159 1 2) (hL : ∀ i, i < 11 → i < X.nL) (hce : ce ≤ 1) (hsl : sl ≤ 2) : ∀ (n0 : Nat) (x5 : Int64) (x7 : Int32) {o_x5 : Int64}, f_X0_odds_L32 town_n town_holders n0 x5 x7 = some o_x5 → (G X [(a, .inr (0, [.ref a_kinds, .ref a_town, .ref a_tried, .ref a_fell, .int falls, .int tears, .ref a_tape, .int typed, .int place, .ref a_read, .ref a_undos, .ref a_kept, .ref a_keptUndos, .int isKept, .ref a_sheets, .ref a_taken])), (a_kinds, .inl (X.E 5, 5, .inr (.inr (.inr (.inr (kq a_kinds_0 a_kinds_1 a_kinds_2 a_kinds_3 a_kinds_4)))))), (a_kinds_0, .inr (1, [])), (a_kinds_1, .inr (2, [])), (a_kinds_2, .inr (3, [])), (a_kinds_3, .inr (4, [])), (a_kinds_4, .inr (5, [])), (a_town, .inr (6, [.ref a_town_kind, .ref a_town_strength, .ref a_town_place, .ref a_town_length, .ref a_town_gives, .ref a_town_over, .ref a_town_under, .int town_n, .int town_holders, .int town_cuts, .int town_hour, .int town_bears, .int town_draw, .ref a])), (a_town_kind, .inl (X.E 0, 8, .inl town_kind)), (a_town_strength, .inl (X.E 0, 8, .inl town_strength)), (a_town_place, .inl (X.E 0, 8, .inl town_place)), (a_town_length, .inl (X.E 0, 8, .inl town_length)), (a_town_gives, .inl (X.E 0, 8, .inl town_gives)), (a_tried, .inr (6, [.ref a_tried_kind, .ref a_tried_strength, .ref a_tried_place, .ref a_tried_length, .ref a_tried_gives, .ref a_tried_over, .ref a_tried_under, .int tried_n, .int tried_holders, .int tried_cuts, .int tried_hour, .int tried_bears, .int tried_draw, .ref a])), (a_tried_kind, .inl (X.E 0, 8, .inl tried_kind)), (a_tried_strength, .inl (X.E 0, 8, .inl tried_strength)), (a_tried_place, .inl (X.E 0, 8, .inl tried_place)), (a_tried_length, .inl (X.E 0, 8, .inl tried_length)), (a_tried_gives, .inl (X.E 0, 8, .inl tried_gives)), (a_tried_over, .inl (X.E 1, 8, .inl tried_over)), (a_tried_under, .inl (X.E 1, 8, .inl tried_under)), (a_fell, .inl (X.E 1, 8, .inl fell))] [(0, .ref a), (1, .int x1), (2, .int x2), (3, .long x3), (5, .long o_x5)] ce sl 70 []) → G X [(a, .inr (0, [.ref a_kinds, .ref a_town, .ref a_tried, .ref a_fell, .int falls, .int tears, .ref a_tape, .int typed, .int place, .ref a_read, .ref a_undos, .ref a_kept, .ref a_keptUndos, .int isKept, .ref a_sheets, .ref a_taken])), (a_kinds, .inl (X.E 5, 5, .inr (.inr (.inr (.inr (kq a_kinds_0 a_kinds_1 a_kinds_2 a_kinds_3 a_kinds_4)))))), (a_kinds_0, .inr (1, [])), (a_kinds_1, .inr (2, [])), (a_kinds_2, .inr (3, [])), (a_kinds_3, .inr (4, [])), (a_kinds_4, .inr (5, [])), (a_town, .inr (6, [.ref a_town_kind, .ref a_town_strength, .ref a_town_place, .ref a_town_length, .ref a_town_gives, .ref a_town_over, .ref a_town_under, .int town_n, .int town_holders, .int town_cuts, .int town_hour, .int town_bears, .int town_draw, .ref a])), (a_town_kind, .inl (X.E 0, 8, .inl town_kind)), (a_town_strength, .inl (X.E 0, 8, .inl town_strength)), (a_town_place, .inl (X.E 0, 8, .inl town_place)), (a_town_length, .inl (X.E 0, 8, .inl town_length)), (a_town_gives, .inl (X.E 0, 8, .inl town_gives)), (a_tried, .inr (6, [.ref a_tried_kind, .ref a_tried_strength, .ref a_tried_place, .ref a_tried_length, .ref a_tried_gives, .ref a_tried_over, .ref a_tried_under, .int tried_n, .int tried_holders, .int tried_cuts, .int tried_hour, .int tried_bears, .int tried_draw, .ref a])), (a_tried_kind, .inl (X.E 0, 8, .inl tried_kind)), (a_tried_strength, .inl (X.E 0, 8, .inl tried_strength)), (a_tried_place, .inl (X.E 0, 8, .inl tried_place)), (a_tried_length, .inl (X.E 0, 8, .inl tried_length)), (a_tried_gives, .inl (X.E 0, 8, .inl tried_gives)), (a_tried_over, .inl (X.E 1, 8, .inl tried_over)), (a_tried_under, .inl (X.E 1, 8, .inl tried_under)), (a_fell, .inl (X.E 1, 8, .inl fell))] [(0, .ref a), (1, .int x1), (2, .int x2), (3, .long x3), (5, .long x5), (7, .int x7)] ce sl 32 [] := by
  intro n0
  induction n0 with
  | zero => intro x5 x7 o_x5 hf; exact nomatch (show (none : Option _) = some _ from hf)
  | succ n0 ih =>
    intro x5 x7 o_x5 hf k0
    replace hf : t_X0_odds_L32 town_n town_holders (f_X0_odds_L32 town_n town_holders n0) x5 x7 = some o_x5 := hf
    unfold t_X0_odds_L32 at hf
    refine g_iload h 5 dX0_odds_32 rfl ?_
    refine g_aload_n h 0 dX0_odds_34 rfl rfl ?_
    refine g_get (ci := 0) (v := .ref a_town) h in_X0 0 1 rfl rfl (fle rfl) rfl q1112 rfl dX0_odds_35 ?_
    refine g_getN (ci := 6) (v := .int town_n) h in_X6 7 7 rfl rfl (fle rfl) rfl q564 rfl dX0_odds_38 ?_
    refine g_icmp_ge (tgt := 70) h dX0_odds_41 rfl hf (fun c5 hf => ?_) (fun c5 hf => ?_)
    · obtain rfl := sj1 hf
      exact G.lsub [0, 1, 2, 3, 4] rfl k0
    · refine g_aload_n h 0 dX0_odds_44 rfl rfl ?_
      refine g_get (ci := 0) (v := .ref a_town) h in_X0 0 1 rfl rfl (fle rfl) rfl q1112 rfl dX0_odds_45 ?_
      refine g_iload h 5 dX0_odds_48 rfl ?_
      obtain ⟨r_6, hv, hf⟩ := ob1 hf
      refine g_callV (ci := 6) (q0 := 7) (n := 1) (As := [.int x7]) (st := []) (wr := [(a, .inr (0, [.ref a_kinds, .ref a_town, .ref a_tried, .ref a_fell, .int falls, .int tears, .ref a_tape, .int typed, .int place, .ref a_read, .ref a_undos, .ref a_kept, .ref a_keptUndos, .int isKept, .ref a_sheets, .ref a_taken])), (a_kinds, .inl (X.E 5, 5, .inr (.inr (.inr (.inr (kq a_kinds_0 a_kinds_1 a_kinds_2 a_kinds_3 a_kinds_4)))))), (a_kinds_0, .inr (1, [])), (a_kinds_1, .inr (2, [])), (a_kinds_2, .inr (3, [])), (a_kinds_3, .inr (4, [])), (a_kinds_4, .inr (5, [])), (a_town_kind, .inl (X.E 0, 8, .inl town_kind)), (a_town_strength, .inl (X.E 0, 8, .inl town_strength)), (a_town_place, .inl (X.E 0, 8, .inl town_place)), (a_town_length, .inl (X.E 0, 8, .inl town_length)), (a_town_gives, .inl (X.E 0, 8, .inl town_gives)), (a_tried, .inr (6, [.ref a_tried_kind, .ref a_tried_strength, .ref a_tried_place, .ref a_tried_length, .ref a_tried_gives, .ref a_tried_over, .ref a_tried_under, .int tried_n, .int tried_holders, .int tried_cuts, .int tried_hour, .int tried_bears, .int tried_draw, .ref a])), (a_tried_kind, .inl (X.E 0, 8, .inl tried_kind)), (a_tried_strength, .inl (X.E 0, 8, .inl tried_strength)), (a_tried_place, .inl (X.E 0, 8, .inl tried_place)), (a_tried_length, .inl (X.E 0, 8, .inl tried_length)), (a_tried_gives, .inl (X.E 0, 8, .inl tried_gives)), (a_tried_over, .inl (X.E 1, 8, .inl tried_over)), (a_tried_under, .inl (X.E 1, 8, .inl tried_under)), (a_fell, .inl (X.E 1, 8, .inl fell))]) (isC := [7]) (isR := [0, 1, 2, 3, 4, 5, 6, 8, 9, 10, 11, 12, 13, 14, 15, 16, 17, 18, 19, 20, 21]) h hR (ct_X6_holds (a := a_town) (a_kind := a_town_kind) (a_strength := a_town_strength) (a_place := a_town_place) (a_length := a_town_length) (a_gives := a_town_gives) (a_over := a_town_over) (a_under := a_town_under) (a_this0 := a) (x1 := x7) (n := town_n) (holders := town_holders) (cuts := town_cuts) (hour := town_hour) (bears := town_bears) (draw := town_draw) hv) rfl rfl (lw_V q155 q143 q144 q76 q145) (by decide +kernel) rfl ⟨rfl, rfl, rfl, rfl, by decide⟩ ⟨hce, hsl, fle rfl, fle rfl, fle rfl⟩ rfl dX0_odds_50 (pin (perm := [0, 1, 2, 3, 4, 5, 6, 21, 7, 8, 9, 10, 11, 12, 13, 14, 15, 16, 17, 18, 19, 20]) (ws' := [(a, .inr (0, [.ref a_kinds, .ref a_town, .ref a_tried, .ref a_fell, .int falls, .int tears, .ref a_tape, .int typed, .int place, .ref a_read, .ref a_undos, .ref a_kept, .ref a_keptUndos, .int isKept, .ref a_sheets, .ref a_taken])), (a_kinds, .inl (X.E 5, 5, .inr (.inr (.inr (.inr (kq a_kinds_0 a_kinds_1 a_kinds_2 a_kinds_3 a_kinds_4)))))), (a_kinds_0, .inr (1, [])), (a_kinds_1, .inr (2, [])), (a_kinds_2, .inr (3, [])), (a_kinds_3, .inr (4, [])), (a_kinds_4, .inr (5, [])), (a_town, .inr (6, [.ref a_town_kind, .ref a_town_strength, .ref a_town_place, .ref a_town_length, .ref a_town_gives, .ref a_town_over, .ref a_town_under, .int town_n, .int town_holders, .int town_cuts, .int town_hour, .int town_bears, .int town_draw, .ref a])), (a_town_kind, .inl (X.E 0, 8, .inl town_kind)), (a_town_strength, .inl (X.E 0, 8, .inl town_strength)), (a_town_place, .inl (X.E 0, 8, .inl town_place)), (a_town_length, .inl (X.E 0, 8, .inl town_length)), (a_town_gives, .inl (X.E 0, 8, .inl town_gives)), (a_tried, .inr (6, [.ref a_tried_kind, .ref a_tried_strength, .ref a_tried_place, .ref a_tried_length, .ref a_tried_gives, .ref a_tried_over, .ref a_tried_under, .int tried_n, .int tried_holders, .int tried_cuts, .int tried_hour, .int tried_bears, .int tried_draw, .ref a])), (a_tried_kind, .inl (X.E 0, 8, .inl tried_kind)), (a_tried_strength, .inl (X.E 0, 8, .inl tried_strength)), (a_tried_place, .inl (X.E 0, 8, .inl tried_place)), (a_tried_length, .inl (X.E 0, 8, .inl tried_length)), (a_tried_gives, .inl (X.E 0, 8, .inl tried_gives)), (a_tried_over, .inl (X.E 1, 8, .inl tried_over)), (a_tried_under, .inl (X.E 1, 8, .inl tried_under)), (a_fell, .inl (X.E 1, 8, .inl fell))]) (stk := [.int r_6]) rfl rfl rfl ?_)
      clear hv
      refine g_if_eq (tgt := 64) h dX0_odds_53 rfl hf (fun c7 hf => ?_) (fun c7 hf => ?_)
      · refine g_iinc (j := 5) (v := (x7 + 1)) (lv' := [(7, .int (x7 + 1)), (0, .ref a), (1, .int x1), (2, .int x2), (3, .long x3), (5, .long x5)]) h dX0_odds_64 rfl (kinc_1 _) (hL 7 (fle rfl)) rfl ?_
        refine g_goto (tgt := 32) h dX0_odds_67 rfl ?_
        exact G.lsub [1, 2, 3, 4, 5, 0] rfl (ih _ _ hf k0)
      · refine g_lload h 4 dX0_odds_56 rfl ?_
        refine g_ldc2 h q803 dX0_odds_58 ?_
        refine g_lmul h dX0_odds_61 ?_
        refine g_lstore (lv' := [(5, .long (x5 * 10)), (0, .ref a), (1, .int x1), (2, .int x2), (3, .long x3), (7, .int x7)]) h dX0_odds_62 (hL 6 (fle rfl)) rfl ?_
        refine g_iinc (j := 5) (v := (x7 + 1)) (lv' := [(7, .int (x7 + 1)), (5, .long (x5 * 10)), (0, .ref a), (1, .int x1), (2, .int x2), (3, .long x3)]) h dX0_odds_64 rfl (kinc_1 _) (hL 7 (fle rfl)) rfl ?_
        refine g_goto (tgt := 32) h dX0_odds_67 rfl ?_
        exact G.lsub [2, 3, 4, 5, 1, 0] rfl (ih _ _ hf k0)
set_option maxHeartbeats 4000000 in
set_option maxRecDepth 100000 in
theorem w_X0_odds_L111 {X : Cx} {a a_fell a_kept a_keptUndos a_kinds a_kinds_0 a_kinds_1 a_kinds_2 a_kinds_3 a_kinds_4 a_read a_sheets a_taken a_tape a_town a_town_gives a_town_kind a_town_length a_town_over a_town_place a_town_strength a_town_under a_tried a_tried_gives a_tried_kind a_tried_length a_tried_over a_tried_place a_tried_strength a_tried_under a_undos : Nat} {x1 : Int32} {x2 : Int32} {x3 : Int64} {x5 : Int64} {x7 : Int32} {falls : Int32} {tears : Int32} {typed : Int32} {place : Int32} {isKept : Int32} {town_n : Int32} {town_holders : Int32} {town_cuts : Int32} {town_hour : Int32} {town_bears : Int32} {town_draw : Int32} {town_kind : Nat → Int32} {town_strength : Nat → Int32} {town_place : Nat → Int32} {town_length : Nat → Int32} {town_gives : Nat → Int32} {tried_n : Int32} {tried_holders : Int32} {tried_cuts : Int32} {tried_hour : Int32} {tried_bears : Int32} {tried_draw : Int32} {tried_kind : Nat → Int32} {tried_strength : Nat → Int32} {tried_place : Nat → Int32} {tried_length : Nat → Int32} {tried_gives : Nat → Int32} {tried_over : Nat → Int32} {tried_under : Nat → Int32} {fell : Nat → Int32} {ce sl : Nat} (h : Ok X cX0_odds RX0) (hR : Rm X 7 159 1 2) (hL : ∀ i, i < 11 → i < X.nL) (hce : ce ≤ 1) (hsl : sl ≤ 2) : ∀ (n0 : Nat) (x8 : Int64) (x10 : Int32) {o_x8 : Int64}, f_X0_odds_L111 x1 x7 town_n town_holders n0 x8 x10 = some o_x8 → (G X [(a, .inr (0, [.ref a_kinds, .ref a_town, .ref a_tried, .ref a_fell, .int falls, .int tears, .ref a_tape, .int typed, .int place, .ref a_read, .ref a_undos, .ref a_kept, .ref a_keptUndos, .int isKept, .ref a_sheets, .ref a_taken])), (a_kinds, .inl (X.E 5, 5, .inr (.inr (.inr (.inr (kq a_kinds_0 a_kinds_1 a_kinds_2 a_kinds_3 a_kinds_4)))))), (a_kinds_0, .inr (1, [])), (a_kinds_1, .inr (2, [])), (a_kinds_2, .inr (3, [])), (a_kinds_3, .inr (4, [])), (a_kinds_4, .inr (5, [])), (a_town, .inr (6, [.ref a_town_kind, .ref a_town_strength, .ref a_town_place, .ref a_town_length, .ref a_town_gives, .ref a_town_over, .ref a_town_under, .int town_n, .int town_holders, .int town_cuts, .int town_hour, .int town_bears, .int town_draw, .ref a])), (a_town_kind, .inl (X.E 0, 8, .inl town_kind)), (a_town_strength, .inl (X.E 0, 8, .inl town_strength)), (a_town_place, .inl (X.E 0, 8, .inl town_place)), (a_town_length, .inl (X.E 0, 8, .inl town_length)), (a_town_gives, .inl (X.E 0, 8, .inl town_gives)), (a_tried, .inr (6, [.ref a_tried_kind, .ref a_tried_strength, .ref a_tried_place, .ref a_tried_length, .ref a_tried_gives, .ref a_tried_over, .ref a_tried_under, .int tried_n, .int tried_holders, .int tried_cuts, .int tried_hour, .int tried_bears, .int tried_draw, .ref a])), (a_tried_kind, .inl (X.E 0, 8, .inl tried_kind)), (a_tried_strength, .inl (X.E 0, 8, .inl tried_strength)), (a_tried_place, .inl (X.E 0, 8, .inl tried_place)), (a_tried_length, .inl (X.E 0, 8, .inl tried_length)), (a_tried_gives, .inl (X.E 0, 8, .inl tried_gives)), (a_tried_over, .inl (X.E 1, 8, .inl tried_over)), (a_tried_under, .inl (X.E 1, 8, .inl tried_under)), (a_fell, .inl (X.E 1, 8, .inl fell))] [(0, .ref a), (1, .int x1), (2, .int x2), (3, .long x3), (5, .long x5), (7, .int x7), (8, .long o_x8)] ce sl 167 []) → G X [(a, .inr (0, [.ref a_kinds, .ref a_town, .ref a_tried, .ref a_fell, .int falls, .int tears, .ref a_tape, .int typed, .int place, .ref a_read, .ref a_undos, .ref a_kept, .ref a_keptUndos, .int isKept, .ref a_sheets, .ref a_taken])), (a_kinds, .inl (X.E 5, 5, .inr (.inr (.inr (.inr (kq a_kinds_0 a_kinds_1 a_kinds_2 a_kinds_3 a_kinds_4)))))), (a_kinds_0, .inr (1, [])), (a_kinds_1, .inr (2, [])), (a_kinds_2, .inr (3, [])), (a_kinds_3, .inr (4, [])), (a_kinds_4, .inr (5, [])), (a_town, .inr (6, [.ref a_town_kind, .ref a_town_strength, .ref a_town_place, .ref a_town_length, .ref a_town_gives, .ref a_town_over, .ref a_town_under, .int town_n, .int town_holders, .int town_cuts, .int town_hour, .int town_bears, .int town_draw, .ref a])), (a_town_kind, .inl (X.E 0, 8, .inl town_kind)), (a_town_strength, .inl (X.E 0, 8, .inl town_strength)), (a_town_place, .inl (X.E 0, 8, .inl town_place)), (a_town_length, .inl (X.E 0, 8, .inl town_length)), (a_town_gives, .inl (X.E 0, 8, .inl town_gives)), (a_tried, .inr (6, [.ref a_tried_kind, .ref a_tried_strength, .ref a_tried_place, .ref a_tried_length, .ref a_tried_gives, .ref a_tried_over, .ref a_tried_under, .int tried_n, .int tried_holders, .int tried_cuts, .int tried_hour, .int tried_bears, .int tried_draw, .ref a])), (a_tried_kind, .inl (X.E 0, 8, .inl tried_kind)), (a_tried_strength, .inl (X.E 0, 8, .inl tried_strength)), (a_tried_place, .inl (X.E 0, 8, .inl tried_place)), (a_tried_length, .inl (X.E 0, 8, .inl tried_length)), (a_tried_gives, .inl (X.E 0, 8, .inl tried_gives)), (a_tried_over, .inl (X.E 1, 8, .inl tried_over)), (a_tried_under, .inl (X.E 1, 8, .inl tried_under)), (a_fell, .inl (X.E 1, 8, .inl fell))] [(0, .ref a), (1, .int x1), (2, .int x2), (3, .long x3), (5, .long x5), (7, .int x7), (8, .long x8), (10, .int x10)] ce sl 111 [] := by
  intro n0
  induction n0 with
  | zero => intro x8 x10 o_x8 hf; exact nomatch (show (none : Option _) = some _ from hf)
  | succ n0 ih =>
    intro x8 x10 o_x8 hf k0
    replace hf : t_X0_odds_L111 x1 x7 town_n town_holders (f_X0_odds_L111 x1 x7 town_n town_holders n0) x8 x10 = some o_x8 := hf
    unfold t_X0_odds_L111 at hf
    refine g_iload h 7 dX0_odds_111 rfl ?_
    refine g_aload_n h 0 dX0_odds_113 rfl rfl ?_
    refine g_get (ci := 0) (v := .ref a_town) h in_X0 0 1 rfl rfl (fle rfl) rfl q1112 rfl dX0_odds_114 ?_
    refine g_getN (ci := 6) (v := .int town_n) h in_X6 7 7 rfl rfl (fle rfl) rfl q564 rfl dX0_odds_117 ?_
    refine g_icmp_ge (tgt := 167) h dX0_odds_120 rfl hf (fun c11 hf => ?_) (fun c11 hf => ?_)
    · obtain rfl := sj1 hf
      exact G.lsub [0, 1, 2, 3, 4, 5, 6] rfl k0
    · refine g_aload_n h 0 dX0_odds_123 rfl rfl ?_
      refine g_get (ci := 0) (v := .ref a_town) h in_X0 0 1 rfl rfl (fle rfl) rfl q1112 rfl dX0_odds_124 ?_
      refine g_iload h 7 dX0_odds_127 rfl ?_
      obtain ⟨r_12, hv, hf⟩ := ob1 hf
      refine g_callV (ci := 6) (q0 := 7) (n := 1) (As := [.int x10]) (st := []) (wr := [(a, .inr (0, [.ref a_kinds, .ref a_town, .ref a_tried, .ref a_fell, .int falls, .int tears, .ref a_tape, .int typed, .int place, .ref a_read, .ref a_undos, .ref a_kept, .ref a_keptUndos, .int isKept, .ref a_sheets, .ref a_taken])), (a_kinds, .inl (X.E 5, 5, .inr (.inr (.inr (.inr (kq a_kinds_0 a_kinds_1 a_kinds_2 a_kinds_3 a_kinds_4)))))), (a_kinds_0, .inr (1, [])), (a_kinds_1, .inr (2, [])), (a_kinds_2, .inr (3, [])), (a_kinds_3, .inr (4, [])), (a_kinds_4, .inr (5, [])), (a_town_kind, .inl (X.E 0, 8, .inl town_kind)), (a_town_strength, .inl (X.E 0, 8, .inl town_strength)), (a_town_place, .inl (X.E 0, 8, .inl town_place)), (a_town_length, .inl (X.E 0, 8, .inl town_length)), (a_town_gives, .inl (X.E 0, 8, .inl town_gives)), (a_tried, .inr (6, [.ref a_tried_kind, .ref a_tried_strength, .ref a_tried_place, .ref a_tried_length, .ref a_tried_gives, .ref a_tried_over, .ref a_tried_under, .int tried_n, .int tried_holders, .int tried_cuts, .int tried_hour, .int tried_bears, .int tried_draw, .ref a])), (a_tried_kind, .inl (X.E 0, 8, .inl tried_kind)), (a_tried_strength, .inl (X.E 0, 8, .inl tried_strength)), (a_tried_place, .inl (X.E 0, 8, .inl tried_place)), (a_tried_length, .inl (X.E 0, 8, .inl tried_length)), (a_tried_gives, .inl (X.E 0, 8, .inl tried_gives)), (a_tried_over, .inl (X.E 1, 8, .inl tried_over)), (a_tried_under, .inl (X.E 1, 8, .inl tried_under)), (a_fell, .inl (X.E 1, 8, .inl fell))]) (isC := [7]) (isR := [0, 1, 2, 3, 4, 5, 6, 8, 9, 10, 11, 12, 13, 14, 15, 16, 17, 18, 19, 20, 21]) h hR (ct_X6_holds (a := a_town) (a_kind := a_town_kind) (a_strength := a_town_strength) (a_place := a_town_place) (a_length := a_town_length) (a_gives := a_town_gives) (a_over := a_town_over) (a_under := a_town_under) (a_this0 := a) (x1 := x10) (n := town_n) (holders := town_holders) (cuts := town_cuts) (hour := town_hour) (bears := town_bears) (draw := town_draw) hv) rfl rfl (lw_V q155 q143 q144 q76 q145) (by decide +kernel) rfl ⟨rfl, rfl, rfl, rfl, by decide⟩ ⟨hce, hsl, fle rfl, fle rfl, fle rfl⟩ rfl dX0_odds_129 (pin (perm := [0, 1, 2, 3, 4, 5, 6, 21, 7, 8, 9, 10, 11, 12, 13, 14, 15, 16, 17, 18, 19, 20]) (ws' := [(a, .inr (0, [.ref a_kinds, .ref a_town, .ref a_tried, .ref a_fell, .int falls, .int tears, .ref a_tape, .int typed, .int place, .ref a_read, .ref a_undos, .ref a_kept, .ref a_keptUndos, .int isKept, .ref a_sheets, .ref a_taken])), (a_kinds, .inl (X.E 5, 5, .inr (.inr (.inr (.inr (kq a_kinds_0 a_kinds_1 a_kinds_2 a_kinds_3 a_kinds_4)))))), (a_kinds_0, .inr (1, [])), (a_kinds_1, .inr (2, [])), (a_kinds_2, .inr (3, [])), (a_kinds_3, .inr (4, [])), (a_kinds_4, .inr (5, [])), (a_town, .inr (6, [.ref a_town_kind, .ref a_town_strength, .ref a_town_place, .ref a_town_length, .ref a_town_gives, .ref a_town_over, .ref a_town_under, .int town_n, .int town_holders, .int town_cuts, .int town_hour, .int town_bears, .int town_draw, .ref a])), (a_town_kind, .inl (X.E 0, 8, .inl town_kind)), (a_town_strength, .inl (X.E 0, 8, .inl town_strength)), (a_town_place, .inl (X.E 0, 8, .inl town_place)), (a_town_length, .inl (X.E 0, 8, .inl town_length)), (a_town_gives, .inl (X.E 0, 8, .inl town_gives)), (a_tried, .inr (6, [.ref a_tried_kind, .ref a_tried_strength, .ref a_tried_place, .ref a_tried_length, .ref a_tried_gives, .ref a_tried_over, .ref a_tried_under, .int tried_n, .int tried_holders, .int tried_cuts, .int tried_hour, .int tried_bears, .int tried_draw, .ref a])), (a_tried_kind, .inl (X.E 0, 8, .inl tried_kind)), (a_tried_strength, .inl (X.E 0, 8, .inl tried_strength)), (a_tried_place, .inl (X.E 0, 8, .inl tried_place)), (a_tried_length, .inl (X.E 0, 8, .inl tried_length)), (a_tried_gives, .inl (X.E 0, 8, .inl tried_gives)), (a_tried_over, .inl (X.E 1, 8, .inl tried_over)), (a_tried_under, .inl (X.E 1, 8, .inl tried_under)), (a_fell, .inl (X.E 1, 8, .inl fell))]) (stk := [.int r_12]) rfl rfl rfl ?_)
      clear hv
      refine g_if_eq (tgt := 161) h dX0_odds_132 rfl hf (fun c13 hf => ?_) (fun c13 hf => ?_)
      · refine g_iinc (j := 7) (v := (x10 + 1)) (lv' := [(10, .int (x10 + 1)), (0, .ref a), (1, .int x1), (2, .int x2), (3, .long x3), (5, .long x5), (7, .int x7), (8, .long x8)]) h dX0_odds_161 rfl (kinc_1 _) (hL 10 (fle rfl)) rfl ?_
        refine g_goto (tgt := 111) h dX0_odds_164 rfl ?_
        exact G.lsub [1, 2, 3, 4, 5, 6, 7, 0] rfl (ih _ _ hf k0)
      · refine g_lload h 6 dX0_odds_135 rfl ?_
        refine g_iload h 5 dX0_odds_137 rfl ?_
        refine g_iload h 7 dX0_odds_139 rfl ?_
        refine g_ishr h dX0_odds_141 ?_
        refine g_iconst (v := 1) h dX0_odds_142 kiconst_1 ?_
        refine g_iand h dX0_odds_143 ?_
        refine g_iconst (v := 1) h dX0_odds_144 kiconst_1 ?_
        refine g_icmp_ne (tgt := 153) h dX0_odds_145 rfl hf (fun c14 hf => ?_) (fun c14 hf => ?_)
        · refine g_iload_n h 1 dX0_odds_148 rfl rfl ?_
          refine g_i2l h dX0_odds_149 ?_
          refine g_goto (tgt := 158) h dX0_odds_150 rfl ?_
          refine g_lmul h dX0_odds_158 ?_
          refine g_lstore (lv' := [(8, .long (x8 * x1.toInt64)), (0, .ref a), (1, .int x1), (2, .int x2), (3, .long x3), (5, .long x5), (7, .int x7), (10, .int x10)]) h dX0_odds_159 (hL 9 (fle rfl)) rfl ?_
          refine g_iinc (j := 7) (v := (x10 + 1)) (lv' := [(10, .int (x10 + 1)), (8, .long (x8 * x1.toInt64)), (0, .ref a), (1, .int x1), (2, .int x2), (3, .long x3), (5, .long x5), (7, .int x7)]) h dX0_odds_161 rfl (kinc_1 _) (hL 10 (fle rfl)) rfl ?_
          refine g_goto (tgt := 111) h dX0_odds_164 rfl ?_
          exact G.lsub [2, 3, 4, 5, 6, 7, 1, 0] rfl (ih _ _ hf k0)
        · refine g_bipush (v := 10) h dX0_odds_153 kbipush_10 ?_
          refine g_iload_n h 1 dX0_odds_155 rfl rfl ?_
          refine g_isub h dX0_odds_156 ?_
          refine g_i2l h dX0_odds_157 ?_
          refine g_lmul h dX0_odds_158 ?_
          refine g_lstore (lv' := [(8, .long (x8 * (10 - x1).toInt64)), (0, .ref a), (1, .int x1), (2, .int x2), (3, .long x3), (5, .long x5), (7, .int x7), (10, .int x10)]) h dX0_odds_159 (hL 9 (fle rfl)) rfl ?_
          refine g_iinc (j := 7) (v := (x10 + 1)) (lv' := [(10, .int (x10 + 1)), (8, .long (x8 * (10 - x1).toInt64)), (0, .ref a), (1, .int x1), (2, .int x2), (3, .long x3), (5, .long x5), (7, .int x7)]) h dX0_odds_161 rfl (kinc_1 _) (hL 10 (fle rfl)) rfl ?_
          refine g_goto (tgt := 111) h dX0_odds_164 rfl ?_
          exact G.lsub [2, 3, 4, 5, 6, 7, 1, 0] rfl (ih _ _ hf k0)
set_option maxHeartbeats 4000000 in
set_option maxRecDepth 100000 in
theorem w_X0_odds_L73 {X : Cx} {a a_fell a_kept a_keptUndos a_kinds a_kinds_0 a_kinds_1 a_kinds_2 a_kinds_3 a_kinds_4 a_read a_sheets a_taken a_tape a_town a_town_gives a_town_kind a_town_length a_town_over a_town_place a_town_strength a_town_under a_tried a_tried_gives a_tried_kind a_tried_length a_tried_over a_tried_place a_tried_strength a_tried_under a_undos : Nat} {x1 : Int32} {x2 : Int32} {x5 : Int64} {typed : Int32} {place : Int32} {isKept : Int32} {town_n : Int32} {town_holders : Int32} {town_cuts : Int32} {town_hour : Int32} {town_bears : Int32} {town_draw : Int32} {town_kind : Nat → Int32} {town_strength : Nat → Int32} {town_place : Nat → Int32} {town_length : Nat → Int32} {town_gives : Nat → Int32} {ce sl : Nat} (h : Ok X cX0_odds RX0) (hR : Rm X 7 159 1 2) (hL : ∀ i, i < 11 → i < X.nL) (hce : ce ≤ 1) (hsl : sl ≤ 2) : ∀ (n0 : Nat) (x3 : Int64) (x7 : Int32) (falls : Int32) (tears : Int32) (tried_n : Int32) (tried_holders : Int32) (tried_cuts : Int32) (tried_hour : Int32) (tried_bears : Int32) (tried_draw : Int32) (tried_kind : Nat → Int32) (tried_strength : Nat → Int32) (tried_place : Nat → Int32) (tried_length : Nat → Int32) (tried_gives : Nat → Int32) (tried_over : Nat → Int32) (tried_under : Nat → Int32) (fell : Nat → Int32) {o_x3 : Int64} {o_falls : Int32} {o_tears : Int32} {o_tried_n : Int32} {o_tried_holders : Int32} {o_tried_cuts : Int32} {o_tried_hour : Int32} {o_tried_bears : Int32} {o_tried_draw : Int32} {o_tried_kind : Nat → Int32} {o_tried_strength : Nat → Int32} {o_tried_place : Nat → Int32} {o_tried_length : Nat → Int32} {o_tried_gives : Nat → Int32} {o_tried_over : Nat → Int32} {o_tried_under : Nat → Int32} {o_fell : Nat → Int32}, f_X0_odds_L73 x1 town_n town_holders town_cuts town_hour town_bears town_draw town_kind town_strength town_place town_length town_gives n0 x3 x7 falls tears tried_n tried_holders tried_cuts tried_hour tried_bears tried_draw tried_kind tried_strength tried_place tried_length tried_gives tried_over tried_under fell = some (o_x3, o_falls, o_tears, o_tried_n, o_tried_holders, o_tried_cuts, o_tried_hour, o_tried_bears, o_tried_draw, o_tried_kind, o_tried_strength, o_tried_place, o_tried_length, o_tried_gives, o_tried_over, o_tried_under, o_fell) → (G X [(a, .inr (0, [.ref a_kinds, .ref a_town, .ref a_tried, .ref a_fell, .int o_falls, .int o_tears, .ref a_tape, .int typed, .int place, .ref a_read, .ref a_undos, .ref a_kept, .ref a_keptUndos, .int isKept, .ref a_sheets, .ref a_taken])), (a_kinds, .inl (X.E 5, 5, .inr (.inr (.inr (.inr (kq a_kinds_0 a_kinds_1 a_kinds_2 a_kinds_3 a_kinds_4)))))), (a_kinds_0, .inr (1, [])), (a_kinds_1, .inr (2, [])), (a_kinds_2, .inr (3, [])), (a_kinds_3, .inr (4, [])), (a_kinds_4, .inr (5, [])), (a_town, .inr (6, [.ref a_town_kind, .ref a_town_strength, .ref a_town_place, .ref a_town_length, .ref a_town_gives, .ref a_town_over, .ref a_town_under, .int town_n, .int town_holders, .int town_cuts, .int town_hour, .int town_bears, .int town_draw, .ref a])), (a_town_kind, .inl (X.E 0, 8, .inl town_kind)), (a_town_strength, .inl (X.E 0, 8, .inl town_strength)), (a_town_place, .inl (X.E 0, 8, .inl town_place)), (a_town_length, .inl (X.E 0, 8, .inl town_length)), (a_town_gives, .inl (X.E 0, 8, .inl town_gives)), (a_tried, .inr (6, [.ref a_tried_kind, .ref a_tried_strength, .ref a_tried_place, .ref a_tried_length, .ref a_tried_gives, .ref a_tried_over, .ref a_tried_under, .int o_tried_n, .int o_tried_holders, .int o_tried_cuts, .int o_tried_hour, .int o_tried_bears, .int o_tried_draw, .ref a])), (a_tried_kind, .inl (X.E 0, 8, .inl o_tried_kind)), (a_tried_strength, .inl (X.E 0, 8, .inl o_tried_strength)), (a_tried_place, .inl (X.E 0, 8, .inl o_tried_place)), (a_tried_length, .inl (X.E 0, 8, .inl o_tried_length)), (a_tried_gives, .inl (X.E 0, 8, .inl o_tried_gives)), (a_tried_over, .inl (X.E 1, 8, .inl o_tried_over)), (a_tried_under, .inl (X.E 1, 8, .inl o_tried_under)), (a_fell, .inl (X.E 1, 8, .inl o_fell))] [(2, .int x2), (3, .long o_x3), (5, .long x5)] ce sl 214 []) → G X [(a, .inr (0, [.ref a_kinds, .ref a_town, .ref a_tried, .ref a_fell, .int falls, .int tears, .ref a_tape, .int typed, .int place, .ref a_read, .ref a_undos, .ref a_kept, .ref a_keptUndos, .int isKept, .ref a_sheets, .ref a_taken])), (a_kinds, .inl (X.E 5, 5, .inr (.inr (.inr (.inr (kq a_kinds_0 a_kinds_1 a_kinds_2 a_kinds_3 a_kinds_4)))))), (a_kinds_0, .inr (1, [])), (a_kinds_1, .inr (2, [])), (a_kinds_2, .inr (3, [])), (a_kinds_3, .inr (4, [])), (a_kinds_4, .inr (5, [])), (a_town, .inr (6, [.ref a_town_kind, .ref a_town_strength, .ref a_town_place, .ref a_town_length, .ref a_town_gives, .ref a_town_over, .ref a_town_under, .int town_n, .int town_holders, .int town_cuts, .int town_hour, .int town_bears, .int town_draw, .ref a])), (a_town_kind, .inl (X.E 0, 8, .inl town_kind)), (a_town_strength, .inl (X.E 0, 8, .inl town_strength)), (a_town_place, .inl (X.E 0, 8, .inl town_place)), (a_town_length, .inl (X.E 0, 8, .inl town_length)), (a_town_gives, .inl (X.E 0, 8, .inl town_gives)), (a_tried, .inr (6, [.ref a_tried_kind, .ref a_tried_strength, .ref a_tried_place, .ref a_tried_length, .ref a_tried_gives, .ref a_tried_over, .ref a_tried_under, .int tried_n, .int tried_holders, .int tried_cuts, .int tried_hour, .int tried_bears, .int tried_draw, .ref a])), (a_tried_kind, .inl (X.E 0, 8, .inl tried_kind)), (a_tried_strength, .inl (X.E 0, 8, .inl tried_strength)), (a_tried_place, .inl (X.E 0, 8, .inl tried_place)), (a_tried_length, .inl (X.E 0, 8, .inl tried_length)), (a_tried_gives, .inl (X.E 0, 8, .inl tried_gives)), (a_tried_over, .inl (X.E 1, 8, .inl tried_over)), (a_tried_under, .inl (X.E 1, 8, .inl tried_under)), (a_fell, .inl (X.E 1, 8, .inl fell))] [(0, .ref a), (1, .int x1), (2, .int x2), (3, .long x3), (5, .long x5), (7, .int x7)] ce sl 73 [] := by
  intro n0
  induction n0 with
  | zero => intro x3 x7 falls tears tried_n tried_holders tried_cuts tried_hour tried_bears tried_draw tried_kind tried_strength tried_place tried_length tried_gives tried_over tried_under fell o_x3 o_falls o_tears o_tried_n o_tried_holders o_tried_cuts o_tried_hour o_tried_bears o_tried_draw o_tried_kind o_tried_strength o_tried_place o_tried_length o_tried_gives o_tried_over o_tried_under o_fell hf; exact nomatch (show (none : Option _) = some _ from hf)
  | succ n0 ih =>
    intro x3 x7 falls tears tried_n tried_holders tried_cuts tried_hour tried_bears tried_draw tried_kind tried_strength tried_place tried_length tried_gives tried_over tried_under fell o_x3 o_falls o_tears o_tried_n o_tried_holders o_tried_cuts o_tried_hour o_tried_bears o_tried_draw o_tried_kind o_tried_strength o_tried_place o_tried_length o_tried_gives o_tried_over o_tried_under o_fell hf k0
    replace hf : t_X0_odds_L73 x1 town_n town_holders town_cuts town_hour town_bears town_draw town_kind town_strength town_place town_length town_gives (f_X0_odds_L73 x1 town_n town_holders town_cuts town_hour town_bears town_draw town_kind town_strength town_place town_length town_gives n0) x3 x7 falls tears tried_n tried_holders tried_cuts tried_hour tried_bears tried_draw tried_kind tried_strength tried_place tried_length tried_gives tried_over tried_under fell = some (o_x3, o_falls, o_tears, o_tried_n, o_tried_holders, o_tried_cuts, o_tried_hour, o_tried_bears, o_tried_draw, o_tried_kind, o_tried_strength, o_tried_place, o_tried_length, o_tried_gives, o_tried_over, o_tried_under, o_fell) := hf
    unfold t_X0_odds_L73 at hf
    refine g_iload h 5 dX0_odds_73 rfl ?_
    refine g_iconst (v := 1) h dX0_odds_75 kiconst_1 ?_
    refine g_aload_n h 0 dX0_odds_76 rfl rfl ?_
    refine g_get (ci := 0) (v := .ref a_town) h in_X0 0 1 rfl rfl (fle rfl) rfl q1112 rfl dX0_odds_77 ?_
    refine g_getN (ci := 6) (v := .int town_n) h in_X6 7 7 rfl rfl (fle rfl) rfl q564 rfl dX0_odds_80 ?_
    refine g_ishl h dX0_odds_83 ?_
    refine g_icmp_ge (tgt := 214) h dX0_odds_84 rfl hf (fun c9 hf => ?_) (fun c9 hf => ?_)
    · obtain ⟨rfl, rfl, rfl, rfl, rfl, rfl, rfl, rfl, rfl, rfl, rfl, rfl, rfl, rfl, rfl, rfl, rfl⟩ := sj17 hf
      exact G.lsub [2, 3, 4] rfl k0
    · refine g_iload h 5 dX0_odds_87 rfl ?_
      refine g_aload_n h 0 dX0_odds_89 rfl rfl ?_
      refine g_get (ci := 0) (v := .ref a_town) h in_X0 0 1 rfl rfl (fle rfl) rfl q1112 rfl dX0_odds_90 ?_
      refine g_getN (ci := 6) (v := .int town_holders) h in_X6 7 8 rfl rfl (fle rfl) rfl q566 rfl dX0_odds_93 ?_
      refine g_iconst (v := (-1)) h dX0_odds_96 kiconst_m1 ?_
      refine g_ixor h dX0_odds_97 ?_
      refine g_iand h dX0_odds_98 ?_
      refine g_if_eq (tgt := 105) h dX0_odds_99 rfl hf (fun c10 hf => ?_) (fun c10 hf => ?_)
      · refine g_lconst (v := 1) h dX0_odds_105 rfl ?_
        refine g_lstore (lv' := [(8, .long 1), (0, .ref a), (1, .int x1), (2, .int x2), (3, .long x3), (5, .long x5), (7, .int x7)]) h dX0_odds_106 (hL 9 (fle rfl)) rfl ?_
        refine g_iconst (v := 0) h dX0_odds_108 kiconst_0 ?_
        refine g_istore (lv' := [(10, .int 0), (8, .long 1), (0, .ref a), (1, .int x1), (2, .int x2), (3, .long x3), (5, .long x5), (7, .int x7)]) h dX0_odds_109 (hL 10 (fle rfl)) rfl ?_
        refine G.lsub (lv' := [(0, .ref a), (1, .int x1), (2, .int x2), (3, .long x3), (5, .long x5), (7, .int x7), (8, .long 1), (10, .int 0)]) [2, 3, 4, 5, 6, 7, 1, 0] rfl ?_
        obtain ⟨x8_15, hv, hf⟩ := ob1 hf
        refine w_X0_odds_L111 (x1 := x1) (x2 := x2) (x3 := x3) (x5 := x5) (x7 := x7) (falls := falls) (tears := tears) (typed := typed) (place := place) (isKept := isKept) (town_n := town_n) (town_holders := town_holders) (town_cuts := town_cuts) (town_hour := town_hour) (town_bears := town_bears) (town_draw := town_draw) (town_kind := town_kind) (town_strength := town_strength) (town_place := town_place) (town_length := town_length) (town_gives := town_gives) (tried_n := tried_n) (tried_holders := tried_holders) (tried_cuts := tried_cuts) (tried_hour := tried_hour) (tried_bears := tried_bears) (tried_draw := tried_draw) (tried_kind := tried_kind) (tried_strength := tried_strength) (tried_place := tried_place) (tried_length := tried_length) (tried_gives := tried_gives) (tried_over := tried_over) (tried_under := tried_under) (fell := fell) h hR hL hce hsl FU _ _ hv ?_
        · clear hv
          refine g_aload_n h 0 dX0_odds_167 rfl rfl ?_
          obtain ⟨tried_n_16, tried_holders_17, tried_cuts_18, tried_hour_19, tried_bears_20, tried_draw_21, tried_kind_22, tried_strength_23, tried_place_24, tried_length_25, tried_gives_26, hv, hf⟩ := ob11 hf
          refine g_callV (ci := 0) (q0 := 0) (n := 0) (As := []) (st := []) (wr := [(a_kinds, .inl (X.E 5, 5, .inr (.inr (.inr (.inr (kq a_kinds_0 a_kinds_1 a_kinds_2 a_kinds_3 a_kinds_4)))))), (a_kinds_0, .inr (1, [])), (a_kinds_1, .inr (2, [])), (a_kinds_2, .inr (3, [])), (a_kinds_3, .inr (4, [])), (a_kinds_4, .inr (5, [])), (a_tried_over, .inl (X.E 1, 8, .inl tried_over)), (a_tried_under, .inl (X.E 1, 8, .inl tried_under)), (a_fell, .inl (X.E 1, 8, .inl fell))]) (isC := [0, 7, 8, 9, 10, 11, 12, 13, 14, 15, 16, 17, 18]) (isR := [1, 2, 3, 4, 5, 6, 19, 20, 21]) h hR (ct_X0_tries (a := a) (a_kinds := a_kinds) (a_town := a_town) (a_tried := a_tried) (a_fell := a_fell) (a_tape := a_tape) (a_read := a_read) (a_undos := a_undos) (a_kept := a_kept) (a_keptUndos := a_keptUndos) (a_sheets := a_sheets) (a_taken := a_taken) (a_town_kind := a_town_kind) (a_town_strength := a_town_strength) (a_town_place := a_town_place) (a_town_length := a_town_length) (a_town_gives := a_town_gives) (a_town_over := a_town_over) (a_town_under := a_town_under) (a_tried_kind := a_tried_kind) (a_tried_strength := a_tried_strength) (a_tried_place := a_tried_place) (a_tried_length := a_tried_length) (a_tried_gives := a_tried_gives) (a_tried_over := a_tried_over) (a_tried_under := a_tried_under) (falls := falls) (tears := tears) (typed := typed) (place := place) (isKept := isKept) (town_n := town_n) (town_holders := town_holders) (town_cuts := town_cuts) (town_hour := town_hour) (town_bears := town_bears) (town_draw := town_draw) (town_kind := town_kind) (town_strength := town_strength) (town_place := town_place) (town_length := town_length) (town_gives := town_gives) (tried_n := tried_n) (tried_holders := tried_holders) (tried_cuts := tried_cuts) (tried_hour := tried_hour) (tried_bears := tried_bears) (tried_draw := tried_draw) (tried_kind := tried_kind) (tried_strength := tried_strength) (tried_place := tried_place) (tried_length := tried_length) (tried_gives := tried_gives) hv) rfl rfl (lw_V q772 q774 qs19 q70 q775) (by decide +kernel) rfl ⟨rfl, rfl, rfl, rfl, by decide⟩ ⟨hce, hsl, fle rfl, fle rfl, fle rfl⟩ rfl dX0_odds_168 (pin (perm := [9, 0, 1, 2, 3, 4, 5, 10, 11, 12, 13, 14, 15, 16, 17, 18, 19, 20, 21, 6, 7, 8]) (ws' := [(a, .inr (0, [.ref a_kinds, .ref a_town, .ref a_tried, .ref a_fell, .int falls, .int tears, .ref a_tape, .int typed, .int place, .ref a_read, .ref a_undos, .ref a_kept, .ref a_keptUndos, .int isKept, .ref a_sheets, .ref a_taken])), (a_kinds, .inl (X.E 5, 5, .inr (.inr (.inr (.inr (kq a_kinds_0 a_kinds_1 a_kinds_2 a_kinds_3 a_kinds_4)))))), (a_kinds_0, .inr (1, [])), (a_kinds_1, .inr (2, [])), (a_kinds_2, .inr (3, [])), (a_kinds_3, .inr (4, [])), (a_kinds_4, .inr (5, [])), (a_town, .inr (6, [.ref a_town_kind, .ref a_town_strength, .ref a_town_place, .ref a_town_length, .ref a_town_gives, .ref a_town_over, .ref a_town_under, .int town_n, .int town_holders, .int town_cuts, .int town_hour, .int town_bears, .int town_draw, .ref a])), (a_town_kind, .inl (X.E 0, 8, .inl town_kind)), (a_town_strength, .inl (X.E 0, 8, .inl town_strength)), (a_town_place, .inl (X.E 0, 8, .inl town_place)), (a_town_length, .inl (X.E 0, 8, .inl town_length)), (a_town_gives, .inl (X.E 0, 8, .inl town_gives)), (a_tried, .inr (6, [.ref a_tried_kind, .ref a_tried_strength, .ref a_tried_place, .ref a_tried_length, .ref a_tried_gives, .ref a_tried_over, .ref a_tried_under, .int tried_n_16, .int tried_holders_17, .int tried_cuts_18, .int tried_hour_19, .int tried_bears_20, .int tried_draw_21, .ref a])), (a_tried_kind, .inl (X.E 0, 8, .inl tried_kind_22)), (a_tried_strength, .inl (X.E 0, 8, .inl tried_strength_23)), (a_tried_place, .inl (X.E 0, 8, .inl tried_place_24)), (a_tried_length, .inl (X.E 0, 8, .inl tried_length_25)), (a_tried_gives, .inl (X.E 0, 8, .inl tried_gives_26)), (a_tried_over, .inl (X.E 1, 8, .inl tried_over)), (a_tried_under, .inl (X.E 1, 8, .inl tried_under)), (a_fell, .inl (X.E 1, 8, .inl fell))]) (stk := [.ref a_tried]) rfl rfl rfl ?_)
          clear hv
          refine g_astore (lv' := [(10, .ref a_tried), (0, .ref a), (1, .int x1), (2, .int x2), (3, .long x3), (5, .long x5), (7, .int x7), (8, .long x8_15)]) h dX0_odds_171 (hL 10 (fle rfl)) rfl ?_
          refine g_aload h 0 dX0_odds_173 rfl ?_
          refine g_dup h dX0_odds_175 rfl ?_
          refine g_getN (ci := 6) (v := .int tried_holders_17) h in_X6 13 8 rfl rfl (fle rfl) rfl q566 rfl dX0_odds_176 ?_
          refine g_iload h 6 dX0_odds_179 rfl ?_
          refine g_iconst (v := (-1)) h dX0_odds_181 kiconst_m1 ?_
          refine g_ixor h dX0_odds_182 ?_
          refine g_iand h dX0_odds_183 ?_
          refine g_putN (ci := 6) (ty := tyX6 8) (ws' := [(a, .inr (0, [.ref a_kinds, .ref a_town, .ref a_tried, .ref a_fell, .int falls, .int tears, .ref a_tape, .int typed, .int place, .ref a_read, .ref a_undos, .ref a_kept, .ref a_keptUndos, .int isKept, .ref a_sheets, .ref a_taken])), (a_kinds, .inl (X.E 5, 5, .inr (.inr (.inr (.inr (kq a_kinds_0 a_kinds_1 a_kinds_2 a_kinds_3 a_kinds_4)))))), (a_kinds_0, .inr (1, [])), (a_kinds_1, .inr (2, [])), (a_kinds_2, .inr (3, [])), (a_kinds_3, .inr (4, [])), (a_kinds_4, .inr (5, [])), (a_town, .inr (6, [.ref a_town_kind, .ref a_town_strength, .ref a_town_place, .ref a_town_length, .ref a_town_gives, .ref a_town_over, .ref a_town_under, .int town_n, .int town_holders, .int town_cuts, .int town_hour, .int town_bears, .int town_draw, .ref a])), (a_town_kind, .inl (X.E 0, 8, .inl town_kind)), (a_town_strength, .inl (X.E 0, 8, .inl town_strength)), (a_town_place, .inl (X.E 0, 8, .inl town_place)), (a_town_length, .inl (X.E 0, 8, .inl town_length)), (a_town_gives, .inl (X.E 0, 8, .inl town_gives)), (a_tried, .inr (6, [.ref a_tried_kind, .ref a_tried_strength, .ref a_tried_place, .ref a_tried_length, .ref a_tried_gives, .ref a_tried_over, .ref a_tried_under, .int tried_n_16, .int (tried_holders_17 &&& (x7 ^^^ (-1))), .int tried_cuts_18, .int tried_hour_19, .int tried_bears_20, .int tried_draw_21, .ref a])), (a_tried_kind, .inl (X.E 0, 8, .inl tried_kind_22)), (a_tried_strength, .inl (X.E 0, 8, .inl tried_strength_23)), (a_tried_place, .inl (X.E 0, 8, .inl tried_place_24)), (a_tried_length, .inl (X.E 0, 8, .inl tried_length_25)), (a_tried_gives, .inl (X.E 0, 8, .inl tried_gives_26)), (a_tried_over, .inl (X.E 1, 8, .inl tried_over)), (a_tried_under, .inl (X.E 1, 8, .inl tried_under)), (a_fell, .inl (X.E 1, 8, .inl fell))]) h in_X6 tyX6 tyX6_ok nmX6 13 8 rfl rfl (fle rfl) ⟨rfl, rfl⟩ q566 rfl rfl rfl (fle rfl) rfl dX0_odds_184 ?_
          refine g_lload h 7 dX0_odds_187 rfl ?_
          refine g_lconst (v := 0) h dX0_odds_189 rfl ?_
          refine g_lcmp h dX0_odds_190 ?_
          refine g_if_le (tgt := 208) h dX0_odds_191 rfl hf (fun c27 hf => ?_) (fun c27 hf => ?_)
          · refine g_iinc (j := 6) (v := (x7 + 1)) (lv' := [(7, .int (x7 + 1)), (10, .ref a_tried), (0, .ref a), (1, .int x1), (2, .int x2), (3, .long x3), (5, .long x5), (8, .long x8_15)]) h dX0_odds_208 rfl (kinc_1 _) (hL 7 (fle rfl)) rfl ?_
            refine g_goto (tgt := 73) h dX0_odds_211 rfl ?_
            exact G.lsub [2, 3, 4, 5, 6, 0] rfl (ih _ _ _ _ _ _ _ _ _ _ _ _ _ _ _ _ _ _ hf k0)
          · refine g_aload_n h 1 dX0_odds_194 rfl rfl ?_
            refine g_aload h 0 dX0_odds_195 rfl ?_
            obtain ⟨r_28, falls_29, tears_30, fell_31, tried_holders_32, tried_cuts_33, tried_over_34, tried_under_35, hv, hf⟩ := ob8 hf
            refine g_callV (ci := 0) (q0 := 0) (n := 1) (As := [.ref a_tried]) (st := []) (wr := [(a_town, .inr (6, [.ref a_town_kind, .ref a_town_strength, .ref a_town_place, .ref a_town_length, .ref a_town_gives, .ref a_town_over, .ref a_town_under, .int town_n, .int town_holders, .int town_cuts, .int town_hour, .int town_bears, .int town_draw, .ref a])), (a_town_kind, .inl (X.E 0, 8, .inl town_kind)), (a_town_strength, .inl (X.E 0, 8, .inl town_strength)), (a_town_place, .inl (X.E 0, 8, .inl town_place)), (a_town_length, .inl (X.E 0, 8, .inl town_length)), (a_town_gives, .inl (X.E 0, 8, .inl town_gives))]) (isC := [0, 1, 2, 3, 4, 5, 6, 21, 13, 14, 15, 16, 17, 18, 19, 20]) (isR := [7, 8, 9, 10, 11, 12]) h hR (ct_X0_isStill (a := a) (a_t1 := a_tried) (a_kinds := a_kinds) (a_town := a_town) (a_tried := a_tried) (a_fell := a_fell) (a_tape := a_tape) (a_read := a_read) (a_undos := a_undos) (a_kept := a_kept) (a_keptUndos := a_keptUndos) (a_sheets := a_sheets) (a_taken := a_taken) (a_kinds_0 := a_kinds_0) (a_kinds_1 := a_kinds_1) (a_kinds_2 := a_kinds_2) (a_kinds_3 := a_kinds_3) (a_kinds_4 := a_kinds_4) (a_t1_kind := a_tried_kind) (a_t1_strength := a_tried_strength) (a_t1_place := a_tried_place) (a_t1_length := a_tried_length) (a_t1_gives := a_tried_gives) (a_t1_over := a_tried_over) (a_t1_under := a_tried_under) (falls := falls) (tears := tears) (typed := typed) (place := place) (isKept := isKept) (fell := fell) (t1_n := tried_n_16) (t1_holders := (tried_holders_17 &&& (x7 ^^^ (-1)))) (t1_cuts := tried_cuts_18) (t1_hour := tried_hour_19) (t1_bears := tried_bears_20) (t1_draw := tried_draw_21) (t1_kind := tried_kind_22) (t1_strength := tried_strength_23) (t1_place := tried_place_24) (t1_length := tried_length_25) (t1_gives := tried_gives_26) (t1_over := tried_over) (t1_under := tried_under) hv) rfl rfl (lw_V q776 q778 qs20 q70 q779) (by decide +kernel) rfl ⟨rfl, rfl, rfl, rfl, by decide⟩ ⟨hce, hsl, fle rfl, fle rfl, fle rfl⟩ rfl dX0_odds_197 (pin (perm := [6, 7, 8, 9, 10, 11, 12, 0, 1, 2, 3, 4, 5, 14, 15, 16, 17, 18, 19, 20, 21, 13]) (ws' := [(a, .inr (0, [.ref a_kinds, .ref a_town, .ref a_tried, .ref a_fell, .int falls_29, .int tears_30, .ref a_tape, .int typed, .int place, .ref a_read, .ref a_undos, .ref a_kept, .ref a_keptUndos, .int isKept, .ref a_sheets, .ref a_taken])), (a_kinds, .inl (X.E 5, 5, .inr (.inr (.inr (.inr (kq a_kinds_0 a_kinds_1 a_kinds_2 a_kinds_3 a_kinds_4)))))), (a_kinds_0, .inr (1, [])), (a_kinds_1, .inr (2, [])), (a_kinds_2, .inr (3, [])), (a_kinds_3, .inr (4, [])), (a_kinds_4, .inr (5, [])), (a_town, .inr (6, [.ref a_town_kind, .ref a_town_strength, .ref a_town_place, .ref a_town_length, .ref a_town_gives, .ref a_town_over, .ref a_town_under, .int town_n, .int town_holders, .int town_cuts, .int town_hour, .int town_bears, .int town_draw, .ref a])), (a_town_kind, .inl (X.E 0, 8, .inl town_kind)), (a_town_strength, .inl (X.E 0, 8, .inl town_strength)), (a_town_place, .inl (X.E 0, 8, .inl town_place)), (a_town_length, .inl (X.E 0, 8, .inl town_length)), (a_town_gives, .inl (X.E 0, 8, .inl town_gives)), (a_tried, .inr (6, [.ref a_tried_kind, .ref a_tried_strength, .ref a_tried_place, .ref a_tried_length, .ref a_tried_gives, .ref a_tried_over, .ref a_tried_under, .int tried_n_16, .int tried_holders_32, .int tried_cuts_33, .int tried_hour_19, .int tried_bears_20, .int tried_draw_21, .ref a])), (a_tried_kind, .inl (X.E 0, 8, .inl tried_kind_22)), (a_tried_strength, .inl (X.E 0, 8, .inl tried_strength_23)), (a_tried_place, .inl (X.E 0, 8, .inl tried_place_24)), (a_tried_length, .inl (X.E 0, 8, .inl tried_length_25)), (a_tried_gives, .inl (X.E 0, 8, .inl tried_gives_26)), (a_tried_over, .inl (X.E 1, 8, .inl tried_over_34)), (a_tried_under, .inl (X.E 1, 8, .inl tried_under_35)), (a_fell, .inl (X.E 1, 8, .inl fell_31))]) (stk := [.int r_28]) rfl rfl rfl ?_)
            clear hv
            refine g_if_eq (tgt := 208) h dX0_odds_200 rfl hf (fun c36 hf => ?_) (fun c36 hf => ?_)
            · refine g_iinc (j := 6) (v := (x7 + 1)) (lv' := [(7, .int (x7 + 1)), (10, .ref a_tried), (0, .ref a), (1, .int x1), (2, .int x2), (3, .long x3), (5, .long x5), (8, .long x8_15)]) h dX0_odds_208 rfl (kinc_1 _) (hL 7 (fle rfl)) rfl ?_
              refine g_goto (tgt := 73) h dX0_odds_211 rfl ?_
              exact G.lsub [2, 3, 4, 5, 6, 0] rfl (ih _ _ _ _ _ _ _ _ _ _ _ _ _ _ _ _ _ _ hf k0)
            · refine g_lload_n h 4 dX0_odds_203 rfl rfl ?_
              refine g_lload h 7 dX0_odds_204 rfl ?_
              refine g_ladd h dX0_odds_206 ?_
              refine g_lstore_n (lv' := [(3, .long (x3 + x8_15)), (10, .ref a_tried), (0, .ref a), (1, .int x1), (2, .int x2), (5, .long x5), (7, .int x7), (8, .long x8_15)]) h dX0_odds_207 rfl (hL 4 (fle rfl)) rfl ?_
              refine g_iinc (j := 6) (v := (x7 + 1)) (lv' := [(7, .int (x7 + 1)), (3, .long (x3 + x8_15)), (10, .ref a_tried), (0, .ref a), (1, .int x1), (2, .int x2), (5, .long x5), (8, .long x8_15)]) h dX0_odds_208 rfl (kinc_1 _) (hL 7 (fle rfl)) rfl ?_
              refine g_goto (tgt := 73) h dX0_odds_211 rfl ?_
              exact G.lsub [3, 4, 5, 1, 6, 0] rfl (ih _ _ _ _ _ _ _ _ _ _ _ _ _ _ _ _ _ _ hf k0)
      · refine g_goto (tgt := 208) h dX0_odds_102 rfl ?_
        refine g_iinc (j := 5) (v := (x7 + 1)) (lv' := [(7, .int (x7 + 1)), (0, .ref a), (1, .int x1), (2, .int x2), (3, .long x3), (5, .long x5)]) h dX0_odds_208 rfl (kinc_1 _) (hL 7 (fle rfl)) rfl ?_
        refine g_goto (tgt := 73) h dX0_odds_211 rfl ?_
        exact G.lsub [1, 2, 3, 4, 5, 0] rfl (ih _ _ _ _ _ _ _ _ _ _ _ _ _ _ _ _ _ _ hf k0)
set_option maxHeartbeats 4000000 in
set_option maxRecDepth 100000 in
theorem ct_X0_odds {l : Launch} {D : va_G} {E : Ety} {a a_kinds a_town a_tried a_fell a_tape a_read a_undos a_kept a_keptUndos a_sheets a_taken a_kinds_0 a_kinds_1 a_kinds_2 a_kinds_3 a_kinds_4 a_town_kind a_town_strength a_town_place a_town_length a_town_gives a_town_over a_town_under a_tried_kind a_tried_strength a_tried_place a_tried_length a_tried_gives a_tried_over a_tried_under : Nat} {x1 : Int32} {x2 : Int32} {falls : Int32} {tears : Int32} {typed : Int32} {place : Int32} {isKept : Int32} {town_n : Int32} {town_holders : Int32} {town_cuts : Int32} {town_hour : Int32} {town_bears : Int32} {town_draw : Int32} {town_kind : Nat → Int32} {town_strength : Nat → Int32} {town_place : Nat → Int32} {town_length : Nat → Int32} {town_gives : Nat → Int32} {tried_n : Int32} {tried_holders : Int32} {tried_cuts : Int32} {tried_hour : Int32} {tried_bears : Int32} {tried_draw : Int32} {tried_kind : Nat → Int32} {tried_strength : Nat → Int32} {tried_place : Nat → Int32} {tried_length : Nat → Int32} {tried_gives : Nat → Int32} {tried_over : Nat → Int32} {tried_under : Nat → Int32} {fell : Nat → Int32} {r_ : Int32} {o_falls : Int32} {o_tears : Int32} {o_tried_n : Int32} {o_tried_holders : Int32} {o_tried_cuts : Int32} {o_tried_hour : Int32} {o_tried_bears : Int32} {o_tried_draw : Int32} {o_tried_kind : Nat → Int32} {o_tried_strength : Nat → Int32} {o_tried_place : Nat → Int32} {o_tried_length : Nat → Int32} {o_tried_gives : Nat → Int32} {o_tried_over : Nat → Int32} {o_tried_under : Nat → Int32} {o_fell : Nat → Int32} (hf : f_X0_odds x1 x2 falls tears town_n town_holders town_cuts town_hour town_bears town_draw town_kind town_strength town_place town_length town_gives tried_n tried_holders tried_cuts tried_hour tried_bears tried_draw tried_kind tried_strength tried_place tried_length tried_gives tried_over tried_under fell = some (r_, o_falls, o_tears, o_tried_n, o_tried_holders, o_tried_cuts, o_tried_hour, o_tried_bears, o_tried_draw, o_tried_kind, o_tried_strength, o_tried_place, o_tried_length, o_tried_gives, o_tried_over, o_tried_under, o_fell)) : Ct l yX0_odds cX0_odds 11 (some .int) 7 159 1 2 D E [.ref a, .int x1, .int x2] [(a, .inr (0, [.ref a_kinds, .ref a_town, .ref a_tried, .ref a_fell, .int falls, .int tears, .ref a_tape, .int typed, .int place, .ref a_read, .ref a_undos, .ref a_kept, .ref a_keptUndos, .int isKept, .ref a_sheets, .ref a_taken])), (a_kinds, .inl (E 5, 5, .inr (.inr (.inr (.inr (kq a_kinds_0 a_kinds_1 a_kinds_2 a_kinds_3 a_kinds_4)))))), (a_kinds_0, .inr (1, [])), (a_kinds_1, .inr (2, [])), (a_kinds_2, .inr (3, [])), (a_kinds_3, .inr (4, [])), (a_kinds_4, .inr (5, [])), (a_town, .inr (6, [.ref a_town_kind, .ref a_town_strength, .ref a_town_place, .ref a_town_length, .ref a_town_gives, .ref a_town_over, .ref a_town_under, .int town_n, .int town_holders, .int town_cuts, .int town_hour, .int town_bears, .int town_draw, .ref a])), (a_town_kind, .inl (E 0, 8, .inl town_kind)), (a_town_strength, .inl (E 0, 8, .inl town_strength)), (a_town_place, .inl (E 0, 8, .inl town_place)), (a_town_length, .inl (E 0, 8, .inl town_length)), (a_town_gives, .inl (E 0, 8, .inl town_gives)), (a_tried, .inr (6, [.ref a_tried_kind, .ref a_tried_strength, .ref a_tried_place, .ref a_tried_length, .ref a_tried_gives, .ref a_tried_over, .ref a_tried_under, .int tried_n, .int tried_holders, .int tried_cuts, .int tried_hour, .int tried_bears, .int tried_draw, .ref a])), (a_tried_kind, .inl (E 0, 8, .inl tried_kind)), (a_tried_strength, .inl (E 0, 8, .inl tried_strength)), (a_tried_place, .inl (E 0, 8, .inl tried_place)), (a_tried_length, .inl (E 0, 8, .inl tried_length)), (a_tried_gives, .inl (E 0, 8, .inl tried_gives)), (a_tried_over, .inl (E 1, 8, .inl tried_over)), (a_tried_under, .inl (E 1, 8, .inl tried_under)), (a_fell, .inl (E 1, 8, .inl fell))] (Pn (some (.int r_)) [(a, .inr (0, [.ref a_kinds, .ref a_town, .ref a_tried, .ref a_fell, .int o_falls, .int o_tears, .ref a_tape, .int typed, .int place, .ref a_read, .ref a_undos, .ref a_kept, .ref a_keptUndos, .int isKept, .ref a_sheets, .ref a_taken])), (a_kinds, .inl (E 5, 5, .inr (.inr (.inr (.inr (kq a_kinds_0 a_kinds_1 a_kinds_2 a_kinds_3 a_kinds_4)))))), (a_kinds_0, .inr (1, [])), (a_kinds_1, .inr (2, [])), (a_kinds_2, .inr (3, [])), (a_kinds_3, .inr (4, [])), (a_kinds_4, .inr (5, [])), (a_town, .inr (6, [.ref a_town_kind, .ref a_town_strength, .ref a_town_place, .ref a_town_length, .ref a_town_gives, .ref a_town_over, .ref a_town_under, .int town_n, .int town_holders, .int town_cuts, .int town_hour, .int town_bears, .int town_draw, .ref a])), (a_town_kind, .inl (E 0, 8, .inl town_kind)), (a_town_strength, .inl (E 0, 8, .inl town_strength)), (a_town_place, .inl (E 0, 8, .inl town_place)), (a_town_length, .inl (E 0, 8, .inl town_length)), (a_town_gives, .inl (E 0, 8, .inl town_gives)), (a_tried, .inr (6, [.ref a_tried_kind, .ref a_tried_strength, .ref a_tried_place, .ref a_tried_length, .ref a_tried_gives, .ref a_tried_over, .ref a_tried_under, .int o_tried_n, .int o_tried_holders, .int o_tried_cuts, .int o_tried_hour, .int o_tried_bears, .int o_tried_draw, .ref a])), (a_tried_kind, .inl (E 0, 8, .inl o_tried_kind)), (a_tried_strength, .inl (E 0, 8, .inl o_tried_strength)), (a_tried_place, .inl (E 0, 8, .inl o_tried_place)), (a_tried_length, .inl (E 0, 8, .inl o_tried_length)), (a_tried_gives, .inl (E 0, 8, .inl o_tried_gives)), (a_tried_over, .inl (E 1, 8, .inl o_tried_over)), (a_tried_under, .inl (E 1, 8, .inl o_tried_under)), (a_fell, .inl (E 1, 8, .inl o_fell))]) := by
  refine ct_of (own := RX0) (plainFor_of_name (by decide)) rfl (fle rfl) rfl ?_
  intro X hl hD hE hnL hXF h hR hF hnm
  subst hl; subst hD; subst hE
  have hL : ∀ i, i < 11 → i < X.nL := fun i hi => by rw [hnL]; exact hi
  unfold f_X0_odds at hf
  refine g_iload_n h 1 dX0_odds_0 rfl rfl ?_
  refine g_i2l h dX0_odds_1 ?_
  refine g_lconst (v := 0) h dX0_odds_2 rfl ?_
  refine g_ldc2 h q803 dX0_odds_3 ?_
  obtain ⟨r_1, hv, hf⟩ := ob1 hf
  refine g_callS (n := 3) (As := [.long x1.toInt64, .long 0, .long 10]) (st := []) (wr := [(a, .inr (0, [.ref a_kinds, .ref a_town, .ref a_tried, .ref a_fell, .int falls, .int tears, .ref a_tape, .int typed, .int place, .ref a_read, .ref a_undos, .ref a_kept, .ref a_keptUndos, .int isKept, .ref a_sheets, .ref a_taken])), (a_kinds, .inl (X.E 5, 5, .inr (.inr (.inr (.inr (kq a_kinds_0 a_kinds_1 a_kinds_2 a_kinds_3 a_kinds_4)))))), (a_kinds_0, .inr (1, [])), (a_kinds_1, .inr (2, [])), (a_kinds_2, .inr (3, [])), (a_kinds_3, .inr (4, [])), (a_kinds_4, .inr (5, [])), (a_town, .inr (6, [.ref a_town_kind, .ref a_town_strength, .ref a_town_place, .ref a_town_length, .ref a_town_gives, .ref a_town_over, .ref a_town_under, .int town_n, .int town_holders, .int town_cuts, .int town_hour, .int town_bears, .int town_draw, .ref a])), (a_town_kind, .inl (X.E 0, 8, .inl town_kind)), (a_town_strength, .inl (X.E 0, 8, .inl town_strength)), (a_town_place, .inl (X.E 0, 8, .inl town_place)), (a_town_length, .inl (X.E 0, 8, .inl town_length)), (a_town_gives, .inl (X.E 0, 8, .inl town_gives)), (a_tried, .inr (6, [.ref a_tried_kind, .ref a_tried_strength, .ref a_tried_place, .ref a_tried_length, .ref a_tried_gives, .ref a_tried_over, .ref a_tried_under, .int tried_n, .int tried_holders, .int tried_cuts, .int tried_hour, .int tried_bears, .int tried_draw, .ref a])), (a_tried_kind, .inl (X.E 0, 8, .inl tried_kind)), (a_tried_strength, .inl (X.E 0, 8, .inl tried_strength)), (a_tried_place, .inl (X.E 0, 8, .inl tried_place)), (a_tried_length, .inl (X.E 0, 8, .inl tried_length)), (a_tried_gives, .inl (X.E 0, 8, .inl tried_gives)), (a_tried_over, .inl (X.E 1, 8, .inl tried_over)), (a_tried_under, .inl (X.E 1, 8, .inl tried_under)), (a_fell, .inl (X.E 1, 8, .inl fell))]) (isC := []) (isR := [0, 1, 2, 3, 4, 5, 6, 7, 8, 9, 10, 11, 12, 13, 14, 15, 16, 17, 18, 19, 20, 21]) h hR (ct_X0_in (x0 := x1.toInt64) (x2 := 0) (x4 := 10) hv) (lw_S q107 q108 q70 q109) (by decide +kernel) rfl ⟨rfl, rfl, rfl, rfl, by decide⟩ ⟨fle rfl, fle rfl, fle rfl, fle rfl, fle rfl⟩ rfl dX0_odds_6 (pin (perm := [0, 1, 2, 3, 4, 5, 6, 7, 8, 9, 10, 11, 12, 13, 14, 15, 16, 17, 18, 19, 20, 21]) (ws' := [(a, .inr (0, [.ref a_kinds, .ref a_town, .ref a_tried, .ref a_fell, .int falls, .int tears, .ref a_tape, .int typed, .int place, .ref a_read, .ref a_undos, .ref a_kept, .ref a_keptUndos, .int isKept, .ref a_sheets, .ref a_taken])), (a_kinds, .inl (X.E 5, 5, .inr (.inr (.inr (.inr (kq a_kinds_0 a_kinds_1 a_kinds_2 a_kinds_3 a_kinds_4)))))), (a_kinds_0, .inr (1, [])), (a_kinds_1, .inr (2, [])), (a_kinds_2, .inr (3, [])), (a_kinds_3, .inr (4, [])), (a_kinds_4, .inr (5, [])), (a_town, .inr (6, [.ref a_town_kind, .ref a_town_strength, .ref a_town_place, .ref a_town_length, .ref a_town_gives, .ref a_town_over, .ref a_town_under, .int town_n, .int town_holders, .int town_cuts, .int town_hour, .int town_bears, .int town_draw, .ref a])), (a_town_kind, .inl (X.E 0, 8, .inl town_kind)), (a_town_strength, .inl (X.E 0, 8, .inl town_strength)), (a_town_place, .inl (X.E 0, 8, .inl town_place)), (a_town_length, .inl (X.E 0, 8, .inl town_length)), (a_town_gives, .inl (X.E 0, 8, .inl town_gives)), (a_tried, .inr (6, [.ref a_tried_kind, .ref a_tried_strength, .ref a_tried_place, .ref a_tried_length, .ref a_tried_gives, .ref a_tried_over, .ref a_tried_under, .int tried_n, .int tried_holders, .int tried_cuts, .int tried_hour, .int tried_bears, .int tried_draw, .ref a])), (a_tried_kind, .inl (X.E 0, 8, .inl tried_kind)), (a_tried_strength, .inl (X.E 0, 8, .inl tried_strength)), (a_tried_place, .inl (X.E 0, 8, .inl tried_place)), (a_tried_length, .inl (X.E 0, 8, .inl tried_length)), (a_tried_gives, .inl (X.E 0, 8, .inl tried_gives)), (a_tried_over, .inl (X.E 1, 8, .inl tried_over)), (a_tried_under, .inl (X.E 1, 8, .inl tried_under)), (a_fell, .inl (X.E 1, 8, .inl fell))]) (stk := [.int r_1]) rfl rfl rfl ?_)
  clear hv
  refine g_if_eq (tgt := 22) h dX0_odds_9 rfl hf (fun c2 hf => ?_) (fun c2 hf => ?_)
  · refine g_iconst (v := (-1)) h dX0_odds_22 kiconst_m1 ?_
    obtain ⟨rfl, rfl, rfl, rfl, rfl, rfl, rfl, rfl, rfl, rfl, rfl, rfl, rfl, rfl, rfl, rfl, rfl⟩ := sj17 hf
    exact g_iret h hF [0, 1, 2, 3, 4, 5, 6, 7, 8, 9, 10, 11, 12, 13, 14, 15, 16, 17, 18, 19, 20, 21] rfl rfl ⟨rfl, rfl⟩ (fle rfl) (fle rfl) dX0_odds_23
  · refine g_iload_n h 2 dX0_odds_12 rfl rfl ?_
    refine g_i2l h dX0_odds_13 ?_
    refine g_lconst (v := 0) h dX0_odds_14 rfl ?_
    refine g_lconst (v := 1) h dX0_odds_15 rfl ?_
    obtain ⟨r_3, hv, hf⟩ := ob1 hf
    refine g_callS (n := 3) (As := [.long x2.toInt64, .long 0, .long 1]) (st := []) (wr := [(a, .inr (0, [.ref a_kinds, .ref a_town, .ref a_tried, .ref a_fell, .int falls, .int tears, .ref a_tape, .int typed, .int place, .ref a_read, .ref a_undos, .ref a_kept, .ref a_keptUndos, .int isKept, .ref a_sheets, .ref a_taken])), (a_kinds, .inl (X.E 5, 5, .inr (.inr (.inr (.inr (kq a_kinds_0 a_kinds_1 a_kinds_2 a_kinds_3 a_kinds_4)))))), (a_kinds_0, .inr (1, [])), (a_kinds_1, .inr (2, [])), (a_kinds_2, .inr (3, [])), (a_kinds_3, .inr (4, [])), (a_kinds_4, .inr (5, [])), (a_town, .inr (6, [.ref a_town_kind, .ref a_town_strength, .ref a_town_place, .ref a_town_length, .ref a_town_gives, .ref a_town_over, .ref a_town_under, .int town_n, .int town_holders, .int town_cuts, .int town_hour, .int town_bears, .int town_draw, .ref a])), (a_town_kind, .inl (X.E 0, 8, .inl town_kind)), (a_town_strength, .inl (X.E 0, 8, .inl town_strength)), (a_town_place, .inl (X.E 0, 8, .inl town_place)), (a_town_length, .inl (X.E 0, 8, .inl town_length)), (a_town_gives, .inl (X.E 0, 8, .inl town_gives)), (a_tried, .inr (6, [.ref a_tried_kind, .ref a_tried_strength, .ref a_tried_place, .ref a_tried_length, .ref a_tried_gives, .ref a_tried_over, .ref a_tried_under, .int tried_n, .int tried_holders, .int tried_cuts, .int tried_hour, .int tried_bears, .int tried_draw, .ref a])), (a_tried_kind, .inl (X.E 0, 8, .inl tried_kind)), (a_tried_strength, .inl (X.E 0, 8, .inl tried_strength)), (a_tried_place, .inl (X.E 0, 8, .inl tried_place)), (a_tried_length, .inl (X.E 0, 8, .inl tried_length)), (a_tried_gives, .inl (X.E 0, 8, .inl tried_gives)), (a_tried_over, .inl (X.E 1, 8, .inl tried_over)), (a_tried_under, .inl (X.E 1, 8, .inl tried_under)), (a_fell, .inl (X.E 1, 8, .inl fell))]) (isC := []) (isR := [0, 1, 2, 3, 4, 5, 6, 7, 8, 9, 10, 11, 12, 13, 14, 15, 16, 17, 18, 19, 20, 21]) h hR (ct_X0_in (x0 := x2.toInt64) (x2 := 0) (x4 := 1) hv) (lw_S q107 q108 q70 q109) (by decide +kernel) rfl ⟨rfl, rfl, rfl, rfl, by decide⟩ ⟨fle rfl, fle rfl, fle rfl, fle rfl, fle rfl⟩ rfl dX0_odds_16 (pin (perm := [0, 1, 2, 3, 4, 5, 6, 7, 8, 9, 10, 11, 12, 13, 14, 15, 16, 17, 18, 19, 20, 21]) (ws' := [(a, .inr (0, [.ref a_kinds, .ref a_town, .ref a_tried, .ref a_fell, .int falls, .int tears, .ref a_tape, .int typed, .int place, .ref a_read, .ref a_undos, .ref a_kept, .ref a_keptUndos, .int isKept, .ref a_sheets, .ref a_taken])), (a_kinds, .inl (X.E 5, 5, .inr (.inr (.inr (.inr (kq a_kinds_0 a_kinds_1 a_kinds_2 a_kinds_3 a_kinds_4)))))), (a_kinds_0, .inr (1, [])), (a_kinds_1, .inr (2, [])), (a_kinds_2, .inr (3, [])), (a_kinds_3, .inr (4, [])), (a_kinds_4, .inr (5, [])), (a_town, .inr (6, [.ref a_town_kind, .ref a_town_strength, .ref a_town_place, .ref a_town_length, .ref a_town_gives, .ref a_town_over, .ref a_town_under, .int town_n, .int town_holders, .int town_cuts, .int town_hour, .int town_bears, .int town_draw, .ref a])), (a_town_kind, .inl (X.E 0, 8, .inl town_kind)), (a_town_strength, .inl (X.E 0, 8, .inl town_strength)), (a_town_place, .inl (X.E 0, 8, .inl town_place)), (a_town_length, .inl (X.E 0, 8, .inl town_length)), (a_town_gives, .inl (X.E 0, 8, .inl town_gives)), (a_tried, .inr (6, [.ref a_tried_kind, .ref a_tried_strength, .ref a_tried_place, .ref a_tried_length, .ref a_tried_gives, .ref a_tried_over, .ref a_tried_under, .int tried_n, .int tried_holders, .int tried_cuts, .int tried_hour, .int tried_bears, .int tried_draw, .ref a])), (a_tried_kind, .inl (X.E 0, 8, .inl tried_kind)), (a_tried_strength, .inl (X.E 0, 8, .inl tried_strength)), (a_tried_place, .inl (X.E 0, 8, .inl tried_place)), (a_tried_length, .inl (X.E 0, 8, .inl tried_length)), (a_tried_gives, .inl (X.E 0, 8, .inl tried_gives)), (a_tried_over, .inl (X.E 1, 8, .inl tried_over)), (a_tried_under, .inl (X.E 1, 8, .inl tried_under)), (a_fell, .inl (X.E 1, 8, .inl fell))]) (stk := [.int r_3]) rfl rfl rfl ?_)
    clear hv
    refine g_if_ne (tgt := 24) h dX0_odds_19 rfl hf (fun c4 hf => ?_) (fun c4 hf => ?_)
    · refine g_iconst (v := (-1)) h dX0_odds_22 kiconst_m1 ?_
      obtain ⟨rfl, rfl, rfl, rfl, rfl, rfl, rfl, rfl, rfl, rfl, rfl, rfl, rfl, rfl, rfl, rfl, rfl⟩ := sj17 hf
      exact g_iret h hF [0, 1, 2, 3, 4, 5, 6, 7, 8, 9, 10, 11, 12, 13, 14, 15, 16, 17, 18, 19, 20, 21] rfl rfl ⟨rfl, rfl⟩ (fle rfl) (fle rfl) dX0_odds_23
    · refine g_lconst (v := 0) h dX0_odds_24 rfl ?_
      refine g_lstore_n (lv' := [(3, .long 0), (0, .ref a), (1, .int x1), (2, .int x2)]) h dX0_odds_25 rfl (hL 4 (fle rfl)) rfl ?_
      refine g_lconst (v := 1) h dX0_odds_26 rfl ?_
      refine g_lstore (lv' := [(5, .long 1), (3, .long 0), (0, .ref a), (1, .int x1), (2, .int x2)]) h dX0_odds_27 (hL 6 (fle rfl)) rfl ?_
      refine g_iconst (v := 0) h dX0_odds_29 kiconst_0 ?_
      refine g_istore (lv' := [(7, .int 0), (5, .long 1), (3, .long 0), (0, .ref a), (1, .int x1), (2, .int x2)]) h dX0_odds_30 (hL 7 (fle rfl)) rfl ?_
      refine G.lsub (lv' := [(0, .ref a), (1, .int x1), (2, .int x2), (3, .long 0), (5, .long 1), (7, .int 0)]) [3, 4, 5, 2, 1, 0] rfl ?_
      obtain ⟨x5_8, hv, hf⟩ := ob1 hf
      refine w_X0_odds_L32 (x1 := x1) (x2 := x2) (x3 := 0) (falls := falls) (tears := tears) (typed := typed) (place := place) (isKept := isKept) (town_n := town_n) (town_holders := town_holders) (town_cuts := town_cuts) (town_hour := town_hour) (town_bears := town_bears) (town_draw := town_draw) (town_kind := town_kind) (town_strength := town_strength) (town_place := town_place) (town_length := town_length) (town_gives := town_gives) (tried_n := tried_n) (tried_holders := tried_holders) (tried_cuts := tried_cuts) (tried_hour := tried_hour) (tried_bears := tried_bears) (tried_draw := tried_draw) (tried_kind := tried_kind) (tried_strength := tried_strength) (tried_place := tried_place) (tried_length := tried_length) (tried_gives := tried_gives) (tried_over := tried_over) (tried_under := tried_under) (fell := fell) h hR hL (fle rfl) (fle rfl) FU _ _ hv ?_
      · clear hv
        refine g_iconst (v := 0) h dX0_odds_70 kiconst_0 ?_
        refine g_istore (lv' := [(7, .int 0), (0, .ref a), (1, .int x1), (2, .int x2), (3, .long 0), (5, .long x5_8)]) h dX0_odds_71 (hL 7 (fle rfl)) rfl ?_
        refine G.lsub (lv' := [(0, .ref a), (1, .int x1), (2, .int x2), (3, .long 0), (5, .long x5_8), (7, .int 0)]) [1, 2, 3, 4, 5, 0] rfl ?_
        obtain ⟨x3_37, falls_38, tears_39, tried_n_40, tried_holders_41, tried_cuts_42, tried_hour_43, tried_bears_44, tried_draw_45, tried_kind_46, tried_strength_47, tried_place_48, tried_length_49, tried_gives_50, tried_over_51, tried_under_52, fell_53, hv, hf⟩ := ob17 hf
        refine w_X0_odds_L73 (x1 := x1) (x2 := x2) (x5 := x5_8) (typed := typed) (place := place) (isKept := isKept) (town_n := town_n) (town_holders := town_holders) (town_cuts := town_cuts) (town_hour := town_hour) (town_bears := town_bears) (town_draw := town_draw) (town_kind := town_kind) (town_strength := town_strength) (town_place := town_place) (town_length := town_length) (town_gives := town_gives) h hR hL (fle rfl) (fle rfl) FU _ _ _ _ _ _ _ _ _ _ _ _ _ _ _ _ _ _ hv ?_
        · clear hv
          refine g_new (ci := 9) (fs := [.long 0, .long 0]) h hR in_X9 tyX9 tyX9_ok q249 q250 q82 rfl df_X9 (fle rfl) (fle rfl) dX0_odds_214 (fun q54 => ?_)
          refine G.sub (ws' := [(a, .inr (0, [.ref a_kinds, .ref a_town, .ref a_tried, .ref a_fell, .int falls_38, .int tears_39, .ref a_tape, .int typed, .int place, .ref a_read, .ref a_undos, .ref a_kept, .ref a_keptUndos, .int isKept, .ref a_sheets, .ref a_taken])), (a_kinds, .inl (X.E 5, 5, .inr (.inr (.inr (.inr (kq a_kinds_0 a_kinds_1 a_kinds_2 a_kinds_3 a_kinds_4)))))), (a_kinds_0, .inr (1, [])), (a_kinds_1, .inr (2, [])), (a_kinds_2, .inr (3, [])), (a_kinds_3, .inr (4, [])), (a_kinds_4, .inr (5, [])), (a_town, .inr (6, [.ref a_town_kind, .ref a_town_strength, .ref a_town_place, .ref a_town_length, .ref a_town_gives, .ref a_town_over, .ref a_town_under, .int town_n, .int town_holders, .int town_cuts, .int town_hour, .int town_bears, .int town_draw, .ref a])), (a_town_kind, .inl (X.E 0, 8, .inl town_kind)), (a_town_strength, .inl (X.E 0, 8, .inl town_strength)), (a_town_place, .inl (X.E 0, 8, .inl town_place)), (a_town_length, .inl (X.E 0, 8, .inl town_length)), (a_town_gives, .inl (X.E 0, 8, .inl town_gives)), (a_tried, .inr (6, [.ref a_tried_kind, .ref a_tried_strength, .ref a_tried_place, .ref a_tried_length, .ref a_tried_gives, .ref a_tried_over, .ref a_tried_under, .int tried_n_40, .int tried_holders_41, .int tried_cuts_42, .int tried_hour_43, .int tried_bears_44, .int tried_draw_45, .ref a])), (a_tried_kind, .inl (X.E 0, 8, .inl tried_kind_46)), (a_tried_strength, .inl (X.E 0, 8, .inl tried_strength_47)), (a_tried_place, .inl (X.E 0, 8, .inl tried_place_48)), (a_tried_length, .inl (X.E 0, 8, .inl tried_length_49)), (a_tried_gives, .inl (X.E 0, 8, .inl tried_gives_50)), (a_tried_over, .inl (X.E 1, 8, .inl tried_over_51)), (a_tried_under, .inl (X.E 1, 8, .inl tried_under_52)), (a_fell, .inl (X.E 1, 8, .inl fell_53)), (q54, .inr (9, [.long 0, .long 0]))]) [0, 1, 2, 3, 4, 5, 6, 7, 8, 9, 10, 11, 12, 13, 14, 15, 16, 17, 18, 19, 20, 21, 22] rfl rfl ?_
          refine g_dup h dX0_odds_217 rfl ?_
          refine g_lload_n h 1 dX0_odds_218 rfl rfl ?_
          refine g_lload h 2 dX0_odds_219 rfl ?_
          obtain ⟨q54_f0_55, q54_f1_56, hv, hf⟩ := ob2 hf
          refine g_callI (n := 2) (As := [.long x3_37, .long x5_8]) (st := [.ref q54]) (wr := [(a, .inr (0, [.ref a_kinds, .ref a_town, .ref a_tried, .ref a_fell, .int falls_38, .int tears_39, .ref a_tape, .int typed, .int place, .ref a_read, .ref a_undos, .ref a_kept, .ref a_keptUndos, .int isKept, .ref a_sheets, .ref a_taken])), (a_kinds, .inl (X.E 5, 5, .inr (.inr (.inr (.inr (kq a_kinds_0 a_kinds_1 a_kinds_2 a_kinds_3 a_kinds_4)))))), (a_kinds_0, .inr (1, [])), (a_kinds_1, .inr (2, [])), (a_kinds_2, .inr (3, [])), (a_kinds_3, .inr (4, [])), (a_kinds_4, .inr (5, [])), (a_town, .inr (6, [.ref a_town_kind, .ref a_town_strength, .ref a_town_place, .ref a_town_length, .ref a_town_gives, .ref a_town_over, .ref a_town_under, .int town_n, .int town_holders, .int town_cuts, .int town_hour, .int town_bears, .int town_draw, .ref a])), (a_town_kind, .inl (X.E 0, 8, .inl town_kind)), (a_town_strength, .inl (X.E 0, 8, .inl town_strength)), (a_town_place, .inl (X.E 0, 8, .inl town_place)), (a_town_length, .inl (X.E 0, 8, .inl town_length)), (a_town_gives, .inl (X.E 0, 8, .inl town_gives)), (a_tried, .inr (6, [.ref a_tried_kind, .ref a_tried_strength, .ref a_tried_place, .ref a_tried_length, .ref a_tried_gives, .ref a_tried_over, .ref a_tried_under, .int tried_n_40, .int tried_holders_41, .int tried_cuts_42, .int tried_hour_43, .int tried_bears_44, .int tried_draw_45, .ref a])), (a_tried_kind, .inl (X.E 0, 8, .inl tried_kind_46)), (a_tried_strength, .inl (X.E 0, 8, .inl tried_strength_47)), (a_tried_place, .inl (X.E 0, 8, .inl tried_place_48)), (a_tried_length, .inl (X.E 0, 8, .inl tried_length_49)), (a_tried_gives, .inl (X.E 0, 8, .inl tried_gives_50)), (a_tried_over, .inl (X.E 1, 8, .inl tried_over_51)), (a_tried_under, .inl (X.E 1, 8, .inl tried_under_52)), (a_fell, .inl (X.E 1, 8, .inl fell_53))]) (isC := [22]) (isR := [0, 1, 2, 3, 4, 5, 6, 7, 8, 9, 10, 11, 12, 13, 14, 15, 16, 17, 18, 19, 20, 21]) h hR (ct_X9_init (a := q54) (x1 := x3_37) (x3 := x5_8) (above := 0) (below := 0) hv) q253 q82 q251 q252 rfl (by decide +kernel) rfl ⟨rfl, rfl, rfl, rfl, by decide⟩ ⟨fle rfl, fle rfl, fle rfl, fle rfl, fle rfl⟩ rfl dX0_odds_221 (pin (perm := [0, 1, 2, 3, 4, 5, 6, 7, 8, 9, 10, 11, 12, 13, 14, 15, 16, 17, 18, 19, 20, 21, 22]) (ws' := [(a, .inr (0, [.ref a_kinds, .ref a_town, .ref a_tried, .ref a_fell, .int falls_38, .int tears_39, .ref a_tape, .int typed, .int place, .ref a_read, .ref a_undos, .ref a_kept, .ref a_keptUndos, .int isKept, .ref a_sheets, .ref a_taken])), (a_kinds, .inl (X.E 5, 5, .inr (.inr (.inr (.inr (kq a_kinds_0 a_kinds_1 a_kinds_2 a_kinds_3 a_kinds_4)))))), (a_kinds_0, .inr (1, [])), (a_kinds_1, .inr (2, [])), (a_kinds_2, .inr (3, [])), (a_kinds_3, .inr (4, [])), (a_kinds_4, .inr (5, [])), (a_town, .inr (6, [.ref a_town_kind, .ref a_town_strength, .ref a_town_place, .ref a_town_length, .ref a_town_gives, .ref a_town_over, .ref a_town_under, .int town_n, .int town_holders, .int town_cuts, .int town_hour, .int town_bears, .int town_draw, .ref a])), (a_town_kind, .inl (X.E 0, 8, .inl town_kind)), (a_town_strength, .inl (X.E 0, 8, .inl town_strength)), (a_town_place, .inl (X.E 0, 8, .inl town_place)), (a_town_length, .inl (X.E 0, 8, .inl town_length)), (a_town_gives, .inl (X.E 0, 8, .inl town_gives)), (a_tried, .inr (6, [.ref a_tried_kind, .ref a_tried_strength, .ref a_tried_place, .ref a_tried_length, .ref a_tried_gives, .ref a_tried_over, .ref a_tried_under, .int tried_n_40, .int tried_holders_41, .int tried_cuts_42, .int tried_hour_43, .int tried_bears_44, .int tried_draw_45, .ref a])), (a_tried_kind, .inl (X.E 0, 8, .inl tried_kind_46)), (a_tried_strength, .inl (X.E 0, 8, .inl tried_strength_47)), (a_tried_place, .inl (X.E 0, 8, .inl tried_place_48)), (a_tried_length, .inl (X.E 0, 8, .inl tried_length_49)), (a_tried_gives, .inl (X.E 0, 8, .inl tried_gives_50)), (a_tried_over, .inl (X.E 1, 8, .inl tried_over_51)), (a_tried_under, .inl (X.E 1, 8, .inl tried_under_52)), (a_fell, .inl (X.E 1, 8, .inl fell_53)), (q54, .inr (9, [.long q54_f0_55, .long q54_f1_56]))]) (stk := [.ref q54]) rfl rfl rfl ?_)
          clear hv
          refine g_iload_n h 0 dX0_odds_224 rfl rfl ?_
          obtain ⟨r_57, hv, hf⟩ := ob1 hf
          refine g_callV (ci := 9) (q0 := 22) (n := 1) (As := [.int x2]) (st := []) (wr := [(a, .inr (0, [.ref a_kinds, .ref a_town, .ref a_tried, .ref a_fell, .int falls_38, .int tears_39, .ref a_tape, .int typed, .int place, .ref a_read, .ref a_undos, .ref a_kept, .ref a_keptUndos, .int isKept, .ref a_sheets, .ref a_taken])), (a_kinds, .inl (X.E 5, 5, .inr (.inr (.inr (.inr (kq a_kinds_0 a_kinds_1 a_kinds_2 a_kinds_3 a_kinds_4)))))), (a_kinds_0, .inr (1, [])), (a_kinds_1, .inr (2, [])), (a_kinds_2, .inr (3, [])), (a_kinds_3, .inr (4, [])), (a_kinds_4, .inr (5, [])), (a_town, .inr (6, [.ref a_town_kind, .ref a_town_strength, .ref a_town_place, .ref a_town_length, .ref a_town_gives, .ref a_town_over, .ref a_town_under, .int town_n, .int town_holders, .int town_cuts, .int town_hour, .int town_bears, .int town_draw, .ref a])), (a_town_kind, .inl (X.E 0, 8, .inl town_kind)), (a_town_strength, .inl (X.E 0, 8, .inl town_strength)), (a_town_place, .inl (X.E 0, 8, .inl town_place)), (a_town_length, .inl (X.E 0, 8, .inl town_length)), (a_town_gives, .inl (X.E 0, 8, .inl town_gives)), (a_tried, .inr (6, [.ref a_tried_kind, .ref a_tried_strength, .ref a_tried_place, .ref a_tried_length, .ref a_tried_gives, .ref a_tried_over, .ref a_tried_under, .int tried_n_40, .int tried_holders_41, .int tried_cuts_42, .int tried_hour_43, .int tried_bears_44, .int tried_draw_45, .ref a])), (a_tried_kind, .inl (X.E 0, 8, .inl tried_kind_46)), (a_tried_strength, .inl (X.E 0, 8, .inl tried_strength_47)), (a_tried_place, .inl (X.E 0, 8, .inl tried_place_48)), (a_tried_length, .inl (X.E 0, 8, .inl tried_length_49)), (a_tried_gives, .inl (X.E 0, 8, .inl tried_gives_50)), (a_tried_over, .inl (X.E 1, 8, .inl tried_over_51)), (a_tried_under, .inl (X.E 1, 8, .inl tried_under_52)), (a_fell, .inl (X.E 1, 8, .inl fell_53))]) (isC := [22]) (isR := [0, 1, 2, 3, 4, 5, 6, 7, 8, 9, 10, 11, 12, 13, 14, 15, 16, 17, 18, 19, 20, 21]) h hR (ct_X9_told (a := q54) (x1 := x2) (above := q54_f0_55) (below := q54_f1_56) hv) rfl rfl (lw_V q280 q281 q282 q82 q283) (by decide +kernel) rfl ⟨rfl, rfl, rfl, rfl, by decide⟩ ⟨fle rfl, fle rfl, fle rfl, fle rfl, fle rfl⟩ rfl dX0_odds_225 (pin (perm := [0, 1, 2, 3, 4, 5, 6, 7, 8, 9, 10, 11, 12, 13, 14, 15, 16, 17, 18, 19, 20, 21, 22]) (ws' := [(a, .inr (0, [.ref a_kinds, .ref a_town, .ref a_tried, .ref a_fell, .int falls_38, .int tears_39, .ref a_tape, .int typed, .int place, .ref a_read, .ref a_undos, .ref a_kept, .ref a_keptUndos, .int isKept, .ref a_sheets, .ref a_taken])), (a_kinds, .inl (X.E 5, 5, .inr (.inr (.inr (.inr (kq a_kinds_0 a_kinds_1 a_kinds_2 a_kinds_3 a_kinds_4)))))), (a_kinds_0, .inr (1, [])), (a_kinds_1, .inr (2, [])), (a_kinds_2, .inr (3, [])), (a_kinds_3, .inr (4, [])), (a_kinds_4, .inr (5, [])), (a_town, .inr (6, [.ref a_town_kind, .ref a_town_strength, .ref a_town_place, .ref a_town_length, .ref a_town_gives, .ref a_town_over, .ref a_town_under, .int town_n, .int town_holders, .int town_cuts, .int town_hour, .int town_bears, .int town_draw, .ref a])), (a_town_kind, .inl (X.E 0, 8, .inl town_kind)), (a_town_strength, .inl (X.E 0, 8, .inl town_strength)), (a_town_place, .inl (X.E 0, 8, .inl town_place)), (a_town_length, .inl (X.E 0, 8, .inl town_length)), (a_town_gives, .inl (X.E 0, 8, .inl town_gives)), (a_tried, .inr (6, [.ref a_tried_kind, .ref a_tried_strength, .ref a_tried_place, .ref a_tried_length, .ref a_tried_gives, .ref a_tried_over, .ref a_tried_under, .int tried_n_40, .int tried_holders_41, .int tried_cuts_42, .int tried_hour_43, .int tried_bears_44, .int tried_draw_45, .ref a])), (a_tried_kind, .inl (X.E 0, 8, .inl tried_kind_46)), (a_tried_strength, .inl (X.E 0, 8, .inl tried_strength_47)), (a_tried_place, .inl (X.E 0, 8, .inl tried_place_48)), (a_tried_length, .inl (X.E 0, 8, .inl tried_length_49)), (a_tried_gives, .inl (X.E 0, 8, .inl tried_gives_50)), (a_tried_over, .inl (X.E 1, 8, .inl tried_over_51)), (a_tried_under, .inl (X.E 1, 8, .inl tried_under_52)), (a_fell, .inl (X.E 1, 8, .inl fell_53)), (q54, .inr (9, [.long q54_f0_55, .long q54_f1_56]))]) (stk := [.int r_57]) rfl rfl rfl ?_)
          clear hv
          obtain ⟨rfl, rfl, rfl, rfl, rfl, rfl, rfl, rfl, rfl, rfl, rfl, rfl, rfl, rfl, rfl, rfl, rfl⟩ := sj17 hf
          exact g_iret h hF [0, 1, 2, 3, 4, 5, 6, 7, 8, 9, 10, 11, 12, 13, 14, 15, 16, 17, 18, 19, 20, 21] rfl rfl ⟨rfl, rfl⟩ (fle rfl) (fle rfl) dX0_odds_228
set_option maxHeartbeats 4000000 in
set_option maxRecDepth 100000 in
theorem ct_X0_mover {l : Launch} {D : va_G} {E : Ety} {a a_t1 a_t1_kind a_t1_strength a_t1_place a_t1_length a_t1_gives a_t1_over a_t1_under : Nat} {x2 : Int32} {t1_n : Int32} {t1_holders : Int32} {t1_cuts : Int32} {t1_hour : Int32} {t1_bears : Int32} {t1_draw : Int32} {r_ : Int32} (hf : f_X0_mover x2 t1_holders = some r_) : Ct l yX0_mover cX0_mover 3 (some .int) 1 21 0 0 D E [.ref a, .ref a_t1, .int x2] [(a_t1, .inr (6, [.ref a_t1_kind, .ref a_t1_strength, .ref a_t1_place, .ref a_t1_length, .ref a_t1_gives, .ref a_t1_over, .ref a_t1_under, .int t1_n, .int t1_holders, .int t1_cuts, .int t1_hour, .int t1_bears, .int t1_draw, .ref a]))] (Pn (some (.int r_)) [(a_t1, .inr (6, [.ref a_t1_kind, .ref a_t1_strength, .ref a_t1_place, .ref a_t1_length, .ref a_t1_gives, .ref a_t1_over, .ref a_t1_under, .int t1_n, .int t1_holders, .int t1_cuts, .int t1_hour, .int t1_bears, .int t1_draw, .ref a]))]) := by
  refine ct_of (own := RX0) (plainFor_of_name (by decide)) rfl (fle rfl) rfl ?_
  intro X hl hD hE hnL hXF h hR hF hnm
  subst hl; subst hD; subst hE
  have hL : ∀ i, i < 3 → i < X.nL := fun i hi => by rw [hnL]; exact hi
  unfold f_X0_mover at hf
  refine g_iload_n h 2 dX0_mover_0 rfl rfl ?_
  refine g_iconst (v := 2) h dX0_mover_1 kiconst_2 ?_
  refine g_irem h dX0_mover_2 (by decide) ?_
  refine g_if_ne (tgt := 16) h dX0_mover_3 rfl hf (fun c1 hf => ?_) (fun c1 hf => ?_)
  · refine g_aload_n h 1 dX0_mover_6 rfl rfl ?_
    refine g_getN (ci := 6) (v := .int t1_holders) h in_X6 0 8 rfl rfl (fle rfl) rfl q566 rfl dX0_mover_7 ?_
    obtain ⟨r_2, hv, hf⟩ := ob1 hf
    refine g_callS (n := 1) (As := [.int t1_holders]) (st := []) (wr := [(a_t1, .inr (6, [.ref a_t1_kind, .ref a_t1_strength, .ref a_t1_place, .ref a_t1_length, .ref a_t1_gives, .ref a_t1_over, .ref a_t1_under, .int t1_n, .int t1_holders, .int t1_cuts, .int t1_hour, .int t1_bears, .int t1_draw, .ref a]))]) (isC := []) (isR := [0]) h hR (ct_J13_numberOfTrailingZeros (x0 := t1_holders) hv) (lw_S q817 q818 q95 q819) (by decide +kernel) rfl ⟨rfl, rfl, rfl, rfl, by decide⟩ ⟨fle rfl, fle rfl, fle rfl, fle rfl, fle rfl⟩ rfl dX0_mover_10 (pin (perm := [0]) (ws' := [(a_t1, .inr (6, [.ref a_t1_kind, .ref a_t1_strength, .ref a_t1_place, .ref a_t1_length, .ref a_t1_gives, .ref a_t1_over, .ref a_t1_under, .int t1_n, .int t1_holders, .int t1_cuts, .int t1_hour, .int t1_bears, .int t1_draw, .ref a]))]) (stk := [.int r_2]) rfl rfl rfl ?_)
    clear hv
    refine g_goto (tgt := 26) h dX0_mover_13 rfl ?_
    obtain rfl := sj1 hf
    exact g_iret h hF [0] rfl rfl ⟨rfl, rfl⟩ (fle rfl) (fle rfl) dX0_mover_26
  · refine g_bipush (v := 31) h dX0_mover_16 kbipush_31 ?_
    refine g_aload_n h 1 dX0_mover_18 rfl rfl ?_
    refine g_getN (ci := 6) (v := .int t1_holders) h in_X6 0 8 rfl rfl (fle rfl) rfl q566 rfl dX0_mover_19 ?_
    obtain ⟨r_3, hv, hf⟩ := ob1 hf
    refine g_callS (n := 1) (As := [.int t1_holders]) (st := [.int 31]) (wr := [(a_t1, .inr (6, [.ref a_t1_kind, .ref a_t1_strength, .ref a_t1_place, .ref a_t1_length, .ref a_t1_gives, .ref a_t1_over, .ref a_t1_under, .int t1_n, .int t1_holders, .int t1_cuts, .int t1_hour, .int t1_bears, .int t1_draw, .ref a]))]) (isC := []) (isR := [0]) h hR (ct_J13_numberOfLeadingZeros (x0 := t1_holders) hv) (lw_S q821 q822 q95 q823) (by decide +kernel) rfl ⟨rfl, rfl, rfl, rfl, by decide⟩ ⟨fle rfl, fle rfl, fle rfl, fle rfl, fle rfl⟩ rfl dX0_mover_22 (pin (perm := [0]) (ws' := [(a_t1, .inr (6, [.ref a_t1_kind, .ref a_t1_strength, .ref a_t1_place, .ref a_t1_length, .ref a_t1_gives, .ref a_t1_over, .ref a_t1_under, .int t1_n, .int t1_holders, .int t1_cuts, .int t1_hour, .int t1_bears, .int t1_draw, .ref a]))]) (stk := [.int r_3, .int 31]) rfl rfl rfl ?_)
    clear hv
    refine g_isub h dX0_mover_25 ?_
    obtain rfl := sj1 hf
    exact g_iret h hF [0] rfl rfl ⟨rfl, rfl⟩ (fle rfl) (fle rfl) dX0_mover_26
set_option maxHeartbeats 4000000 in
set_option maxRecDepth 100000 in
theorem ct_X0_isSheet {l : Launch} {D : va_G} {E : Ety}  {x0 : Int32} {r_ : Int32} (hf : f_X0_isSheet x0 = some r_) : Ct l yX0_isSheet cX0_isSheet 1 (some .boolean) 1 25 0 0 D E [.int x0] [] (Pn (some (.int r_)) []) := by
  refine ct_of (own := RX0) (plainFor_of_name (by decide)) rfl (fle rfl) rfl ?_
  intro X hl hD hE hnL hXF h hR hF hnm
  subst hl; subst hD; subst hE
  have hL : ∀ i, i < 1 → i < X.nL := fun i hi => by rw [hnL]; exact hi
  unfold f_X0_isSheet at hf
  refine g_iload_n h 0 dX0_isSheet_0 rfl rfl ?_
  refine g_i2l h dX0_isSheet_1 ?_
  refine g_lconst (v := 0) h dX0_isSheet_2 rfl ?_
  refine g_ldc2 h q917 dX0_isSheet_3 ?_
  obtain ⟨r_1, hv, hf⟩ := ob1 hf
  refine g_callS (n := 3) (As := [.long x0.toInt64, .long 0, .long 3]) (st := []) (wr := []) (isC := []) (isR := []) h hR (ct_X0_in (x0 := x0.toInt64) (x2 := 0) (x4 := 3) hv) (lw_S q107 q108 q70 q109) (by decide +kernel) rfl ⟨rfl, rfl, rfl, rfl, by decide⟩ ⟨fle rfl, fle rfl, fle rfl, fle rfl, fle rfl⟩ rfl dX0_isSheet_6 (pin (perm := []) (ws' := []) (stk := [.int r_1]) rfl rfl rfl ?_)
  clear hv
  obtain ⟨gz, hf⟩ := gy hf
  obtain rfl := sj1 hf
  exact g_zret h hF (nz gz) [] rfl rfl ⟨rfl, rfl⟩ (fle rfl) (fle rfl) dX0_isSheet_9
set_option maxHeartbeats 4000000 in
set_option maxRecDepth 100000 in
theorem ct_X0_isLane {l : Launch} {D : va_G} {E : Ety}  {x0 : Int32} {r_ : Int32} (hf : f_X0_isLane x0 = some r_) : Ct l yX0_isLane cX0_isLane 1 (some .boolean) 1 25 0 0 D E [.int x0] [] (Pn (some (.int r_)) []) := by
  refine ct_of (own := RX0) (plainFor_of_name (by decide)) rfl (fle rfl) rfl ?_
  intro X hl hD hE hnL hXF h hR hF hnm
  subst hl; subst hD; subst hE
  have hL : ∀ i, i < 1 → i < X.nL := fun i hi => by rw [hnL]; exact hi
  unfold f_X0_isLane at hf
  refine g_iload_n h 0 dX0_isLane_0 rfl rfl ?_
  refine g_i2l h dX0_isLane_1 ?_
  refine g_lconst (v := 0) h dX0_isLane_2 rfl ?_
  refine g_ldc2 h q917 dX0_isLane_3 ?_
  obtain ⟨r_1, hv, hf⟩ := ob1 hf
  refine g_callS (n := 3) (As := [.long x0.toInt64, .long 0, .long 3]) (st := []) (wr := []) (isC := []) (isR := []) h hR (ct_X0_in (x0 := x0.toInt64) (x2 := 0) (x4 := 3) hv) (lw_S q107 q108 q70 q109) (by decide +kernel) rfl ⟨rfl, rfl, rfl, rfl, by decide⟩ ⟨fle rfl, fle rfl, fle rfl, fle rfl, fle rfl⟩ rfl dX0_isLane_6 (pin (perm := []) (ws' := []) (stk := [.int r_1]) rfl rfl rfl ?_)
  clear hv
  obtain ⟨gz, hf⟩ := gy hf
  obtain rfl := sj1 hf
  exact g_zret h hF (nz gz) [] rfl rfl ⟨rfl, rfl⟩ (fle rfl) (fle rfl) dX0_isLane_9
set_option maxHeartbeats 4000000 in
set_option maxRecDepth 100000 in
theorem w_X0_isSo_L7 {X : Cx} {a a_fell a_kept a_keptUndos a_kinds a_read a_sheets a_t1 a_t1_gives a_t1_kind a_t1_length a_t1_over a_t1_place a_t1_strength a_t1_under a_taken a_tape a_town a_tried a_undos : Nat} {falls : Int32} {tears : Int32} {typed : Int32} {place : Int32} {isKept : Int32} {taken : Nat → Int64} {t1_n : Int32} {t1_holders : Int32} {t1_cuts : Int32} {t1_hour : Int32} {t1_bears : Int32} {t1_draw : Int32} {t1_place : Nat → Int32} {t1_length : Nat → Int32} {t1_gives : Nat → Int32} {t1_over : Nat → Int32} {t1_under : Nat → Int32} {ce sl : Nat} (h : Ok X cX0_isSo RX0) (hR : Rm X 2 47 0 0) (hL : ∀ i, i < 3 → i < X.nL) (hce : ce ≤ 0) (hsl : sl ≤ 0) : ∀ (n0 : Nat) (x2 : Int32) {otag : Nat}, f_X0_isSo_L7 taken t1_n t1_over t1_under n0 x2 = some otag → (otag = 0 → G X [(a, .inr (0, [.ref a_kinds, .ref a_town, .ref a_tried, .ref a_fell, .int falls, .int tears, .ref a_tape, .int typed, .int place, .ref a_read, .ref a_undos, .ref a_kept, .ref a_keptUndos, .int isKept, .ref a_sheets, .ref a_taken])), (a_taken, .inl (X.E 2, 24, .inr (.inl taken))), (a_t1, .inr (6, [.ref a_t1_kind, .ref a_t1_strength, .ref a_t1_place, .ref a_t1_length, .ref a_t1_gives, .ref a_t1_over, .ref a_t1_under, .int t1_n, .int t1_holders, .int t1_cuts, .int t1_hour, .int t1_bears, .int t1_draw, .ref a])), (a_t1_place, .inl (X.E 0, 8, .inl t1_place)), (a_t1_length, .inl (X.E 0, 8, .inl t1_length)), (a_t1_gives, .inl (X.E 0, 8, .inl t1_gives)), (a_t1_over, .inl (X.E 1, 8, .inl t1_over)), (a_t1_under, .inl (X.E 1, 8, .inl t1_under))] [] ce sl 41 []) → (otag = 1 → G X [(a, .inr (0, [.ref a_kinds, .ref a_town, .ref a_tried, .ref a_fell, .int falls, .int tears, .ref a_tape, .int typed, .int place, .ref a_read, .ref a_undos, .ref a_kept, .ref a_keptUndos, .int isKept, .ref a_sheets, .ref a_taken])), (a_taken, .inl (X.E 2, 24, .inr (.inl taken))), (a_t1, .inr (6, [.ref a_t1_kind, .ref a_t1_strength, .ref a_t1_place, .ref a_t1_length, .ref a_t1_gives, .ref a_t1_over, .ref a_t1_under, .int t1_n, .int t1_holders, .int t1_cuts, .int t1_hour, .int t1_bears, .int t1_draw, .ref a])), (a_t1_place, .inl (X.E 0, 8, .inl t1_place)), (a_t1_length, .inl (X.E 0, 8, .inl t1_length)), (a_t1_gives, .inl (X.E 0, 8, .inl t1_gives)), (a_t1_over, .inl (X.E 1, 8, .inl t1_over)), (a_t1_under, .inl (X.E 1, 8, .inl t1_under))] [] ce sl 49 []) → G X [(a, .inr (0, [.ref a_kinds, .ref a_town, .ref a_tried, .ref a_fell, .int falls, .int tears, .ref a_tape, .int typed, .int place, .ref a_read, .ref a_undos, .ref a_kept, .ref a_keptUndos, .int isKept, .ref a_sheets, .ref a_taken])), (a_taken, .inl (X.E 2, 24, .inr (.inl taken))), (a_t1, .inr (6, [.ref a_t1_kind, .ref a_t1_strength, .ref a_t1_place, .ref a_t1_length, .ref a_t1_gives, .ref a_t1_over, .ref a_t1_under, .int t1_n, .int t1_holders, .int t1_cuts, .int t1_hour, .int t1_bears, .int t1_draw, .ref a])), (a_t1_place, .inl (X.E 0, 8, .inl t1_place)), (a_t1_length, .inl (X.E 0, 8, .inl t1_length)), (a_t1_gives, .inl (X.E 0, 8, .inl t1_gives)), (a_t1_over, .inl (X.E 1, 8, .inl t1_over)), (a_t1_under, .inl (X.E 1, 8, .inl t1_under))] [(0, .ref a), (1, .ref a_t1), (2, .int x2)] ce sl 7 [] := by
  intro n0
  induction n0 with
  | zero => intro x2 otag hf; exact nomatch (show (none : Option _) = some _ from hf)
  | succ n0 ih =>
    intro x2 otag hf k0 k1
    replace hf : t_X0_isSo_L7 taken t1_n t1_over t1_under (f_X0_isSo_L7 taken t1_n t1_over t1_under n0) x2 = some otag := hf
    unfold t_X0_isSo_L7 at hf
    refine g_iload_n h 2 dX0_isSo_7 rfl rfl ?_
    refine g_aload_n h 1 dX0_isSo_8 rfl rfl ?_
    refine g_getN (ci := 6) (v := .int t1_n) h in_X6 2 7 rfl rfl (fle rfl) rfl q564 rfl dX0_isSo_9 ?_
    refine g_iconst (v := 1) h dX0_isSo_12 kiconst_1 ?_
    refine g_isub h dX0_isSo_13 ?_
    refine g_icmp_ge (tgt := 49) h dX0_isSo_14 rfl hf (fun c3 hf => ?_) (fun c3 hf => ?_)
    · obtain rfl := sj1 hf
      exact G.lsub [] rfl (k1 rfl)
    · refine g_aload_n h 1 dX0_isSo_17 rfl rfl ?_
      refine g_getN (ci := 6) (v := .ref a_t1_over) h in_X6 2 5 rfl rfl (fle rfl) rfl q560 rfl dX0_isSo_18 ?_
      refine g_iload_n h 2 dX0_isSo_21 rfl rfl ?_
      obtain ⟨g4, hf⟩ := gn hf
      refine g_iaload h 6 rfl g4 dX0_isSo_22 ?_
      refine g_aload_n h 1 dX0_isSo_23 rfl rfl ?_
      refine g_getN (ci := 6) (v := .ref a_t1_under) h in_X6 2 6 rfl rfl (fle rfl) rfl q562 rfl dX0_isSo_24 ?_
      refine g_iload_n h 2 dX0_isSo_27 rfl rfl ?_
      refine g_iaload h 7 rfl g4 dX0_isSo_28 ?_
      obtain ⟨g5, hf⟩ := gn hf
      refine g_idiv h dX0_isSo_29 g5 ?_
      refine g_i2l h dX0_isSo_30 ?_
      refine g_aload_n h 0 dX0_isSo_31 rfl rfl ?_
      refine g_get (ci := 0) (v := .ref a_taken) h in_X0 0 15 rfl rfl (fle rfl) rfl q1126 rfl dX0_isSo_32 ?_
      refine g_iload_n h 2 dX0_isSo_35 rfl rfl ?_
      obtain ⟨g6, hf⟩ := gn hf
      refine g_laload h 1 rfl g6 dX0_isSo_36 ?_
      refine g_lcmp h dX0_isSo_37 ?_
      refine g_if_eq (tgt := 43) h dX0_isSo_38 rfl hf (fun c7 hf => ?_) (fun c7 hf => ?_)
      · refine g_iinc (j := 2) (v := (x2 + 1)) (lv' := [(2, .int (x2 + 1)), (0, .ref a), (1, .ref a_t1)]) h dX0_isSo_43 rfl (kinc_1 _) (hL 2 (fle rfl)) rfl ?_
        refine g_goto (tgt := 7) h dX0_isSo_46 rfl ?_
        exact G.lsub [1, 2, 0] rfl (ih _ hf k0 k1)
      · obtain rfl := sj1 hf
        exact G.lsub [] rfl (k0 rfl)
set_option maxHeartbeats 4000000 in
set_option maxRecDepth 100000 in
theorem ct_X0_isSo {l : Launch} {D : va_G} {E : Ety} {a a_t1 a_kinds a_town a_tried a_fell a_tape a_read a_undos a_kept a_keptUndos a_sheets a_taken a_t1_kind a_t1_strength a_t1_place a_t1_length a_t1_gives a_t1_over a_t1_under : Nat} {falls : Int32} {tears : Int32} {typed : Int32} {place : Int32} {isKept : Int32} {taken : Nat → Int64} {t1_n : Int32} {t1_holders : Int32} {t1_cuts : Int32} {t1_hour : Int32} {t1_bears : Int32} {t1_draw : Int32} {t1_place : Nat → Int32} {t1_length : Nat → Int32} {t1_gives : Nat → Int32} {t1_over : Nat → Int32} {t1_under : Nat → Int32} {r_ : Int32} {o_t1_over : Nat → Int32} {o_t1_under : Nat → Int32} (hf : f_X0_isSo taken t1_n t1_holders t1_cuts t1_place t1_length t1_gives t1_over t1_under = some (r_, o_t1_over, o_t1_under)) : Ct l yX0_isSo cX0_isSo 3 (some .boolean) 2 47 0 0 D E [.ref a, .ref a_t1] [(a, .inr (0, [.ref a_kinds, .ref a_town, .ref a_tried, .ref a_fell, .int falls, .int tears, .ref a_tape, .int typed, .int place, .ref a_read, .ref a_undos, .ref a_kept, .ref a_keptUndos, .int isKept, .ref a_sheets, .ref a_taken])), (a_taken, .inl (E 2, 24, .inr (.inl taken))), (a_t1, .inr (6, [.ref a_t1_kind, .ref a_t1_strength, .ref a_t1_place, .ref a_t1_length, .ref a_t1_gives, .ref a_t1_over, .ref a_t1_under, .int t1_n, .int t1_holders, .int t1_cuts, .int t1_hour, .int t1_bears, .int t1_draw, .ref a])), (a_t1_place, .inl (E 0, 8, .inl t1_place)), (a_t1_length, .inl (E 0, 8, .inl t1_length)), (a_t1_gives, .inl (E 0, 8, .inl t1_gives)), (a_t1_over, .inl (E 1, 8, .inl t1_over)), (a_t1_under, .inl (E 1, 8, .inl t1_under))] (Pn (some (.int r_)) [(a, .inr (0, [.ref a_kinds, .ref a_town, .ref a_tried, .ref a_fell, .int falls, .int tears, .ref a_tape, .int typed, .int place, .ref a_read, .ref a_undos, .ref a_kept, .ref a_keptUndos, .int isKept, .ref a_sheets, .ref a_taken])), (a_taken, .inl (E 2, 24, .inr (.inl taken))), (a_t1, .inr (6, [.ref a_t1_kind, .ref a_t1_strength, .ref a_t1_place, .ref a_t1_length, .ref a_t1_gives, .ref a_t1_over, .ref a_t1_under, .int t1_n, .int t1_holders, .int t1_cuts, .int t1_hour, .int t1_bears, .int t1_draw, .ref a])), (a_t1_place, .inl (E 0, 8, .inl t1_place)), (a_t1_length, .inl (E 0, 8, .inl t1_length)), (a_t1_gives, .inl (E 0, 8, .inl t1_gives)), (a_t1_over, .inl (E 1, 8, .inl o_t1_over)), (a_t1_under, .inl (E 1, 8, .inl o_t1_under))]) := by
  refine ct_of (own := RX0) (plainFor_of_name (by decide)) rfl (fle rfl) rfl ?_
  intro X hl hD hE hnL hXF h hR hF hnm
  subst hl; subst hD; subst hE
  have hL : ∀ i, i < 3 → i < X.nL := fun i hi => by rw [hnL]; exact hi
  unfold f_X0_isSo at hf
  refine g_aload_n h 1 dX0_isSo_0 rfl rfl ?_
  obtain ⟨t1_over_1, t1_under_2, hv, hf⟩ := ob2 hf
  refine g_callV (ci := 6) (q0 := 2) (n := 0) (As := []) (st := []) (wr := [(a, .inr (0, [.ref a_kinds, .ref a_town, .ref a_tried, .ref a_fell, .int falls, .int tears, .ref a_tape, .int typed, .int place, .ref a_read, .ref a_undos, .ref a_kept, .ref a_keptUndos, .int isKept, .ref a_sheets, .ref a_taken])), (a_taken, .inl (X.E 2, 24, .inr (.inl taken)))]) (isC := [2, 3, 4, 5, 6, 7]) (isR := [0, 1]) h hR (ct_X6_measured (a := a_t1) (a_kind := a_t1_kind) (a_strength := a_t1_strength) (a_place := a_t1_place) (a_length := a_t1_length) (a_gives := a_t1_gives) (a_over := a_t1_over) (a_under := a_t1_under) (a_this0 := a) (n := t1_n) (holders := t1_holders) (cuts := t1_cuts) (hour := t1_hour) (bears := t1_bears) (draw := t1_draw) (place := t1_place) (length := t1_length) (gives := t1_gives) (over := t1_over) (under := t1_under) hv) rfl rfl (lw_V q134 q135 q136 q76 q137) (by decide +kernel) rfl ⟨rfl, rfl, rfl, rfl, by decide⟩ ⟨fle rfl, fle rfl, fle rfl, fle rfl, fle rfl⟩ rfl dX0_isSo_1 (pin (perm := [0, 1, 2, 3, 4, 5, 6, 7]) (ws' := [(a, .inr (0, [.ref a_kinds, .ref a_town, .ref a_tried, .ref a_fell, .int falls, .int tears, .ref a_tape, .int typed, .int place, .ref a_read, .ref a_undos, .ref a_kept, .ref a_keptUndos, .int isKept, .ref a_sheets, .ref a_taken])), (a_taken, .inl (X.E 2, 24, .inr (.inl taken))), (a_t1, .inr (6, [.ref a_t1_kind, .ref a_t1_strength, .ref a_t1_place, .ref a_t1_length, .ref a_t1_gives, .ref a_t1_over, .ref a_t1_under, .int t1_n, .int t1_holders, .int t1_cuts, .int t1_hour, .int t1_bears, .int t1_draw, .ref a])), (a_t1_place, .inl (X.E 0, 8, .inl t1_place)), (a_t1_length, .inl (X.E 0, 8, .inl t1_length)), (a_t1_gives, .inl (X.E 0, 8, .inl t1_gives)), (a_t1_over, .inl (X.E 1, 8, .inl t1_over_1)), (a_t1_under, .inl (X.E 1, 8, .inl t1_under_2))]) (stk := [.ref a_t1]) rfl rfl rfl ?_)
  clear hv
  refine g_pop h dX0_isSo_4 rfl ?_
  refine g_iconst (v := 0) h dX0_isSo_5 kiconst_0 ?_
  refine g_istore_n (lv' := [(2, .int 0), (0, .ref a), (1, .ref a_t1)]) h dX0_isSo_6 rfl (hL 2 (fle rfl)) rfl ?_
  refine G.lsub (lv' := [(0, .ref a), (1, .ref a_t1), (2, .int 0)]) [1, 2, 0] rfl ?_
  obtain ⟨tag_8, hv, hf⟩ := ob1 hf
  refine w_X0_isSo_L7 (falls := falls) (tears := tears) (typed := typed) (place := place) (isKept := isKept) (taken := taken) (t1_n := t1_n) (t1_holders := t1_holders) (t1_cuts := t1_cuts) (t1_hour := t1_hour) (t1_bears := t1_bears) (t1_draw := t1_draw) (t1_place := t1_place) (t1_length := t1_length) (t1_gives := t1_gives) (t1_over := t1_over_1) (t1_under := t1_under_2) h hR hL (fle rfl) (fle rfl) FU _ hv ?_ ?_
  · intro ht
    have hf := (if_pos ht).symm.trans hf
    clear hv
    refine g_iconst (v := 0) h dX0_isSo_41 kiconst_0 ?_
    obtain ⟨rfl, rfl, rfl⟩ := sj3 hf
    exact g_zret h hF rfl [0, 1, 2, 3, 4, 5, 6, 7] rfl rfl ⟨rfl, rfl⟩ (fle rfl) (fle rfl) dX0_isSo_42
  · intro ht
    have hf := (if_neg (show ¬ tag_8 = 0 from by rw [ht]; decide)).symm.trans hf
    clear hv
    refine g_iconst (v := 1) h dX0_isSo_49 kiconst_1 ?_
    obtain ⟨rfl, rfl, rfl⟩ := sj3 hf
    exact g_zret h hF rfl [0, 1, 2, 3, 4, 5, 6, 7] rfl rfl ⟨rfl, rfl⟩ (fle rfl) (fle rfl) dX0_isSo_50
set_option maxHeartbeats 4000000 in
set_option maxRecDepth 100000 in
theorem w_X0_gives_2_L3 {X : Cx} {a a_fell a_kept a_keptUndos a_kinds a_read a_sheets a_taken a_tape a_town a_tried a_undos : Nat} {x1 : Int32} {x2 : Int32} {x3 : Int32} {falls : Int32} {tears : Int32} {typed : Int32} {place : Int32} {isKept : Int32} {taken : Nat → Int64} {ce sl : Nat} (h : Ok X cX0_gives_2 RX0) (hR : Rm X 0 0 0 0) (hL : ∀ i, i < 7 → i < X.nL) (hce : ce ≤ 0) (hsl : sl ≤ 0) : ∀ (n0 : Nat) (x4 : Int32) {otag : Nat}, f_X0_gives_2_L3 x1 x2 x3 taken n0 x4 = some otag → (otag = 0 → G X [(a, .inr (0, [.ref a_kinds, .ref a_town, .ref a_tried, .ref a_fell, .int falls, .int tears, .ref a_tape, .int typed, .int place, .ref a_read, .ref a_undos, .ref a_kept, .ref a_keptUndos, .int isKept, .ref a_sheets, .ref a_taken])), (a_taken, .inl (X.E 2, 24, .inr (.inl taken)))] [] ce sl 62 []) → (otag = 1 → G X [(a, .inr (0, [.ref a_kinds, .ref a_town, .ref a_tried, .ref a_fell, .int falls, .int tears, .ref a_tape, .int typed, .int place, .ref a_read, .ref a_undos, .ref a_kept, .ref a_keptUndos, .int isKept, .ref a_sheets, .ref a_taken])), (a_taken, .inl (X.E 2, 24, .inr (.inl taken)))] [] ce sl 70 []) → G X [(a, .inr (0, [.ref a_kinds, .ref a_town, .ref a_tried, .ref a_fell, .int falls, .int tears, .ref a_tape, .int typed, .int place, .ref a_read, .ref a_undos, .ref a_kept, .ref a_keptUndos, .int isKept, .ref a_sheets, .ref a_taken])), (a_taken, .inl (X.E 2, 24, .inr (.inl taken)))] [(0, .ref a), (1, .int x1), (2, .int x2), (3, .int x3), (4, .int x4)] ce sl 3 [] := by
  intro n0
  induction n0 with
  | zero => intro x4 otag hf; exact nomatch (show (none : Option _) = some _ from hf)
  | succ n0 ih =>
    intro x4 otag hf k0 k1
    replace hf : t_X0_gives_2_L3 x1 x2 x3 taken (f_X0_gives_2_L3 x1 x2 x3 taken n0) x4 = some otag := hf
    unfold t_X0_gives_2_L3 at hf
    refine g_iload h 4 dX0_gives_2_3 rfl ?_
    refine g_iload_n h 3 dX0_gives_2_5 rfl rfl ?_
    refine g_icmp_ge (tgt := 70) h dX0_gives_2_6 rfl hf (fun c1 hf => ?_) (fun c1 hf => ?_)
    · obtain rfl := sj1 hf
      exact G.lsub [] rfl (k1 rfl)
    · refine g_aload_n h 0 dX0_gives_2_9 rfl rfl ?_
      refine g_get (ci := 0) (v := .ref a_taken) h in_X0 0 15 rfl rfl (fle rfl) rfl q1126 rfl dX0_gives_2_10 ?_
      refine g_iconst (v := 2) h dX0_gives_2_13 kiconst_2 ?_
      refine g_iload h 4 dX0_gives_2_14 rfl ?_
      refine g_imul h dX0_gives_2_16 ?_
      obtain ⟨g2, hf⟩ := gn hf
      refine g_laload h 1 rfl g2 dX0_gives_2_17 ?_
      refine g_iload_n h 1 dX0_gives_2_18 rfl rfl ?_
      refine g_i2l h dX0_gives_2_19 ?_
      refine g_lcmp h dX0_gives_2_20 ?_
      obtain ⟨z_4, hw, hf⟩ := ob1 hf
      have K21 : G X [(a, .inr (0, [.ref a_kinds, .ref a_town, .ref a_tried, .ref a_fell, .int falls, .int tears, .ref a_tape, .int typed, .int place, .ref a_read, .ref a_undos, .ref a_kept, .ref a_keptUndos, .int isKept, .ref a_sheets, .ref a_taken])), (a_taken, .inl (X.E 2, 24, .inr (.inl taken)))] [(0, .ref a), (1, .int x1), (2, .int x2), (3, .int x3), (4, .int x4)] ce sl 40 [.long z_4] := by
        clear hw
        refine g_lstore (lv' := [(5, .long z_4), (0, .ref a), (1, .int x1), (2, .int x2), (3, .int x3), (4, .int x4)]) h dX0_gives_2_40 (hL 6 (fle rfl)) rfl ?_
        refine g_lload h 0 dX0_gives_2_42 rfl ?_
        refine g_iload_n h 3 dX0_gives_2_44 rfl rfl ?_
        refine g_i2l h dX0_gives_2_45 ?_
        obtain ⟨g5, hf⟩ := gn hf
        refine g_ldiv h dX0_gives_2_46 g5 ?_
        refine g_aload_n h 1 dX0_gives_2_47 rfl rfl ?_
        refine g_get (ci := 0) (v := .ref a_taken) h in_X0 0 15 rfl rfl (fle rfl) rfl q1126 rfl dX0_gives_2_48 ?_
        refine g_iconst (v := 2) h dX0_gives_2_51 kiconst_2 ?_
        refine g_iload h 5 dX0_gives_2_52 rfl ?_
        refine g_imul h dX0_gives_2_54 ?_
        refine g_iconst (v := 1) h dX0_gives_2_55 kiconst_1 ?_
        refine g_iadd h dX0_gives_2_56 ?_
        obtain ⟨g6, hf⟩ := gn hf
        refine g_laload h 1 rfl g6 dX0_gives_2_57 ?_
        refine g_lcmp h dX0_gives_2_58 ?_
        refine g_if_eq (tgt := 64) h dX0_gives_2_59 rfl hf (fun c7 hf => ?_) (fun c7 hf => ?_)
        · refine g_iinc (j := 5) (v := (x4 + 1)) (lv' := [(4, .int (x4 + 1)), (5, .long z_4), (0, .ref a), (1, .int x1), (2, .int x2), (3, .int x3)]) h dX0_gives_2_64 rfl (kinc_1 _) (hL 4 (fle rfl)) rfl ?_
          refine g_goto (tgt := 3) h dX0_gives_2_67 rfl ?_
          exact G.lsub [2, 3, 4, 5, 0] rfl (ih _ hf k0 k1)
        · obtain rfl := sj1 hf
          exact G.lsub [] rfl (k0 rfl)
      clear hf
      have hf := hw
      clear hw
      refine g_if_le (tgt := 39) h dX0_gives_2_21 rfl hf (fun c3 hf => ?_) (fun c3 hf => ?_)
      · refine g_lconst (v := 0) h dX0_gives_2_39 rfl ?_
        obtain rfl := sj1 hf
        exact G.lsub [0, 1, 2, 3, 4] rfl K21
      · refine g_aload_n h 0 dX0_gives_2_24 rfl rfl ?_
        refine g_get (ci := 0) (v := .ref a_taken) h in_X0 0 15 rfl rfl (fle rfl) rfl q1126 rfl dX0_gives_2_25 ?_
        refine g_iconst (v := 2) h dX0_gives_2_28 kiconst_2 ?_
        refine g_iload h 4 dX0_gives_2_29 rfl ?_
        refine g_imul h dX0_gives_2_31 ?_
        refine g_laload h 1 rfl g2 dX0_gives_2_32 ?_
        refine g_iload_n h 1 dX0_gives_2_33 rfl rfl ?_
        refine g_i2l h dX0_gives_2_34 ?_
        refine g_lsub h dX0_gives_2_35 ?_
        refine g_goto (tgt := 40) h dX0_gives_2_36 rfl ?_
        obtain rfl := sj1 hf
        exact G.lsub [0, 1, 2, 3, 4] rfl K21
set_option maxHeartbeats 4000000 in
set_option maxRecDepth 100000 in
theorem ct_X0_gives_2 {l : Launch} {D : va_G} {E : Ety} {a a_kinds a_town a_tried a_fell a_tape a_read a_undos a_kept a_keptUndos a_sheets a_taken : Nat} {x1 : Int32} {x2 : Int32} {x3 : Int32} {falls : Int32} {tears : Int32} {typed : Int32} {place : Int32} {isKept : Int32} {taken : Nat → Int64} {r_ : Int32} (hf : f_X0_gives_2 x1 x2 x3 taken = some r_) : Ct l yX0_gives_2 cX0_gives_2 7 (some .boolean) 0 0 0 0 D E [.ref a, .int x1, .int x2, .int x3] [(a, .inr (0, [.ref a_kinds, .ref a_town, .ref a_tried, .ref a_fell, .int falls, .int tears, .ref a_tape, .int typed, .int place, .ref a_read, .ref a_undos, .ref a_kept, .ref a_keptUndos, .int isKept, .ref a_sheets, .ref a_taken])), (a_taken, .inl (E 2, 24, .inr (.inl taken)))] (Pn (some (.int r_)) [(a, .inr (0, [.ref a_kinds, .ref a_town, .ref a_tried, .ref a_fell, .int falls, .int tears, .ref a_tape, .int typed, .int place, .ref a_read, .ref a_undos, .ref a_kept, .ref a_keptUndos, .int isKept, .ref a_sheets, .ref a_taken])), (a_taken, .inl (E 2, 24, .inr (.inl taken)))]) := by
  refine ct_of (own := RX0) (plainFor_of_name (by decide)) rfl (fle rfl) rfl ?_
  intro X hl hD hE hnL hXF h hR hF hnm
  subst hl; subst hD; subst hE
  have hL : ∀ i, i < 7 → i < X.nL := fun i hi => by rw [hnL]; exact hi
  unfold f_X0_gives_2 at hf
  refine g_iconst (v := 0) h dX0_gives_2_0 kiconst_0 ?_
  refine g_istore (lv' := [(4, .int 0), (0, .ref a), (1, .int x1), (2, .int x2), (3, .int x3)]) h dX0_gives_2_1 (hL 4 (fle rfl)) rfl ?_
  refine G.lsub (lv' := [(0, .ref a), (1, .int x1), (2, .int x2), (3, .int x3), (4, .int 0)]) [1, 2, 3, 4, 0] rfl ?_
  obtain ⟨tag_8, hv, hf⟩ := ob1 hf
  refine w_X0_gives_2_L3 (x1 := x1) (x2 := x2) (x3 := x3) (falls := falls) (tears := tears) (typed := typed) (place := place) (isKept := isKept) (taken := taken) h hR hL (fle rfl) (fle rfl) FU _ hv ?_ ?_
  · intro ht
    have hf := (if_pos ht).symm.trans hf
    clear hv
    refine g_iconst (v := 0) h dX0_gives_2_62 kiconst_0 ?_
    obtain rfl := sj1 hf
    exact g_zret h hF rfl [0, 1] rfl rfl ⟨rfl, rfl⟩ (fle rfl) (fle rfl) dX0_gives_2_63
  · intro ht
    have hf := (if_neg (show ¬ tag_8 = 0 from by rw [ht]; decide)).symm.trans hf
    clear hv
    refine g_iconst (v := 1) h dX0_gives_2_70 kiconst_1 ?_
    obtain rfl := sj1 hf
    exact g_zret h hF rfl [0, 1] rfl rfl ⟨rfl, rfl⟩ (fle rfl) (fle rfl) dX0_gives_2_71
set_option maxHeartbeats 4000000 in
set_option maxRecDepth 100000 in
theorem ct_X1_init {l : Launch} {D : va_G} {E : Ety} {a : Nat}   (hf : f_X1_init  = some ()) : Ct l yX1_init cX1_init 1 none 1 20 0 0 D E [.ref a] [] (Pn none []) := by
  refine ct_of (own := RX1) (plainFor_of_name (by decide)) rfl (fle rfl) rfl ?_
  intro X hl hD hE hnL hXF h hR hF hnm
  subst hl; subst hD; subst hE
  have hL : ∀ i, i < 1 → i < X.nL := fun i hi => by rw [hnL]; exact hi
  unfold f_X1_init at hf
  refine g_aload_n h 0 dX1_init_0 rfl rfl ?_
  refine g_objInit h hR q1052 q255 q256 (fle rfl) (fle rfl) dX1_init_1 ?_
  clear hf
  exact g_vret h hF [] rfl rfl ⟨rfl, rfl⟩ (fle rfl) (fle rfl) dX1_init_4
set_option maxHeartbeats 4000000 in
set_option maxRecDepth 100000 in
theorem ct_X2_init {l : Launch} {D : va_G} {E : Ety} {a : Nat}   (hf : f_X2_init  = some ()) : Ct l yX2_init cX2_init 1 none 2 40 0 0 D E [.ref a] [] (Pn none []) := by
  refine ct_of (own := RX2) (plainFor_of_name (by decide)) rfl (fle rfl) rfl ?_
  intro X hl hD hE hnL hXF h hR hF hnm
  subst hl; subst hD; subst hE
  have hL : ∀ i, i < 1 → i < X.nL := fun i hi => by rw [hnL]; exact hi
  unfold f_X2_init at hf
  refine g_aload_n h 0 dX2_init_0 rfl rfl ?_
  obtain ⟨u_1, hv, hf⟩ := ob1 hf
  refine g_callIN (n := 0) (As := []) (st := []) (wr := []) (isC := []) (isR := []) h hR (ct_X1_init (a := a) hv) q1051 q71 q1059 q1050 rfl (by decide +kernel) rfl ⟨rfl, rfl, rfl, rfl, by decide⟩ ⟨fle rfl, fle rfl, fle rfl, fle rfl, fle rfl⟩ rfl dX2_init_1 (pin (perm := []) (ws' := []) (stk := []) rfl rfl rfl ?_)
  clear hv
  clear hf
  exact g_vret h hF [] rfl rfl ⟨rfl, rfl⟩ (fle rfl) (fle rfl) dX2_init_4
set_option maxHeartbeats 4000000 in
set_option maxRecDepth 100000 in
theorem ct_X3_init {l : Launch} {D : va_G} {E : Ety} {a : Nat}   (hf : f_X3_init  = some ()) : Ct l yX3_init cX3_init 1 none 3 60 0 0 D E [.ref a] [] (Pn none []) := by
  refine ct_of (own := RX3) (plainFor_of_name (by decide)) rfl (fle rfl) rfl ?_
  intro X hl hD hE hnL hXF h hR hF hnm
  subst hl; subst hD; subst hE
  have hL : ∀ i, i < 1 → i < X.nL := fun i hi => by rw [hnL]; exact hi
  unfold f_X3_init at hf
  refine g_aload_n h 0 dX3_init_0 rfl rfl ?_
  obtain ⟨u_1, hv, hf⟩ := ob1 hf
  refine g_callIN (n := 0) (As := []) (st := []) (wr := []) (isC := []) (isR := []) h hR (ct_X2_init (a := a) hv) q1058 q72 q1065 q1057 rfl (by decide +kernel) rfl ⟨rfl, rfl, rfl, rfl, by decide⟩ ⟨fle rfl, fle rfl, fle rfl, fle rfl, fle rfl⟩ rfl dX3_init_1 (pin (perm := []) (ws' := []) (stk := []) rfl rfl rfl ?_)
  clear hv
  clear hf
  exact g_vret h hF [] rfl rfl ⟨rfl, rfl⟩ (fle rfl) (fle rfl) dX3_init_4
set_option maxHeartbeats 4000000 in
set_option maxRecDepth 100000 in
theorem ct_X4_init {l : Launch} {D : va_G} {E : Ety} {a : Nat}   (hf : f_X4_init  = some ()) : Ct l yX4_init cX4_init 1 none 4 80 0 0 D E [.ref a] [] (Pn none []) := by
  refine ct_of (own := RX4) (plainFor_of_name (by decide)) rfl (fle rfl) rfl ?_
  intro X hl hD hE hnL hXF h hR hF hnm
  subst hl; subst hD; subst hE
  have hL : ∀ i, i < 1 → i < X.nL := fun i hi => by rw [hnL]; exact hi
  unfold f_X4_init at hf
  refine g_aload_n h 0 dX4_init_0 rfl rfl ?_
  obtain ⟨u_1, hv, hf⟩ := ob1 hf
  refine g_callIN (n := 0) (As := []) (st := []) (wr := []) (isC := []) (isR := []) h hR (ct_X3_init (a := a) hv) q1064 q73 q1071 q1063 rfl (by decide +kernel) rfl ⟨rfl, rfl, rfl, rfl, by decide⟩ ⟨fle rfl, fle rfl, fle rfl, fle rfl, fle rfl⟩ rfl dX4_init_1 (pin (perm := []) (ws' := []) (stk := []) rfl rfl rfl ?_)
  clear hv
  clear hf
  exact g_vret h hF [] rfl rfl ⟨rfl, rfl⟩ (fle rfl) (fle rfl) dX4_init_4
set_option maxHeartbeats 4000000 in
set_option maxRecDepth 100000 in
theorem ct_X5_init {l : Launch} {D : va_G} {E : Ety} {a : Nat}   (hf : f_X5_init  = some ()) : Ct l yX5_init cX5_init 1 none 2 40 0 0 D E [.ref a] [] (Pn none []) := by
  refine ct_of (own := RX5) (plainFor_of_name (by decide)) rfl (fle rfl) rfl ?_
  intro X hl hD hE hnL hXF h hR hF hnm
  subst hl; subst hD; subst hE
  have hL : ∀ i, i < 1 → i < X.nL := fun i hi => by rw [hnL]; exact hi
  unfold f_X5_init at hf
  refine g_aload_n h 0 dX5_init_0 rfl rfl ?_
  obtain ⟨u_1, hv, hf⟩ := ob1 hf
  refine g_callIN (n := 0) (As := []) (st := []) (wr := []) (isC := []) (isR := []) h hR (ct_X1_init (a := a) hv) q1051 q71 q1077 q1050 rfl (by decide +kernel) rfl ⟨rfl, rfl, rfl, rfl, by decide⟩ ⟨fle rfl, fle rfl, fle rfl, fle rfl, fle rfl⟩ rfl dX5_init_1 (pin (perm := []) (ws' := []) (stk := []) rfl rfl rfl ?_)
  clear hv
  clear hf
  exact g_vret h hF [] rfl rfl ⟨rfl, rfl⟩ (fle rfl) (fle rfl) dX5_init_4
set_option maxHeartbeats 4000000 in
set_option maxRecDepth 100000 in
theorem ct_X7_init {l : Launch} {D : va_G} {E : Ety} {a : Nat}   (hf : f_X7_init  = some ()) : Ct l yX7_init cX7_init 1 none 1 20 0 0 D E [.ref a] [] (Pn none []) := by
  refine ct_of (own := RX7) (plainFor_of_name (by decide)) rfl (fle rfl) rfl ?_
  intro X hl hD hE hnL hXF h hR hF hnm
  subst hl; subst hD; subst hE
  have hL : ∀ i, i < 1 → i < X.nL := fun i hi => by rw [hnL]; exact hi
  unfold f_X7_init at hf
  refine g_aload_n h 0 dX7_init_0 rfl rfl ?_
  refine g_objInit h hR q1105 q255 q256 (fle rfl) (fle rfl) dX7_init_1 ?_
  clear hf
  exact g_vret h hF [] rfl rfl ⟨rfl, rfl⟩ (fle rfl) (fle rfl) dX7_init_4
set_option maxHeartbeats 4000000 in
set_option maxRecDepth 100000 in
theorem ct_X0_init {l : Launch} {D : va_G} {E : Ety} {a : Nat} {falls : Int32} {tears : Int32} {typed : Int32} {place : Int32} {isKept : Int32}  (hf : f_X0_init  = some ()) : Ct l yX0_init cX0_init 2 none 5 100 43 425 D E [.ref a] [(a, .inr (0, [.null, .null, .null, .null, .int falls, .int tears, .null, .int typed, .int place, .null, .null, .null, .null, .int isKept, .null, .null]))] (fun v w => ∃ q1 q2 q4 q6 q8 q10 q12 q14 q15 q16 q17 q18 q19 q20 q21 q23 q24 q25 q26 q27 q28 q29 q30 q31 q32 q33 q35 q36 q38 q39 q40 q41 q42 q43 q44 q45 q47 q48 q49 q50 q52 q54 q56 : Nat, v = none ∧ w = [(a, .inr (0, [.ref q1, .ref q12, .ref q21, .ref q30, .int falls, .int tears, .ref q31, .int typed, .int place, .ref q32, .ref q33, .ref q36, .ref q45, .int isKept, .ref q48, .ref q49])), (q1, .inl (E 5, 5, .inr (.inr (.inr (.inr (va_up (va_up (va_up (va_up (va_up (fun _ => none) (0 : Int32).toNatClampNeg (some q2)) (1 : Int32).toNatClampNeg (some q4)) (2 : Int32).toNatClampNeg (some q6)) (3 : Int32).toNatClampNeg (some q8)) (4 : Int32).toNatClampNeg (some q10))))))), (q2, .inr (1, [])), (q4, .inr (2, [])), (q6, .inr (3, [])), (q8, .inr (4, [])), (q10, .inr (5, [])), (q12, .inr (6, [.ref q14, .ref q15, .ref q16, .ref q17, .ref q18, .ref q19, .ref q20, .int 0, .int 0, .int 0, .int 8, .int 20, .int 1, .ref a])), (q14, .inl (E 0, 8, .inl (fun _ => 0))), (q15, .inl (E 0, 8, .inl (fun _ => 0))), (q16, .inl (E 0, 8, .inl (fun _ => 0))), (q17, .inl (E 0, 8, .inl (fun _ => 0))), (q18, .inl (E 0, 8, .inl (fun _ => 0))), (q19, .inl (E 1, 8, .inl (fun _ => 0))), (q20, .inl (E 1, 8, .inl (fun _ => 0))), (q21, .inr (6, [.ref q23, .ref q24, .ref q25, .ref q26, .ref q27, .ref q28, .ref q29, .int 0, .int 0, .int 0, .int 0, .int 0, .int 0, .ref a])), (q23, .inl (E 0, 8, .inl (fun _ => 0))), (q24, .inl (E 0, 8, .inl (fun _ => 0))), (q25, .inl (E 0, 8, .inl (fun _ => 0))), (q26, .inl (E 0, 8, .inl (fun _ => 0))), (q27, .inl (E 0, 8, .inl (fun _ => 0))), (q28, .inl (E 1, 8, .inl (fun _ => 0))), (q29, .inl (E 1, 8, .inl (fun _ => 0))), (q30, .inl (E 1, 8, .inl (fun _ => 0))), (q31, .inl (E 0, 90, .inl (fun _ => 0))), (q32, .inl (E 1, 40, .inl (fun _ => 0))), (q33, .inr (11, [.ref q35, .int 0, .int 0])), (q35, .inl (E 4, 17, .inr (.inr (.inr (.inr (fun _ => none)))))), (q36, .inr (6, [.ref q38, .ref q39, .ref q40, .ref q41, .ref q42, .ref q43, .ref q44, .int 0, .int 0, .int 0, .int 0, .int 0, .int 0, .ref a])), (q38, .inl (E 0, 8, .inl (fun _ => 0))), (q39, .inl (E 0, 8, .inl (fun _ => 0))), (q40, .inl (E 0, 8, .inl (fun _ => 0))), (q41, .inl (E 0, 8, .inl (fun _ => 0))), (q42, .inl (E 0, 8, .inl (fun _ => 0))), (q43, .inl (E 1, 8, .inl (fun _ => 0))), (q44, .inl (E 1, 8, .inl (fun _ => 0))), (q45, .inr (11, [.ref q47, .int 0, .int 0])), (q47, .inl (E 4, 17, .inr (.inr (.inr (.inr (fun _ => none)))))), (q48, .inl (E 6, 4, .inr (.inr (.inr (.inr (va_up (va_up (va_up (va_up (fun _ => none) (0 : Int32).toNatClampNeg (some q50)) (1 : Int32).toNatClampNeg (some q52)) (2 : Int32).toNatClampNeg (some q54)) (3 : Int32).toNatClampNeg (some q56))))))), (q49, .inl (E 2, 24, .inr (.inl (fun _ => 0)))), (q50, .inr (7, [.null])), (q52, .inr (7, [.null])), (q54, .inr (7, [.null])), (q56, .inr (7, [.null]))]) := by
  refine ct_of (own := RX0) (plainFor_of_name (by decide)) rfl (fle rfl) rfl ?_
  intro X hl hD hE hnL hXF h hR hF hnm
  subst hl; subst hD; subst hE
  have hL : ∀ i, i < 2 → i < X.nL := fun i hi => by rw [hnL]; exact hi
  unfold f_X0_init at hf
  refine g_aload_n h 0 dX0_init_0 rfl rfl ?_
  refine g_objInit h hR q1044 q255 q256 (fle rfl) (fle rfl) dX0_init_1 ?_
  refine g_aload_n h 0 dX0_init_4 rfl rfl ?_
  refine g_iconst (v := 5) h dX0_init_5 kiconst_5 ?_
  refine g_newq (n := 5) (N := 5) (t0 := 5) h hR q1045 h.nw.2.1.2.1 rfl (by decide) (by decide) (by decide) (fle rfl) (fle rfl) dX0_init_6 (fun q1 => ?_)
  refine G.sub (ws' := [(a, .inr (0, [.null, .null, .null, .null, .int falls, .int tears, .null, .int typed, .int place, .null, .null, .null, .null, .int isKept, .null, .null])), (q1, .inl (X.E 5, 5, .inr (.inr (.inr (.inr (fun _ => none))))))]) [0, 1] rfl rfl ?_
  refine g_dup h dX0_init_9 rfl ?_
  refine g_iconst (v := 0) h dX0_init_10 kiconst_0 ?_
  refine g_new (ci := 1) (fs := []) h hR in_X1 tyX1 tyX1_ok q1047 q1048 q71 rfl df_X1 (fle rfl) (fle rfl) dX0_init_11 (fun q2 => ?_)
  refine G.sub (ws' := [(a, .inr (0, [.null, .null, .null, .null, .int falls, .int tears, .null, .int typed, .int place, .null, .null, .null, .null, .int isKept, .null, .null])), (q1, .inl (X.E 5, 5, .inr (.inr (.inr (.inr (fun _ => none)))))), (q2, .inr (1, []))]) [0, 1, 2] rfl rfl ?_
  refine g_dup h dX0_init_14 rfl ?_
  obtain ⟨u_3, hv, hf⟩ := ob1 hf
  refine g_callIN (n := 0) (As := []) (st := [.ref q2, .int 0, .ref q1, .ref q1, .ref a]) (wr := [(a, .inr (0, [.null, .null, .null, .null, .int falls, .int tears, .null, .int typed, .int place, .null, .null, .null, .null, .int isKept, .null, .null])), (q1, .inl (X.E 5, 5, .inr (.inr (.inr (.inr (fun _ => none)))))), (q2, .inr (1, []))]) (isC := []) (isR := [0, 1, 2]) h hR (ct_X1_init (a := q2) hv) q1051 q71 q1049 q1050 rfl (by decide +kernel) rfl ⟨rfl, rfl, rfl, rfl, by decide⟩ ⟨fle rfl, fle rfl, fle rfl, fle rfl, fle rfl⟩ rfl dX0_init_15 (pin (perm := [0, 1, 2]) (ws' := [(a, .inr (0, [.null, .null, .null, .null, .int falls, .int tears, .null, .int typed, .int place, .null, .null, .null, .null, .int isKept, .null, .null])), (q1, .inl (X.E 5, 5, .inr (.inr (.inr (.inr (fun _ => none)))))), (q2, .inr (1, []))]) (stk := [.ref q2, .int 0, .ref q1, .ref q1, .ref a]) rfl rfl rfl ?_)
  clear hv
  refine g_aastO (t0 := 5) (ci := 1) (ws' := [(a, .inr (0, [.null, .null, .null, .null, .int falls, .int tears, .null, .int typed, .int place, .null, .null, .null, .null, .int isKept, .null, .null])), (q1, .inl (X.E 5, 5, .inr (.inr (.inr (.inr (va_up (fun _ => none) (0 : Int32).toNatClampNeg (some q2))))))), (q2, .inr (1, []))]) h 1 2 rfl rfl q195 rfl rfl (by decide) rfl dX0_init_18 ?_
  refine g_dup h dX0_init_19 rfl ?_
  refine g_iconst (v := 1) h dX0_init_20 kiconst_1 ?_
  refine g_new (ci := 2) (fs := []) h hR in_X2 tyX2 tyX2_ok q1054 q1055 q72 rfl df_X2 (fle rfl) (fle rfl) dX0_init_21 (fun q4 => ?_)
  refine G.sub (ws' := [(a, .inr (0, [.null, .null, .null, .null, .int falls, .int tears, .null, .int typed, .int place, .null, .null, .null, .null, .int isKept, .null, .null])), (q1, .inl (X.E 5, 5, .inr (.inr (.inr (.inr (va_up (fun _ => none) (0 : Int32).toNatClampNeg (some q2))))))), (q2, .inr (1, [])), (q4, .inr (2, []))]) [0, 1, 2, 3] rfl rfl ?_
  refine g_dup h dX0_init_24 rfl ?_
  obtain ⟨u_5, hv, hf⟩ := ob1 hf
  refine g_callIN (n := 0) (As := []) (st := [.ref q4, .int 1, .ref q1, .ref q1, .ref a]) (wr := [(a, .inr (0, [.null, .null, .null, .null, .int falls, .int tears, .null, .int typed, .int place, .null, .null, .null, .null, .int isKept, .null, .null])), (q1, .inl (X.E 5, 5, .inr (.inr (.inr (.inr (va_up (fun _ => none) (0 : Int32).toNatClampNeg (some q2))))))), (q2, .inr (1, [])), (q4, .inr (2, []))]) (isC := []) (isR := [0, 1, 2, 3]) h hR (ct_X2_init (a := q4) hv) q1058 q72 q1056 q1057 rfl (by decide +kernel) rfl ⟨rfl, rfl, rfl, rfl, by decide⟩ ⟨fle rfl, fle rfl, fle rfl, fle rfl, fle rfl⟩ rfl dX0_init_25 (pin (perm := [0, 1, 2, 3]) (ws' := [(a, .inr (0, [.null, .null, .null, .null, .int falls, .int tears, .null, .int typed, .int place, .null, .null, .null, .null, .int isKept, .null, .null])), (q1, .inl (X.E 5, 5, .inr (.inr (.inr (.inr (va_up (fun _ => none) (0 : Int32).toNatClampNeg (some q2))))))), (q2, .inr (1, [])), (q4, .inr (2, []))]) (stk := [.ref q4, .int 1, .ref q1, .ref q1, .ref a]) rfl rfl rfl ?_)
  clear hv
  refine g_aastO (t0 := 5) (ci := 2) (ws' := [(a, .inr (0, [.null, .null, .null, .null, .int falls, .int tears, .null, .int typed, .int place, .null, .null, .null, .null, .int isKept, .null, .null])), (q1, .inl (X.E 5, 5, .inr (.inr (.inr (.inr (va_up (va_up (fun _ => none) (0 : Int32).toNatClampNeg (some q2)) (1 : Int32).toNatClampNeg (some q4))))))), (q2, .inr (1, [])), (q4, .inr (2, []))]) h 1 3 rfl rfl q210 rfl rfl (by decide) rfl dX0_init_28 ?_
  refine g_dup h dX0_init_29 rfl ?_
  refine g_iconst (v := 2) h dX0_init_30 kiconst_2 ?_
  refine g_new (ci := 3) (fs := []) h hR in_X3 tyX3 tyX3_ok q1060 q1061 q73 rfl df_X3 (fle rfl) (fle rfl) dX0_init_31 (fun q6 => ?_)
  refine G.sub (ws' := [(a, .inr (0, [.null, .null, .null, .null, .int falls, .int tears, .null, .int typed, .int place, .null, .null, .null, .null, .int isKept, .null, .null])), (q1, .inl (X.E 5, 5, .inr (.inr (.inr (.inr (va_up (va_up (fun _ => none) (0 : Int32).toNatClampNeg (some q2)) (1 : Int32).toNatClampNeg (some q4))))))), (q2, .inr (1, [])), (q4, .inr (2, [])), (q6, .inr (3, []))]) [0, 1, 2, 3, 4] rfl rfl ?_
  refine g_dup h dX0_init_34 rfl ?_
  obtain ⟨u_7, hv, hf⟩ := ob1 hf
  refine g_callIN (n := 0) (As := []) (st := [.ref q6, .int 2, .ref q1, .ref q1, .ref a]) (wr := [(a, .inr (0, [.null, .null, .null, .null, .int falls, .int tears, .null, .int typed, .int place, .null, .null, .null, .null, .int isKept, .null, .null])), (q1, .inl (X.E 5, 5, .inr (.inr (.inr (.inr (va_up (va_up (fun _ => none) (0 : Int32).toNatClampNeg (some q2)) (1 : Int32).toNatClampNeg (some q4))))))), (q2, .inr (1, [])), (q4, .inr (2, [])), (q6, .inr (3, []))]) (isC := []) (isR := [0, 1, 2, 3, 4]) h hR (ct_X3_init (a := q6) hv) q1064 q73 q1062 q1063 rfl (by decide +kernel) rfl ⟨rfl, rfl, rfl, rfl, by decide⟩ ⟨fle rfl, fle rfl, fle rfl, fle rfl, fle rfl⟩ rfl dX0_init_35 (pin (perm := [0, 1, 2, 3, 4]) (ws' := [(a, .inr (0, [.null, .null, .null, .null, .int falls, .int tears, .null, .int typed, .int place, .null, .null, .null, .null, .int isKept, .null, .null])), (q1, .inl (X.E 5, 5, .inr (.inr (.inr (.inr (va_up (va_up (fun _ => none) (0 : Int32).toNatClampNeg (some q2)) (1 : Int32).toNatClampNeg (some q4))))))), (q2, .inr (1, [])), (q4, .inr (2, [])), (q6, .inr (3, []))]) (stk := [.ref q6, .int 2, .ref q1, .ref q1, .ref a]) rfl rfl rfl ?_)
  clear hv
  refine g_aastO (t0 := 5) (ci := 3) (ws' := [(a, .inr (0, [.null, .null, .null, .null, .int falls, .int tears, .null, .int typed, .int place, .null, .null, .null, .null, .int isKept, .null, .null])), (q1, .inl (X.E 5, 5, .inr (.inr (.inr (.inr (va_up (va_up (va_up (fun _ => none) (0 : Int32).toNatClampNeg (some q2)) (1 : Int32).toNatClampNeg (some q4)) (2 : Int32).toNatClampNeg (some q6))))))), (q2, .inr (1, [])), (q4, .inr (2, [])), (q6, .inr (3, []))]) h 1 4 rfl rfl q175 rfl rfl (by decide) rfl dX0_init_38 ?_
  refine g_dup h dX0_init_39 rfl ?_
  refine g_iconst (v := 3) h dX0_init_40 kiconst_3 ?_
  refine g_new (ci := 4) (fs := []) h hR in_X4 tyX4 tyX4_ok q1066 q1067 q74 rfl df_X4 (fle rfl) (fle rfl) dX0_init_41 (fun q8 => ?_)
  refine G.sub (ws' := [(a, .inr (0, [.null, .null, .null, .null, .int falls, .int tears, .null, .int typed, .int place, .null, .null, .null, .null, .int isKept, .null, .null])), (q1, .inl (X.E 5, 5, .inr (.inr (.inr (.inr (va_up (va_up (va_up (fun _ => none) (0 : Int32).toNatClampNeg (some q2)) (1 : Int32).toNatClampNeg (some q4)) (2 : Int32).toNatClampNeg (some q6))))))), (q2, .inr (1, [])), (q4, .inr (2, [])), (q6, .inr (3, [])), (q8, .inr (4, []))]) [0, 1, 2, 3, 4, 5] rfl rfl ?_
  refine g_dup h dX0_init_44 rfl ?_
  obtain ⟨u_9, hv, hf⟩ := ob1 hf
  refine g_callIN (n := 0) (As := []) (st := [.ref q8, .int 3, .ref q1, .ref q1, .ref a]) (wr := [(a, .inr (0, [.null, .null, .null, .null, .int falls, .int tears, .null, .int typed, .int place, .null, .null, .null, .null, .int isKept, .null, .null])), (q1, .inl (X.E 5, 5, .inr (.inr (.inr (.inr (va_up (va_up (va_up (fun _ => none) (0 : Int32).toNatClampNeg (some q2)) (1 : Int32).toNatClampNeg (some q4)) (2 : Int32).toNatClampNeg (some q6))))))), (q2, .inr (1, [])), (q4, .inr (2, [])), (q6, .inr (3, [])), (q8, .inr (4, []))]) (isC := []) (isR := [0, 1, 2, 3, 4, 5]) h hR (ct_X4_init (a := q8) hv) q1070 q74 q1068 q1069 rfl (by decide +kernel) rfl ⟨rfl, rfl, rfl, rfl, by decide⟩ ⟨fle rfl, fle rfl, fle rfl, fle rfl, fle rfl⟩ rfl dX0_init_45 (pin (perm := [0, 1, 2, 3, 4, 5]) (ws' := [(a, .inr (0, [.null, .null, .null, .null, .int falls, .int tears, .null, .int typed, .int place, .null, .null, .null, .null, .int isKept, .null, .null])), (q1, .inl (X.E 5, 5, .inr (.inr (.inr (.inr (va_up (va_up (va_up (fun _ => none) (0 : Int32).toNatClampNeg (some q2)) (1 : Int32).toNatClampNeg (some q4)) (2 : Int32).toNatClampNeg (some q6))))))), (q2, .inr (1, [])), (q4, .inr (2, [])), (q6, .inr (3, [])), (q8, .inr (4, []))]) (stk := [.ref q8, .int 3, .ref q1, .ref q1, .ref a]) rfl rfl rfl ?_)
  clear hv
  refine g_aastO (t0 := 5) (ci := 4) (ws' := [(a, .inr (0, [.null, .null, .null, .null, .int falls, .int tears, .null, .int typed, .int place, .null, .null, .null, .null, .int isKept, .null, .null])), (q1, .inl (X.E 5, 5, .inr (.inr (.inr (.inr (va_up (va_up (va_up (va_up (fun _ => none) (0 : Int32).toNatClampNeg (some q2)) (1 : Int32).toNatClampNeg (some q4)) (2 : Int32).toNatClampNeg (some q6)) (3 : Int32).toNatClampNeg (some q8))))))), (q2, .inr (1, [])), (q4, .inr (2, [])), (q6, .inr (3, [])), (q8, .inr (4, []))]) h 1 5 rfl rfl q199 rfl rfl (by decide) rfl dX0_init_48 ?_
  refine g_dup h dX0_init_49 rfl ?_
  refine g_iconst (v := 4) h dX0_init_50 kiconst_4 ?_
  refine g_new (ci := 5) (fs := []) h hR in_X5 tyX5 tyX5_ok q1072 q1073 q75 rfl df_X5 (fle rfl) (fle rfl) dX0_init_51 (fun q10 => ?_)
  refine G.sub (ws' := [(a, .inr (0, [.null, .null, .null, .null, .int falls, .int tears, .null, .int typed, .int place, .null, .null, .null, .null, .int isKept, .null, .null])), (q1, .inl (X.E 5, 5, .inr (.inr (.inr (.inr (va_up (va_up (va_up (va_up (fun _ => none) (0 : Int32).toNatClampNeg (some q2)) (1 : Int32).toNatClampNeg (some q4)) (2 : Int32).toNatClampNeg (some q6)) (3 : Int32).toNatClampNeg (some q8))))))), (q2, .inr (1, [])), (q4, .inr (2, [])), (q6, .inr (3, [])), (q8, .inr (4, [])), (q10, .inr (5, []))]) [0, 1, 2, 3, 4, 5, 6] rfl rfl ?_
  refine g_dup h dX0_init_54 rfl ?_
  obtain ⟨u_11, hv, hf⟩ := ob1 hf
  refine g_callIN (n := 0) (As := []) (st := [.ref q10, .int 4, .ref q1, .ref q1, .ref a]) (wr := [(a, .inr (0, [.null, .null, .null, .null, .int falls, .int tears, .null, .int typed, .int place, .null, .null, .null, .null, .int isKept, .null, .null])), (q1, .inl (X.E 5, 5, .inr (.inr (.inr (.inr (va_up (va_up (va_up (va_up (fun _ => none) (0 : Int32).toNatClampNeg (some q2)) (1 : Int32).toNatClampNeg (some q4)) (2 : Int32).toNatClampNeg (some q6)) (3 : Int32).toNatClampNeg (some q8))))))), (q2, .inr (1, [])), (q4, .inr (2, [])), (q6, .inr (3, [])), (q8, .inr (4, [])), (q10, .inr (5, []))]) (isC := []) (isR := [0, 1, 2, 3, 4, 5, 6]) h hR (ct_X5_init (a := q10) hv) q1076 q75 q1074 q1075 rfl (by decide +kernel) rfl ⟨rfl, rfl, rfl, rfl, by decide⟩ ⟨fle rfl, fle rfl, fle rfl, fle rfl, fle rfl⟩ rfl dX0_init_55 (pin (perm := [0, 1, 2, 3, 4, 5, 6]) (ws' := [(a, .inr (0, [.null, .null, .null, .null, .int falls, .int tears, .null, .int typed, .int place, .null, .null, .null, .null, .int isKept, .null, .null])), (q1, .inl (X.E 5, 5, .inr (.inr (.inr (.inr (va_up (va_up (va_up (va_up (fun _ => none) (0 : Int32).toNatClampNeg (some q2)) (1 : Int32).toNatClampNeg (some q4)) (2 : Int32).toNatClampNeg (some q6)) (3 : Int32).toNatClampNeg (some q8))))))), (q2, .inr (1, [])), (q4, .inr (2, [])), (q6, .inr (3, [])), (q8, .inr (4, [])), (q10, .inr (5, []))]) (stk := [.ref q10, .int 4, .ref q1, .ref q1, .ref a]) rfl rfl rfl ?_)
  clear hv
  refine g_aastO (t0 := 5) (ci := 5) (ws' := [(a, .inr (0, [.null, .null, .null, .null, .int falls, .int tears, .null, .int typed, .int place, .null, .null, .null, .null, .int isKept, .null, .null])), (q1, .inl (X.E 5, 5, .inr (.inr (.inr (.inr (va_up (va_up (va_up (va_up (va_up (fun _ => none) (0 : Int32).toNatClampNeg (some q2)) (1 : Int32).toNatClampNeg (some q4)) (2 : Int32).toNatClampNeg (some q6)) (3 : Int32).toNatClampNeg (some q8)) (4 : Int32).toNatClampNeg (some q10))))))), (q2, .inr (1, [])), (q4, .inr (2, [])), (q6, .inr (3, [])), (q8, .inr (4, [])), (q10, .inr (5, []))]) h 1 6 rfl rfl q214 rfl rfl (by decide) rfl dX0_init_58 ?_
  refine g_putF (ci := 0) (ty := tyX0 0) (ws' := [(a, .inr (0, [.ref q1, .null, .null, .null, .int falls, .int tears, .null, .int typed, .int place, .null, .null, .null, .null, .int isKept, .null, .null])), (q1, .inl (X.E 5, 5, .inr (.inr (.inr (.inr (va_up (va_up (va_up (va_up (va_up (fun _ => none) (0 : Int32).toNatClampNeg (some q2)) (1 : Int32).toNatClampNeg (some q4)) (2 : Int32).toNatClampNeg (some q6)) (3 : Int32).toNatClampNeg (some q8)) (4 : Int32).toNatClampNeg (some q10))))))), (q2, .inr (1, [])), (q4, .inr (2, [])), (q6, .inr (3, [])), (q8, .inr (4, [])), (q10, .inr (5, []))]) h in_X0 tyX0 tyX0_ok nmX0 hnm 0 0 rfl rfl (fle rfl) ⟨rfl, rfl, rfl⟩ q1111 rfl rfl rfl (fle rfl) rfl dX0_init_59 ?_
  refine g_aload_n h 0 dX0_init_62 rfl rfl ?_
  refine g_new (ci := 6) (fs := [.null, .null, .null, .null, .null, .null, .null, .int 0, .int 0, .int 0, .int 0, .int 0, .int 0, .null]) h hR in_X6 tyX6 tyX6_ok q544 q149 q76 rfl df_X6 (fle rfl) (fle rfl) dX0_init_63 (fun q12 => ?_)
  refine G.sub (ws' := [(a, .inr (0, [.ref q1, .null, .null, .null, .int falls, .int tears, .null, .int typed, .int place, .null, .null, .null, .null, .int isKept, .null, .null])), (q1, .inl (X.E 5, 5, .inr (.inr (.inr (.inr (va_up (va_up (va_up (va_up (va_up (fun _ => none) (0 : Int32).toNatClampNeg (some q2)) (1 : Int32).toNatClampNeg (some q4)) (2 : Int32).toNatClampNeg (some q6)) (3 : Int32).toNatClampNeg (some q8)) (4 : Int32).toNatClampNeg (some q10))))))), (q2, .inr (1, [])), (q4, .inr (2, [])), (q6, .inr (3, [])), (q8, .inr (4, [])), (q10, .inr (5, [])), (q12, .inr (6, [.null, .null, .null, .null, .null, .null, .null, .int 0, .int 0, .int 0, .int 0, .int 0, .int 0, .null]))]) [0, 1, 2, 3, 4, 5, 6, 7] rfl rfl ?_
  refine g_dup h dX0_init_66 rfl ?_
  refine g_aload_n h 0 dX0_init_67 rfl rfl ?_
  obtain ⟨u_13, hv, hf⟩ := ob1 hf
  refine g_callIN (n := 1) (As := [.ref a]) (st := [.ref q12, .ref a]) (wr := [(a, .inr (0, [.ref q1, .null, .null, .null, .int falls, .int tears, .null, .int typed, .int place, .null, .null, .null, .null, .int isKept, .null, .null])), (q1, .inl (X.E 5, 5, .inr (.inr (.inr (.inr (va_up (va_up (va_up (va_up (va_up (fun _ => none) (0 : Int32).toNatClampNeg (some q2)) (1 : Int32).toNatClampNeg (some q4)) (2 : Int32).toNatClampNeg (some q6)) (3 : Int32).toNatClampNeg (some q8)) (4 : Int32).toNatClampNeg (some q10))))))), (q2, .inr (1, [])), (q4, .inr (2, [])), (q6, .inr (3, [])), (q8, .inr (4, [])), (q10, .inr (5, []))]) (isC := [7]) (isR := [0, 1, 2, 3, 4, 5, 6]) h hR (ct_X6_init (a := q12) (a_t1 := a) (n := 0) (holders := 0) (cuts := 0) (hour := 0) (bears := 0) (draw := 0) hv) q547 q76 q545 q546 rfl (by decide +kernel) rfl ⟨rfl, rfl, rfl, rfl, by decide⟩ ⟨fle rfl, fle rfl, fle rfl, fle rfl, fle rfl⟩ rfl dX0_init_68 ?_
  rintro _ _ ⟨q14, q15, q16, q17, q18, q19, q20, rfl, rfl⟩
  refine pin0 ?_
  refine G.sub (ws' := [(a, .inr (0, [.ref q1, .null, .null, .null, .int falls, .int tears, .null, .int typed, .int place, .null, .null, .null, .null, .int isKept, .null, .null])), (q1, .inl (X.E 5, 5, .inr (.inr (.inr (.inr (va_up (va_up (va_up (va_up (va_up (fun _ => none) (0 : Int32).toNatClampNeg (some q2)) (1 : Int32).toNatClampNeg (some q4)) (2 : Int32).toNatClampNeg (some q6)) (3 : Int32).toNatClampNeg (some q8)) (4 : Int32).toNatClampNeg (some q10))))))), (q2, .inr (1, [])), (q4, .inr (2, [])), (q6, .inr (3, [])), (q8, .inr (4, [])), (q10, .inr (5, [])), (q12, .inr (6, [.ref q14, .ref q15, .ref q16, .ref q17, .ref q18, .ref q19, .ref q20, .int 0, .int 0, .int 0, .int 0, .int 0, .int 0, .ref a])), (q14, .inl (X.E 0, 8, .inl (fun _ => 0))), (q15, .inl (X.E 0, 8, .inl (fun _ => 0))), (q16, .inl (X.E 0, 8, .inl (fun _ => 0))), (q17, .inl (X.E 0, 8, .inl (fun _ => 0))), (q18, .inl (X.E 0, 8, .inl (fun _ => 0))), (q19, .inl (X.E 1, 8, .inl (fun _ => 0))), (q20, .inl (X.E 1, 8, .inl (fun _ => 0)))]) [0, 1, 2, 3, 4, 5, 6, 7, 8, 9, 10, 11, 12, 13, 14] rfl rfl ?_
  clear hv
  refine g_putF (ci := 0) (ty := tyX0 1) (ws' := [(a, .inr (0, [.ref q1, .ref q12, .null, .null, .int falls, .int tears, .null, .int typed, .int place, .null, .null, .null, .null, .int isKept, .null, .null])), (q1, .inl (X.E 5, 5, .inr (.inr (.inr (.inr (va_up (va_up (va_up (va_up (va_up (fun _ => none) (0 : Int32).toNatClampNeg (some q2)) (1 : Int32).toNatClampNeg (some q4)) (2 : Int32).toNatClampNeg (some q6)) (3 : Int32).toNatClampNeg (some q8)) (4 : Int32).toNatClampNeg (some q10))))))), (q2, .inr (1, [])), (q4, .inr (2, [])), (q6, .inr (3, [])), (q8, .inr (4, [])), (q10, .inr (5, [])), (q12, .inr (6, [.ref q14, .ref q15, .ref q16, .ref q17, .ref q18, .ref q19, .ref q20, .int 0, .int 0, .int 0, .int 0, .int 0, .int 0, .ref a])), (q14, .inl (X.E 0, 8, .inl (fun _ => 0))), (q15, .inl (X.E 0, 8, .inl (fun _ => 0))), (q16, .inl (X.E 0, 8, .inl (fun _ => 0))), (q17, .inl (X.E 0, 8, .inl (fun _ => 0))), (q18, .inl (X.E 0, 8, .inl (fun _ => 0))), (q19, .inl (X.E 1, 8, .inl (fun _ => 0))), (q20, .inl (X.E 1, 8, .inl (fun _ => 0)))]) h in_X0 tyX0 tyX0_ok nmX0 hnm 0 1 rfl rfl (fle rfl) ⟨rfl, rfl, rfl⟩ q1112 rfl rfl rfl (fle rfl) rfl dX0_init_71 ?_
  refine g_aload_n h 0 dX0_init_74 rfl rfl ?_
  refine g_new (ci := 6) (fs := [.null, .null, .null, .null, .null, .null, .null, .int 0, .int 0, .int 0, .int 0, .int 0, .int 0, .null]) h hR in_X6 tyX6 tyX6_ok q544 q149 q76 rfl df_X6 (fle rfl) (fle rfl) dX0_init_75 (fun q21 => ?_)
  refine G.sub (ws' := [(a, .inr (0, [.ref q1, .ref q12, .null, .null, .int falls, .int tears, .null, .int typed, .int place, .null, .null, .null, .null, .int isKept, .null, .null])), (q1, .inl (X.E 5, 5, .inr (.inr (.inr (.inr (va_up (va_up (va_up (va_up (va_up (fun _ => none) (0 : Int32).toNatClampNeg (some q2)) (1 : Int32).toNatClampNeg (some q4)) (2 : Int32).toNatClampNeg (some q6)) (3 : Int32).toNatClampNeg (some q8)) (4 : Int32).toNatClampNeg (some q10))))))), (q2, .inr (1, [])), (q4, .inr (2, [])), (q6, .inr (3, [])), (q8, .inr (4, [])), (q10, .inr (5, [])), (q12, .inr (6, [.ref q14, .ref q15, .ref q16, .ref q17, .ref q18, .ref q19, .ref q20, .int 0, .int 0, .int 0, .int 0, .int 0, .int 0, .ref a])), (q14, .inl (X.E 0, 8, .inl (fun _ => 0))), (q15, .inl (X.E 0, 8, .inl (fun _ => 0))), (q16, .inl (X.E 0, 8, .inl (fun _ => 0))), (q17, .inl (X.E 0, 8, .inl (fun _ => 0))), (q18, .inl (X.E 0, 8, .inl (fun _ => 0))), (q19, .inl (X.E 1, 8, .inl (fun _ => 0))), (q20, .inl (X.E 1, 8, .inl (fun _ => 0))), (q21, .inr (6, [.null, .null, .null, .null, .null, .null, .null, .int 0, .int 0, .int 0, .int 0, .int 0, .int 0, .null]))]) [0, 1, 2, 3, 4, 5, 6, 7, 8, 9, 10, 11, 12, 13, 14, 15] rfl rfl ?_
  refine g_dup h dX0_init_78 rfl ?_
  refine g_aload_n h 0 dX0_init_79 rfl rfl ?_
  obtain ⟨u_22, hv, hf⟩ := ob1 hf
  refine g_callIN (n := 1) (As := [.ref a]) (st := [.ref q21, .ref a]) (wr := [(a, .inr (0, [.ref q1, .ref q12, .null, .null, .int falls, .int tears, .null, .int typed, .int place, .null, .null, .null, .null, .int isKept, .null, .null])), (q1, .inl (X.E 5, 5, .inr (.inr (.inr (.inr (va_up (va_up (va_up (va_up (va_up (fun _ => none) (0 : Int32).toNatClampNeg (some q2)) (1 : Int32).toNatClampNeg (some q4)) (2 : Int32).toNatClampNeg (some q6)) (3 : Int32).toNatClampNeg (some q8)) (4 : Int32).toNatClampNeg (some q10))))))), (q2, .inr (1, [])), (q4, .inr (2, [])), (q6, .inr (3, [])), (q8, .inr (4, [])), (q10, .inr (5, [])), (q12, .inr (6, [.ref q14, .ref q15, .ref q16, .ref q17, .ref q18, .ref q19, .ref q20, .int 0, .int 0, .int 0, .int 0, .int 0, .int 0, .ref a])), (q14, .inl (X.E 0, 8, .inl (fun _ => 0))), (q15, .inl (X.E 0, 8, .inl (fun _ => 0))), (q16, .inl (X.E 0, 8, .inl (fun _ => 0))), (q17, .inl (X.E 0, 8, .inl (fun _ => 0))), (q18, .inl (X.E 0, 8, .inl (fun _ => 0))), (q19, .inl (X.E 1, 8, .inl (fun _ => 0))), (q20, .inl (X.E 1, 8, .inl (fun _ => 0)))]) (isC := [15]) (isR := [0, 1, 2, 3, 4, 5, 6, 7, 8, 9, 10, 11, 12, 13, 14]) h hR (ct_X6_init (a := q21) (a_t1 := a) (n := 0) (holders := 0) (cuts := 0) (hour := 0) (bears := 0) (draw := 0) hv) q547 q76 q545 q546 rfl (by decide +kernel) rfl ⟨rfl, rfl, rfl, rfl, by decide⟩ ⟨fle rfl, fle rfl, fle rfl, fle rfl, fle rfl⟩ rfl dX0_init_80 ?_
  rintro _ _ ⟨q23, q24, q25, q26, q27, q28, q29, rfl, rfl⟩
  refine pin0 ?_
  refine G.sub (ws' := [(a, .inr (0, [.ref q1, .ref q12, .null, .null, .int falls, .int tears, .null, .int typed, .int place, .null, .null, .null, .null, .int isKept, .null, .null])), (q1, .inl (X.E 5, 5, .inr (.inr (.inr (.inr (va_up (va_up (va_up (va_up (va_up (fun _ => none) (0 : Int32).toNatClampNeg (some q2)) (1 : Int32).toNatClampNeg (some q4)) (2 : Int32).toNatClampNeg (some q6)) (3 : Int32).toNatClampNeg (some q8)) (4 : Int32).toNatClampNeg (some q10))))))), (q2, .inr (1, [])), (q4, .inr (2, [])), (q6, .inr (3, [])), (q8, .inr (4, [])), (q10, .inr (5, [])), (q12, .inr (6, [.ref q14, .ref q15, .ref q16, .ref q17, .ref q18, .ref q19, .ref q20, .int 0, .int 0, .int 0, .int 0, .int 0, .int 0, .ref a])), (q14, .inl (X.E 0, 8, .inl (fun _ => 0))), (q15, .inl (X.E 0, 8, .inl (fun _ => 0))), (q16, .inl (X.E 0, 8, .inl (fun _ => 0))), (q17, .inl (X.E 0, 8, .inl (fun _ => 0))), (q18, .inl (X.E 0, 8, .inl (fun _ => 0))), (q19, .inl (X.E 1, 8, .inl (fun _ => 0))), (q20, .inl (X.E 1, 8, .inl (fun _ => 0))), (q21, .inr (6, [.ref q23, .ref q24, .ref q25, .ref q26, .ref q27, .ref q28, .ref q29, .int 0, .int 0, .int 0, .int 0, .int 0, .int 0, .ref a])), (q23, .inl (X.E 0, 8, .inl (fun _ => 0))), (q24, .inl (X.E 0, 8, .inl (fun _ => 0))), (q25, .inl (X.E 0, 8, .inl (fun _ => 0))), (q26, .inl (X.E 0, 8, .inl (fun _ => 0))), (q27, .inl (X.E 0, 8, .inl (fun _ => 0))), (q28, .inl (X.E 1, 8, .inl (fun _ => 0))), (q29, .inl (X.E 1, 8, .inl (fun _ => 0)))]) [0, 1, 2, 3, 4, 5, 6, 7, 8, 9, 10, 11, 12, 13, 14, 15, 16, 17, 18, 19, 20, 21, 22] rfl rfl ?_
  clear hv
  refine g_putF (ci := 0) (ty := tyX0 2) (ws' := [(a, .inr (0, [.ref q1, .ref q12, .ref q21, .null, .int falls, .int tears, .null, .int typed, .int place, .null, .null, .null, .null, .int isKept, .null, .null])), (q1, .inl (X.E 5, 5, .inr (.inr (.inr (.inr (va_up (va_up (va_up (va_up (va_up (fun _ => none) (0 : Int32).toNatClampNeg (some q2)) (1 : Int32).toNatClampNeg (some q4)) (2 : Int32).toNatClampNeg (some q6)) (3 : Int32).toNatClampNeg (some q8)) (4 : Int32).toNatClampNeg (some q10))))))), (q2, .inr (1, [])), (q4, .inr (2, [])), (q6, .inr (3, [])), (q8, .inr (4, [])), (q10, .inr (5, [])), (q12, .inr (6, [.ref q14, .ref q15, .ref q16, .ref q17, .ref q18, .ref q19, .ref q20, .int 0, .int 0, .int 0, .int 0, .int 0, .int 0, .ref a])), (q14, .inl (X.E 0, 8, .inl (fun _ => 0))), (q15, .inl (X.E 0, 8, .inl (fun _ => 0))), (q16, .inl (X.E 0, 8, .inl (fun _ => 0))), (q17, .inl (X.E 0, 8, .inl (fun _ => 0))), (q18, .inl (X.E 0, 8, .inl (fun _ => 0))), (q19, .inl (X.E 1, 8, .inl (fun _ => 0))), (q20, .inl (X.E 1, 8, .inl (fun _ => 0))), (q21, .inr (6, [.ref q23, .ref q24, .ref q25, .ref q26, .ref q27, .ref q28, .ref q29, .int 0, .int 0, .int 0, .int 0, .int 0, .int 0, .ref a])), (q23, .inl (X.E 0, 8, .inl (fun _ => 0))), (q24, .inl (X.E 0, 8, .inl (fun _ => 0))), (q25, .inl (X.E 0, 8, .inl (fun _ => 0))), (q26, .inl (X.E 0, 8, .inl (fun _ => 0))), (q27, .inl (X.E 0, 8, .inl (fun _ => 0))), (q28, .inl (X.E 1, 8, .inl (fun _ => 0))), (q29, .inl (X.E 1, 8, .inl (fun _ => 0)))]) h in_X0 tyX0 tyX0_ok nmX0 hnm 0 2 rfl rfl (fle rfl) ⟨rfl, rfl, rfl⟩ q1113 rfl rfl rfl (fle rfl) rfl dX0_init_83 ?_
  refine g_aload_n h 0 dX0_init_86 rfl rfl ?_
  refine g_bipush (v := 8) h dX0_init_87 kbipush_8 ?_
  refine g_newa (at0 := .int) (ty := .int) (n := 8) (N := 8) (t0 := 1) (a0 := (8, .inl (fun _ => 0))) h hR q605 rfl rfl rfl (fun _ => rfl) (by decide) (by decide) (by decide) (fle rfl) (fle rfl) dX0_init_89 (fun q30 => ?_)
  refine G.sub (ws' := [(a, .inr (0, [.ref q1, .ref q12, .ref q21, .null, .int falls, .int tears, .null, .int typed, .int place, .null, .null, .null, .null, .int isKept, .null, .null])), (q1, .inl (X.E 5, 5, .inr (.inr (.inr (.inr (va_up (va_up (va_up (va_up (va_up (fun _ => none) (0 : Int32).toNatClampNeg (some q2)) (1 : Int32).toNatClampNeg (some q4)) (2 : Int32).toNatClampNeg (some q6)) (3 : Int32).toNatClampNeg (some q8)) (4 : Int32).toNatClampNeg (some q10))))))), (q2, .inr (1, [])), (q4, .inr (2, [])), (q6, .inr (3, [])), (q8, .inr (4, [])), (q10, .inr (5, [])), (q12, .inr (6, [.ref q14, .ref q15, .ref q16, .ref q17, .ref q18, .ref q19, .ref q20, .int 0, .int 0, .int 0, .int 0, .int 0, .int 0, .ref a])), (q14, .inl (X.E 0, 8, .inl (fun _ => 0))), (q15, .inl (X.E 0, 8, .inl (fun _ => 0))), (q16, .inl (X.E 0, 8, .inl (fun _ => 0))), (q17, .inl (X.E 0, 8, .inl (fun _ => 0))), (q18, .inl (X.E 0, 8, .inl (fun _ => 0))), (q19, .inl (X.E 1, 8, .inl (fun _ => 0))), (q20, .inl (X.E 1, 8, .inl (fun _ => 0))), (q21, .inr (6, [.ref q23, .ref q24, .ref q25, .ref q26, .ref q27, .ref q28, .ref q29, .int 0, .int 0, .int 0, .int 0, .int 0, .int 0, .ref a])), (q23, .inl (X.E 0, 8, .inl (fun _ => 0))), (q24, .inl (X.E 0, 8, .inl (fun _ => 0))), (q25, .inl (X.E 0, 8, .inl (fun _ => 0))), (q26, .inl (X.E 0, 8, .inl (fun _ => 0))), (q27, .inl (X.E 0, 8, .inl (fun _ => 0))), (q28, .inl (X.E 1, 8, .inl (fun _ => 0))), (q29, .inl (X.E 1, 8, .inl (fun _ => 0))), (q30, .inl (X.E 1, 8, .inl (fun _ => 0)))]) [0, 1, 2, 3, 4, 5, 6, 7, 8, 9, 10, 11, 12, 13, 14, 15, 16, 17, 18, 19, 20, 21, 22, 23] rfl rfl ?_
  refine g_putF (ci := 0) (ty := tyX0 3) (ws' := [(a, .inr (0, [.ref q1, .ref q12, .ref q21, .ref q30, .int falls, .int tears, .null, .int typed, .int place, .null, .null, .null, .null, .int isKept, .null, .null])), (q1, .inl (X.E 5, 5, .inr (.inr (.inr (.inr (va_up (va_up (va_up (va_up (va_up (fun _ => none) (0 : Int32).toNatClampNeg (some q2)) (1 : Int32).toNatClampNeg (some q4)) (2 : Int32).toNatClampNeg (some q6)) (3 : Int32).toNatClampNeg (some q8)) (4 : Int32).toNatClampNeg (some q10))))))), (q2, .inr (1, [])), (q4, .inr (2, [])), (q6, .inr (3, [])), (q8, .inr (4, [])), (q10, .inr (5, [])), (q12, .inr (6, [.ref q14, .ref q15, .ref q16, .ref q17, .ref q18, .ref q19, .ref q20, .int 0, .int 0, .int 0, .int 0, .int 0, .int 0, .ref a])), (q14, .inl (X.E 0, 8, .inl (fun _ => 0))), (q15, .inl (X.E 0, 8, .inl (fun _ => 0))), (q16, .inl (X.E 0, 8, .inl (fun _ => 0))), (q17, .inl (X.E 0, 8, .inl (fun _ => 0))), (q18, .inl (X.E 0, 8, .inl (fun _ => 0))), (q19, .inl (X.E 1, 8, .inl (fun _ => 0))), (q20, .inl (X.E 1, 8, .inl (fun _ => 0))), (q21, .inr (6, [.ref q23, .ref q24, .ref q25, .ref q26, .ref q27, .ref q28, .ref q29, .int 0, .int 0, .int 0, .int 0, .int 0, .int 0, .ref a])), (q23, .inl (X.E 0, 8, .inl (fun _ => 0))), (q24, .inl (X.E 0, 8, .inl (fun _ => 0))), (q25, .inl (X.E 0, 8, .inl (fun _ => 0))), (q26, .inl (X.E 0, 8, .inl (fun _ => 0))), (q27, .inl (X.E 0, 8, .inl (fun _ => 0))), (q28, .inl (X.E 1, 8, .inl (fun _ => 0))), (q29, .inl (X.E 1, 8, .inl (fun _ => 0))), (q30, .inl (X.E 1, 8, .inl (fun _ => 0)))]) h in_X0 tyX0 tyX0_ok nmX0 hnm 0 3 rfl rfl (fle rfl) ⟨rfl, rfl, rfl⟩ q1114 rfl rfl rfl (fle rfl) rfl dX0_init_91 ?_
  refine g_aload_n h 0 dX0_init_94 rfl rfl ?_
  refine g_bipush (v := 90) h dX0_init_95 kbipush_90 ?_
  refine g_newa (at0 := .byte) (ty := .byte) (n := 90) (N := 90) (t0 := 0) (a0 := (90, .inl (fun _ => 0))) h hR q520 rfl rfl rfl (fun _ => rfl) (by decide) (by decide) (by decide) (fle rfl) (fle rfl) dX0_init_97 (fun q31 => ?_)
  refine G.sub (ws' := [(a, .inr (0, [.ref q1, .ref q12, .ref q21, .ref q30, .int falls, .int tears, .null, .int typed, .int place, .null, .null, .null, .null, .int isKept, .null, .null])), (q1, .inl (X.E 5, 5, .inr (.inr (.inr (.inr (va_up (va_up (va_up (va_up (va_up (fun _ => none) (0 : Int32).toNatClampNeg (some q2)) (1 : Int32).toNatClampNeg (some q4)) (2 : Int32).toNatClampNeg (some q6)) (3 : Int32).toNatClampNeg (some q8)) (4 : Int32).toNatClampNeg (some q10))))))), (q2, .inr (1, [])), (q4, .inr (2, [])), (q6, .inr (3, [])), (q8, .inr (4, [])), (q10, .inr (5, [])), (q12, .inr (6, [.ref q14, .ref q15, .ref q16, .ref q17, .ref q18, .ref q19, .ref q20, .int 0, .int 0, .int 0, .int 0, .int 0, .int 0, .ref a])), (q14, .inl (X.E 0, 8, .inl (fun _ => 0))), (q15, .inl (X.E 0, 8, .inl (fun _ => 0))), (q16, .inl (X.E 0, 8, .inl (fun _ => 0))), (q17, .inl (X.E 0, 8, .inl (fun _ => 0))), (q18, .inl (X.E 0, 8, .inl (fun _ => 0))), (q19, .inl (X.E 1, 8, .inl (fun _ => 0))), (q20, .inl (X.E 1, 8, .inl (fun _ => 0))), (q21, .inr (6, [.ref q23, .ref q24, .ref q25, .ref q26, .ref q27, .ref q28, .ref q29, .int 0, .int 0, .int 0, .int 0, .int 0, .int 0, .ref a])), (q23, .inl (X.E 0, 8, .inl (fun _ => 0))), (q24, .inl (X.E 0, 8, .inl (fun _ => 0))), (q25, .inl (X.E 0, 8, .inl (fun _ => 0))), (q26, .inl (X.E 0, 8, .inl (fun _ => 0))), (q27, .inl (X.E 0, 8, .inl (fun _ => 0))), (q28, .inl (X.E 1, 8, .inl (fun _ => 0))), (q29, .inl (X.E 1, 8, .inl (fun _ => 0))), (q30, .inl (X.E 1, 8, .inl (fun _ => 0))), (q31, .inl (X.E 0, 90, .inl (fun _ => 0)))]) [0, 1, 2, 3, 4, 5, 6, 7, 8, 9, 10, 11, 12, 13, 14, 15, 16, 17, 18, 19, 20, 21, 22, 23, 24] rfl rfl ?_
  refine g_putF (ci := 0) (ty := tyX0 6) (ws' := [(a, .inr (0, [.ref q1, .ref q12, .ref q21, .ref q30, .int falls, .int tears, .ref q31, .int typed, .int place, .null, .null, .null, .null, .int isKept, .null, .null])), (q1, .inl (X.E 5, 5, .inr (.inr (.inr (.inr (va_up (va_up (va_up (va_up (va_up (fun _ => none) (0 : Int32).toNatClampNeg (some q2)) (1 : Int32).toNatClampNeg (some q4)) (2 : Int32).toNatClampNeg (some q6)) (3 : Int32).toNatClampNeg (some q8)) (4 : Int32).toNatClampNeg (some q10))))))), (q2, .inr (1, [])), (q4, .inr (2, [])), (q6, .inr (3, [])), (q8, .inr (4, [])), (q10, .inr (5, [])), (q12, .inr (6, [.ref q14, .ref q15, .ref q16, .ref q17, .ref q18, .ref q19, .ref q20, .int 0, .int 0, .int 0, .int 0, .int 0, .int 0, .ref a])), (q14, .inl (X.E 0, 8, .inl (fun _ => 0))), (q15, .inl (X.E 0, 8, .inl (fun _ => 0))), (q16, .inl (X.E 0, 8, .inl (fun _ => 0))), (q17, .inl (X.E 0, 8, .inl (fun _ => 0))), (q18, .inl (X.E 0, 8, .inl (fun _ => 0))), (q19, .inl (X.E 1, 8, .inl (fun _ => 0))), (q20, .inl (X.E 1, 8, .inl (fun _ => 0))), (q21, .inr (6, [.ref q23, .ref q24, .ref q25, .ref q26, .ref q27, .ref q28, .ref q29, .int 0, .int 0, .int 0, .int 0, .int 0, .int 0, .ref a])), (q23, .inl (X.E 0, 8, .inl (fun _ => 0))), (q24, .inl (X.E 0, 8, .inl (fun _ => 0))), (q25, .inl (X.E 0, 8, .inl (fun _ => 0))), (q26, .inl (X.E 0, 8, .inl (fun _ => 0))), (q27, .inl (X.E 0, 8, .inl (fun _ => 0))), (q28, .inl (X.E 1, 8, .inl (fun _ => 0))), (q29, .inl (X.E 1, 8, .inl (fun _ => 0))), (q30, .inl (X.E 1, 8, .inl (fun _ => 0))), (q31, .inl (X.E 0, 90, .inl (fun _ => 0)))]) h in_X0 tyX0 tyX0_ok nmX0 hnm 0 6 rfl rfl (fle rfl) ⟨rfl, rfl, rfl⟩ q1117 rfl rfl rfl (fle rfl) rfl dX0_init_99 ?_
  refine g_aload_n h 0 dX0_init_102 rfl rfl ?_
  refine g_bipush (v := 40) h dX0_init_103 kbipush_40 ?_
  refine g_newa (at0 := .int) (ty := .int) (n := 40) (N := 40) (t0 := 1) (a0 := (40, .inl (fun _ => 0))) h hR q605 rfl rfl rfl (fun _ => rfl) (by decide) (by decide) (by decide) (fle rfl) (fle rfl) dX0_init_105 (fun q32 => ?_)
  refine G.sub (ws' := [(a, .inr (0, [.ref q1, .ref q12, .ref q21, .ref q30, .int falls, .int tears, .ref q31, .int typed, .int place, .null, .null, .null, .null, .int isKept, .null, .null])), (q1, .inl (X.E 5, 5, .inr (.inr (.inr (.inr (va_up (va_up (va_up (va_up (va_up (fun _ => none) (0 : Int32).toNatClampNeg (some q2)) (1 : Int32).toNatClampNeg (some q4)) (2 : Int32).toNatClampNeg (some q6)) (3 : Int32).toNatClampNeg (some q8)) (4 : Int32).toNatClampNeg (some q10))))))), (q2, .inr (1, [])), (q4, .inr (2, [])), (q6, .inr (3, [])), (q8, .inr (4, [])), (q10, .inr (5, [])), (q12, .inr (6, [.ref q14, .ref q15, .ref q16, .ref q17, .ref q18, .ref q19, .ref q20, .int 0, .int 0, .int 0, .int 0, .int 0, .int 0, .ref a])), (q14, .inl (X.E 0, 8, .inl (fun _ => 0))), (q15, .inl (X.E 0, 8, .inl (fun _ => 0))), (q16, .inl (X.E 0, 8, .inl (fun _ => 0))), (q17, .inl (X.E 0, 8, .inl (fun _ => 0))), (q18, .inl (X.E 0, 8, .inl (fun _ => 0))), (q19, .inl (X.E 1, 8, .inl (fun _ => 0))), (q20, .inl (X.E 1, 8, .inl (fun _ => 0))), (q21, .inr (6, [.ref q23, .ref q24, .ref q25, .ref q26, .ref q27, .ref q28, .ref q29, .int 0, .int 0, .int 0, .int 0, .int 0, .int 0, .ref a])), (q23, .inl (X.E 0, 8, .inl (fun _ => 0))), (q24, .inl (X.E 0, 8, .inl (fun _ => 0))), (q25, .inl (X.E 0, 8, .inl (fun _ => 0))), (q26, .inl (X.E 0, 8, .inl (fun _ => 0))), (q27, .inl (X.E 0, 8, .inl (fun _ => 0))), (q28, .inl (X.E 1, 8, .inl (fun _ => 0))), (q29, .inl (X.E 1, 8, .inl (fun _ => 0))), (q30, .inl (X.E 1, 8, .inl (fun _ => 0))), (q31, .inl (X.E 0, 90, .inl (fun _ => 0))), (q32, .inl (X.E 1, 40, .inl (fun _ => 0)))]) [0, 1, 2, 3, 4, 5, 6, 7, 8, 9, 10, 11, 12, 13, 14, 15, 16, 17, 18, 19, 20, 21, 22, 23, 24, 25] rfl rfl ?_
  refine g_putF (ci := 0) (ty := tyX0 9) (ws' := [(a, .inr (0, [.ref q1, .ref q12, .ref q21, .ref q30, .int falls, .int tears, .ref q31, .int typed, .int place, .ref q32, .null, .null, .null, .int isKept, .null, .null])), (q1, .inl (X.E 5, 5, .inr (.inr (.inr (.inr (va_up (va_up (va_up (va_up (va_up (fun _ => none) (0 : Int32).toNatClampNeg (some q2)) (1 : Int32).toNatClampNeg (some q4)) (2 : Int32).toNatClampNeg (some q6)) (3 : Int32).toNatClampNeg (some q8)) (4 : Int32).toNatClampNeg (some q10))))))), (q2, .inr (1, [])), (q4, .inr (2, [])), (q6, .inr (3, [])), (q8, .inr (4, [])), (q10, .inr (5, [])), (q12, .inr (6, [.ref q14, .ref q15, .ref q16, .ref q17, .ref q18, .ref q19, .ref q20, .int 0, .int 0, .int 0, .int 0, .int 0, .int 0, .ref a])), (q14, .inl (X.E 0, 8, .inl (fun _ => 0))), (q15, .inl (X.E 0, 8, .inl (fun _ => 0))), (q16, .inl (X.E 0, 8, .inl (fun _ => 0))), (q17, .inl (X.E 0, 8, .inl (fun _ => 0))), (q18, .inl (X.E 0, 8, .inl (fun _ => 0))), (q19, .inl (X.E 1, 8, .inl (fun _ => 0))), (q20, .inl (X.E 1, 8, .inl (fun _ => 0))), (q21, .inr (6, [.ref q23, .ref q24, .ref q25, .ref q26, .ref q27, .ref q28, .ref q29, .int 0, .int 0, .int 0, .int 0, .int 0, .int 0, .ref a])), (q23, .inl (X.E 0, 8, .inl (fun _ => 0))), (q24, .inl (X.E 0, 8, .inl (fun _ => 0))), (q25, .inl (X.E 0, 8, .inl (fun _ => 0))), (q26, .inl (X.E 0, 8, .inl (fun _ => 0))), (q27, .inl (X.E 0, 8, .inl (fun _ => 0))), (q28, .inl (X.E 1, 8, .inl (fun _ => 0))), (q29, .inl (X.E 1, 8, .inl (fun _ => 0))), (q30, .inl (X.E 1, 8, .inl (fun _ => 0))), (q31, .inl (X.E 0, 90, .inl (fun _ => 0))), (q32, .inl (X.E 1, 40, .inl (fun _ => 0)))]) h in_X0 tyX0 tyX0_ok nmX0 hnm 0 9 rfl rfl (fle rfl) ⟨rfl, rfl, rfl⟩ q1120 rfl rfl rfl (fle rfl) rfl dX0_init_107 ?_
  refine g_aload_n h 0 dX0_init_110 rfl rfl ?_
  refine g_new (ci := 11) (fs := [.null, .int 0, .int 0]) h hR in_J1 tyJ1 tyJ1_ok q1078 q644 q78 rfl df_J1 (fle rfl) (fle rfl) dX0_init_111 (fun q33 => ?_)
  refine G.sub (ws' := [(a, .inr (0, [.ref q1, .ref q12, .ref q21, .ref q30, .int falls, .int tears, .ref q31, .int typed, .int place, .ref q32, .null, .null, .null, .int isKept, .null, .null])), (q1, .inl (X.E 5, 5, .inr (.inr (.inr (.inr (va_up (va_up (va_up (va_up (va_up (fun _ => none) (0 : Int32).toNatClampNeg (some q2)) (1 : Int32).toNatClampNeg (some q4)) (2 : Int32).toNatClampNeg (some q6)) (3 : Int32).toNatClampNeg (some q8)) (4 : Int32).toNatClampNeg (some q10))))))), (q2, .inr (1, [])), (q4, .inr (2, [])), (q6, .inr (3, [])), (q8, .inr (4, [])), (q10, .inr (5, [])), (q12, .inr (6, [.ref q14, .ref q15, .ref q16, .ref q17, .ref q18, .ref q19, .ref q20, .int 0, .int 0, .int 0, .int 0, .int 0, .int 0, .ref a])), (q14, .inl (X.E 0, 8, .inl (fun _ => 0))), (q15, .inl (X.E 0, 8, .inl (fun _ => 0))), (q16, .inl (X.E 0, 8, .inl (fun _ => 0))), (q17, .inl (X.E 0, 8, .inl (fun _ => 0))), (q18, .inl (X.E 0, 8, .inl (fun _ => 0))), (q19, .inl (X.E 1, 8, .inl (fun _ => 0))), (q20, .inl (X.E 1, 8, .inl (fun _ => 0))), (q21, .inr (6, [.ref q23, .ref q24, .ref q25, .ref q26, .ref q27, .ref q28, .ref q29, .int 0, .int 0, .int 0, .int 0, .int 0, .int 0, .ref a])), (q23, .inl (X.E 0, 8, .inl (fun _ => 0))), (q24, .inl (X.E 0, 8, .inl (fun _ => 0))), (q25, .inl (X.E 0, 8, .inl (fun _ => 0))), (q26, .inl (X.E 0, 8, .inl (fun _ => 0))), (q27, .inl (X.E 0, 8, .inl (fun _ => 0))), (q28, .inl (X.E 1, 8, .inl (fun _ => 0))), (q29, .inl (X.E 1, 8, .inl (fun _ => 0))), (q30, .inl (X.E 1, 8, .inl (fun _ => 0))), (q31, .inl (X.E 0, 90, .inl (fun _ => 0))), (q32, .inl (X.E 1, 40, .inl (fun _ => 0))), (q33, .inr (11, [.null, .int 0, .int 0]))]) [0, 1, 2, 3, 4, 5, 6, 7, 8, 9, 10, 11, 12, 13, 14, 15, 16, 17, 18, 19, 20, 21, 22, 23, 24, 25, 26] rfl rfl ?_
  refine g_dup h dX0_init_114 rfl ?_
  obtain ⟨u_34, hv, hf⟩ := ob1 hf
  refine g_callI (n := 0) (As := []) (st := [.ref q33, .ref a]) (wr := [(a, .inr (0, [.ref q1, .ref q12, .ref q21, .ref q30, .int falls, .int tears, .ref q31, .int typed, .int place, .ref q32, .null, .null, .null, .int isKept, .null, .null])), (q1, .inl (X.E 5, 5, .inr (.inr (.inr (.inr (va_up (va_up (va_up (va_up (va_up (fun _ => none) (0 : Int32).toNatClampNeg (some q2)) (1 : Int32).toNatClampNeg (some q4)) (2 : Int32).toNatClampNeg (some q6)) (3 : Int32).toNatClampNeg (some q8)) (4 : Int32).toNatClampNeg (some q10))))))), (q2, .inr (1, [])), (q4, .inr (2, [])), (q6, .inr (3, [])), (q8, .inr (4, [])), (q10, .inr (5, [])), (q12, .inr (6, [.ref q14, .ref q15, .ref q16, .ref q17, .ref q18, .ref q19, .ref q20, .int 0, .int 0, .int 0, .int 0, .int 0, .int 0, .ref a])), (q14, .inl (X.E 0, 8, .inl (fun _ => 0))), (q15, .inl (X.E 0, 8, .inl (fun _ => 0))), (q16, .inl (X.E 0, 8, .inl (fun _ => 0))), (q17, .inl (X.E 0, 8, .inl (fun _ => 0))), (q18, .inl (X.E 0, 8, .inl (fun _ => 0))), (q19, .inl (X.E 1, 8, .inl (fun _ => 0))), (q20, .inl (X.E 1, 8, .inl (fun _ => 0))), (q21, .inr (6, [.ref q23, .ref q24, .ref q25, .ref q26, .ref q27, .ref q28, .ref q29, .int 0, .int 0, .int 0, .int 0, .int 0, .int 0, .ref a])), (q23, .inl (X.E 0, 8, .inl (fun _ => 0))), (q24, .inl (X.E 0, 8, .inl (fun _ => 0))), (q25, .inl (X.E 0, 8, .inl (fun _ => 0))), (q26, .inl (X.E 0, 8, .inl (fun _ => 0))), (q27, .inl (X.E 0, 8, .inl (fun _ => 0))), (q28, .inl (X.E 1, 8, .inl (fun _ => 0))), (q29, .inl (X.E 1, 8, .inl (fun _ => 0))), (q30, .inl (X.E 1, 8, .inl (fun _ => 0))), (q31, .inl (X.E 0, 90, .inl (fun _ => 0))), (q32, .inl (X.E 1, 40, .inl (fun _ => 0)))]) (isC := [26]) (isR := [0, 1, 2, 3, 4, 5, 6, 7, 8, 9, 10, 11, 12, 13, 14, 15, 16, 17, 18, 19, 20, 21, 22, 23, 24, 25]) h hR (ct_J1_init (a := q33) (head := 0) (tail := 0) hv) q1081 q78 q1079 q1080 rfl (by decide +kernel) rfl ⟨rfl, rfl, rfl, rfl, by decide⟩ ⟨fle rfl, fle rfl, fle rfl, fle rfl, fle rfl⟩ rfl dX0_init_115 ?_
  rintro _ _ ⟨q35, rfl, rfl⟩
  refine pin0 ?_
  refine G.sub (ws' := [(a, .inr (0, [.ref q1, .ref q12, .ref q21, .ref q30, .int falls, .int tears, .ref q31, .int typed, .int place, .ref q32, .null, .null, .null, .int isKept, .null, .null])), (q1, .inl (X.E 5, 5, .inr (.inr (.inr (.inr (va_up (va_up (va_up (va_up (va_up (fun _ => none) (0 : Int32).toNatClampNeg (some q2)) (1 : Int32).toNatClampNeg (some q4)) (2 : Int32).toNatClampNeg (some q6)) (3 : Int32).toNatClampNeg (some q8)) (4 : Int32).toNatClampNeg (some q10))))))), (q2, .inr (1, [])), (q4, .inr (2, [])), (q6, .inr (3, [])), (q8, .inr (4, [])), (q10, .inr (5, [])), (q12, .inr (6, [.ref q14, .ref q15, .ref q16, .ref q17, .ref q18, .ref q19, .ref q20, .int 0, .int 0, .int 0, .int 0, .int 0, .int 0, .ref a])), (q14, .inl (X.E 0, 8, .inl (fun _ => 0))), (q15, .inl (X.E 0, 8, .inl (fun _ => 0))), (q16, .inl (X.E 0, 8, .inl (fun _ => 0))), (q17, .inl (X.E 0, 8, .inl (fun _ => 0))), (q18, .inl (X.E 0, 8, .inl (fun _ => 0))), (q19, .inl (X.E 1, 8, .inl (fun _ => 0))), (q20, .inl (X.E 1, 8, .inl (fun _ => 0))), (q21, .inr (6, [.ref q23, .ref q24, .ref q25, .ref q26, .ref q27, .ref q28, .ref q29, .int 0, .int 0, .int 0, .int 0, .int 0, .int 0, .ref a])), (q23, .inl (X.E 0, 8, .inl (fun _ => 0))), (q24, .inl (X.E 0, 8, .inl (fun _ => 0))), (q25, .inl (X.E 0, 8, .inl (fun _ => 0))), (q26, .inl (X.E 0, 8, .inl (fun _ => 0))), (q27, .inl (X.E 0, 8, .inl (fun _ => 0))), (q28, .inl (X.E 1, 8, .inl (fun _ => 0))), (q29, .inl (X.E 1, 8, .inl (fun _ => 0))), (q30, .inl (X.E 1, 8, .inl (fun _ => 0))), (q31, .inl (X.E 0, 90, .inl (fun _ => 0))), (q32, .inl (X.E 1, 40, .inl (fun _ => 0))), (q33, .inr (11, [.ref q35, .int 0, .int 0])), (q35, .inl (X.E 4, 17, .inr (.inr (.inr (.inr (fun _ => none))))))]) [0, 1, 2, 3, 4, 5, 6, 7, 8, 9, 10, 11, 12, 13, 14, 15, 16, 17, 18, 19, 20, 21, 22, 23, 24, 25, 26, 27] rfl rfl ?_
  clear hv
  refine g_putF (ci := 0) (ty := tyX0 10) (ws' := [(a, .inr (0, [.ref q1, .ref q12, .ref q21, .ref q30, .int falls, .int tears, .ref q31, .int typed, .int place, .ref q32, .ref q33, .null, .null, .int isKept, .null, .null])), (q1, .inl (X.E 5, 5, .inr (.inr (.inr (.inr (va_up (va_up (va_up (va_up (va_up (fun _ => none) (0 : Int32).toNatClampNeg (some q2)) (1 : Int32).toNatClampNeg (some q4)) (2 : Int32).toNatClampNeg (some q6)) (3 : Int32).toNatClampNeg (some q8)) (4 : Int32).toNatClampNeg (some q10))))))), (q2, .inr (1, [])), (q4, .inr (2, [])), (q6, .inr (3, [])), (q8, .inr (4, [])), (q10, .inr (5, [])), (q12, .inr (6, [.ref q14, .ref q15, .ref q16, .ref q17, .ref q18, .ref q19, .ref q20, .int 0, .int 0, .int 0, .int 0, .int 0, .int 0, .ref a])), (q14, .inl (X.E 0, 8, .inl (fun _ => 0))), (q15, .inl (X.E 0, 8, .inl (fun _ => 0))), (q16, .inl (X.E 0, 8, .inl (fun _ => 0))), (q17, .inl (X.E 0, 8, .inl (fun _ => 0))), (q18, .inl (X.E 0, 8, .inl (fun _ => 0))), (q19, .inl (X.E 1, 8, .inl (fun _ => 0))), (q20, .inl (X.E 1, 8, .inl (fun _ => 0))), (q21, .inr (6, [.ref q23, .ref q24, .ref q25, .ref q26, .ref q27, .ref q28, .ref q29, .int 0, .int 0, .int 0, .int 0, .int 0, .int 0, .ref a])), (q23, .inl (X.E 0, 8, .inl (fun _ => 0))), (q24, .inl (X.E 0, 8, .inl (fun _ => 0))), (q25, .inl (X.E 0, 8, .inl (fun _ => 0))), (q26, .inl (X.E 0, 8, .inl (fun _ => 0))), (q27, .inl (X.E 0, 8, .inl (fun _ => 0))), (q28, .inl (X.E 1, 8, .inl (fun _ => 0))), (q29, .inl (X.E 1, 8, .inl (fun _ => 0))), (q30, .inl (X.E 1, 8, .inl (fun _ => 0))), (q31, .inl (X.E 0, 90, .inl (fun _ => 0))), (q32, .inl (X.E 1, 40, .inl (fun _ => 0))), (q33, .inr (11, [.ref q35, .int 0, .int 0])), (q35, .inl (X.E 4, 17, .inr (.inr (.inr (.inr (fun _ => none))))))]) h in_X0 tyX0 tyX0_ok nmX0 hnm 0 10 rfl rfl (fle rfl) ⟨rfl, rfl, rfl⟩ q1121 rfl rfl rfl (fle rfl) rfl dX0_init_118 ?_
  refine g_aload_n h 0 dX0_init_121 rfl rfl ?_
  refine g_new (ci := 6) (fs := [.null, .null, .null, .null, .null, .null, .null, .int 0, .int 0, .int 0, .int 0, .int 0, .int 0, .null]) h hR in_X6 tyX6 tyX6_ok q544 q149 q76 rfl df_X6 (fle rfl) (fle rfl) dX0_init_122 (fun q36 => ?_)
  refine G.sub (ws' := [(a, .inr (0, [.ref q1, .ref q12, .ref q21, .ref q30, .int falls, .int tears, .ref q31, .int typed, .int place, .ref q32, .ref q33, .null, .null, .int isKept, .null, .null])), (q1, .inl (X.E 5, 5, .inr (.inr (.inr (.inr (va_up (va_up (va_up (va_up (va_up (fun _ => none) (0 : Int32).toNatClampNeg (some q2)) (1 : Int32).toNatClampNeg (some q4)) (2 : Int32).toNatClampNeg (some q6)) (3 : Int32).toNatClampNeg (some q8)) (4 : Int32).toNatClampNeg (some q10))))))), (q2, .inr (1, [])), (q4, .inr (2, [])), (q6, .inr (3, [])), (q8, .inr (4, [])), (q10, .inr (5, [])), (q12, .inr (6, [.ref q14, .ref q15, .ref q16, .ref q17, .ref q18, .ref q19, .ref q20, .int 0, .int 0, .int 0, .int 0, .int 0, .int 0, .ref a])), (q14, .inl (X.E 0, 8, .inl (fun _ => 0))), (q15, .inl (X.E 0, 8, .inl (fun _ => 0))), (q16, .inl (X.E 0, 8, .inl (fun _ => 0))), (q17, .inl (X.E 0, 8, .inl (fun _ => 0))), (q18, .inl (X.E 0, 8, .inl (fun _ => 0))), (q19, .inl (X.E 1, 8, .inl (fun _ => 0))), (q20, .inl (X.E 1, 8, .inl (fun _ => 0))), (q21, .inr (6, [.ref q23, .ref q24, .ref q25, .ref q26, .ref q27, .ref q28, .ref q29, .int 0, .int 0, .int 0, .int 0, .int 0, .int 0, .ref a])), (q23, .inl (X.E 0, 8, .inl (fun _ => 0))), (q24, .inl (X.E 0, 8, .inl (fun _ => 0))), (q25, .inl (X.E 0, 8, .inl (fun _ => 0))), (q26, .inl (X.E 0, 8, .inl (fun _ => 0))), (q27, .inl (X.E 0, 8, .inl (fun _ => 0))), (q28, .inl (X.E 1, 8, .inl (fun _ => 0))), (q29, .inl (X.E 1, 8, .inl (fun _ => 0))), (q30, .inl (X.E 1, 8, .inl (fun _ => 0))), (q31, .inl (X.E 0, 90, .inl (fun _ => 0))), (q32, .inl (X.E 1, 40, .inl (fun _ => 0))), (q33, .inr (11, [.ref q35, .int 0, .int 0])), (q35, .inl (X.E 4, 17, .inr (.inr (.inr (.inr (fun _ => none)))))), (q36, .inr (6, [.null, .null, .null, .null, .null, .null, .null, .int 0, .int 0, .int 0, .int 0, .int 0, .int 0, .null]))]) [0, 1, 2, 3, 4, 5, 6, 7, 8, 9, 10, 11, 12, 13, 14, 15, 16, 17, 18, 19, 20, 21, 22, 23, 24, 25, 26, 27, 28] rfl rfl ?_
  refine g_dup h dX0_init_125 rfl ?_
  refine g_aload_n h 0 dX0_init_126 rfl rfl ?_
  obtain ⟨u_37, hv, hf⟩ := ob1 hf
  refine g_callIN (n := 1) (As := [.ref a]) (st := [.ref q36, .ref a]) (wr := [(a, .inr (0, [.ref q1, .ref q12, .ref q21, .ref q30, .int falls, .int tears, .ref q31, .int typed, .int place, .ref q32, .ref q33, .null, .null, .int isKept, .null, .null])), (q1, .inl (X.E 5, 5, .inr (.inr (.inr (.inr (va_up (va_up (va_up (va_up (va_up (fun _ => none) (0 : Int32).toNatClampNeg (some q2)) (1 : Int32).toNatClampNeg (some q4)) (2 : Int32).toNatClampNeg (some q6)) (3 : Int32).toNatClampNeg (some q8)) (4 : Int32).toNatClampNeg (some q10))))))), (q2, .inr (1, [])), (q4, .inr (2, [])), (q6, .inr (3, [])), (q8, .inr (4, [])), (q10, .inr (5, [])), (q12, .inr (6, [.ref q14, .ref q15, .ref q16, .ref q17, .ref q18, .ref q19, .ref q20, .int 0, .int 0, .int 0, .int 0, .int 0, .int 0, .ref a])), (q14, .inl (X.E 0, 8, .inl (fun _ => 0))), (q15, .inl (X.E 0, 8, .inl (fun _ => 0))), (q16, .inl (X.E 0, 8, .inl (fun _ => 0))), (q17, .inl (X.E 0, 8, .inl (fun _ => 0))), (q18, .inl (X.E 0, 8, .inl (fun _ => 0))), (q19, .inl (X.E 1, 8, .inl (fun _ => 0))), (q20, .inl (X.E 1, 8, .inl (fun _ => 0))), (q21, .inr (6, [.ref q23, .ref q24, .ref q25, .ref q26, .ref q27, .ref q28, .ref q29, .int 0, .int 0, .int 0, .int 0, .int 0, .int 0, .ref a])), (q23, .inl (X.E 0, 8, .inl (fun _ => 0))), (q24, .inl (X.E 0, 8, .inl (fun _ => 0))), (q25, .inl (X.E 0, 8, .inl (fun _ => 0))), (q26, .inl (X.E 0, 8, .inl (fun _ => 0))), (q27, .inl (X.E 0, 8, .inl (fun _ => 0))), (q28, .inl (X.E 1, 8, .inl (fun _ => 0))), (q29, .inl (X.E 1, 8, .inl (fun _ => 0))), (q30, .inl (X.E 1, 8, .inl (fun _ => 0))), (q31, .inl (X.E 0, 90, .inl (fun _ => 0))), (q32, .inl (X.E 1, 40, .inl (fun _ => 0))), (q33, .inr (11, [.ref q35, .int 0, .int 0])), (q35, .inl (X.E 4, 17, .inr (.inr (.inr (.inr (fun _ => none))))))]) (isC := [28]) (isR := [0, 1, 2, 3, 4, 5, 6, 7, 8, 9, 10, 11, 12, 13, 14, 15, 16, 17, 18, 19, 20, 21, 22, 23, 24, 25, 26, 27]) h hR (ct_X6_init (a := q36) (a_t1 := a) (n := 0) (holders := 0) (cuts := 0) (hour := 0) (bears := 0) (draw := 0) hv) q547 q76 q545 q546 rfl (by decide +kernel) rfl ⟨rfl, rfl, rfl, rfl, by decide⟩ ⟨fle rfl, fle rfl, fle rfl, fle rfl, fle rfl⟩ rfl dX0_init_127 ?_
  rintro _ _ ⟨q38, q39, q40, q41, q42, q43, q44, rfl, rfl⟩
  refine pin0 ?_
  refine G.sub (ws' := [(a, .inr (0, [.ref q1, .ref q12, .ref q21, .ref q30, .int falls, .int tears, .ref q31, .int typed, .int place, .ref q32, .ref q33, .null, .null, .int isKept, .null, .null])), (q1, .inl (X.E 5, 5, .inr (.inr (.inr (.inr (va_up (va_up (va_up (va_up (va_up (fun _ => none) (0 : Int32).toNatClampNeg (some q2)) (1 : Int32).toNatClampNeg (some q4)) (2 : Int32).toNatClampNeg (some q6)) (3 : Int32).toNatClampNeg (some q8)) (4 : Int32).toNatClampNeg (some q10))))))), (q2, .inr (1, [])), (q4, .inr (2, [])), (q6, .inr (3, [])), (q8, .inr (4, [])), (q10, .inr (5, [])), (q12, .inr (6, [.ref q14, .ref q15, .ref q16, .ref q17, .ref q18, .ref q19, .ref q20, .int 0, .int 0, .int 0, .int 0, .int 0, .int 0, .ref a])), (q14, .inl (X.E 0, 8, .inl (fun _ => 0))), (q15, .inl (X.E 0, 8, .inl (fun _ => 0))), (q16, .inl (X.E 0, 8, .inl (fun _ => 0))), (q17, .inl (X.E 0, 8, .inl (fun _ => 0))), (q18, .inl (X.E 0, 8, .inl (fun _ => 0))), (q19, .inl (X.E 1, 8, .inl (fun _ => 0))), (q20, .inl (X.E 1, 8, .inl (fun _ => 0))), (q21, .inr (6, [.ref q23, .ref q24, .ref q25, .ref q26, .ref q27, .ref q28, .ref q29, .int 0, .int 0, .int 0, .int 0, .int 0, .int 0, .ref a])), (q23, .inl (X.E 0, 8, .inl (fun _ => 0))), (q24, .inl (X.E 0, 8, .inl (fun _ => 0))), (q25, .inl (X.E 0, 8, .inl (fun _ => 0))), (q26, .inl (X.E 0, 8, .inl (fun _ => 0))), (q27, .inl (X.E 0, 8, .inl (fun _ => 0))), (q28, .inl (X.E 1, 8, .inl (fun _ => 0))), (q29, .inl (X.E 1, 8, .inl (fun _ => 0))), (q30, .inl (X.E 1, 8, .inl (fun _ => 0))), (q31, .inl (X.E 0, 90, .inl (fun _ => 0))), (q32, .inl (X.E 1, 40, .inl (fun _ => 0))), (q33, .inr (11, [.ref q35, .int 0, .int 0])), (q35, .inl (X.E 4, 17, .inr (.inr (.inr (.inr (fun _ => none)))))), (q36, .inr (6, [.ref q38, .ref q39, .ref q40, .ref q41, .ref q42, .ref q43, .ref q44, .int 0, .int 0, .int 0, .int 0, .int 0, .int 0, .ref a])), (q38, .inl (X.E 0, 8, .inl (fun _ => 0))), (q39, .inl (X.E 0, 8, .inl (fun _ => 0))), (q40, .inl (X.E 0, 8, .inl (fun _ => 0))), (q41, .inl (X.E 0, 8, .inl (fun _ => 0))), (q42, .inl (X.E 0, 8, .inl (fun _ => 0))), (q43, .inl (X.E 1, 8, .inl (fun _ => 0))), (q44, .inl (X.E 1, 8, .inl (fun _ => 0)))]) [0, 1, 2, 3, 4, 5, 6, 7, 8, 9, 10, 11, 12, 13, 14, 15, 16, 17, 18, 19, 20, 21, 22, 23, 24, 25, 26, 27, 28, 29, 30, 31, 32, 33, 34, 35] rfl rfl ?_
  clear hv
  refine g_putF (ci := 0) (ty := tyX0 11) (ws' := [(a, .inr (0, [.ref q1, .ref q12, .ref q21, .ref q30, .int falls, .int tears, .ref q31, .int typed, .int place, .ref q32, .ref q33, .ref q36, .null, .int isKept, .null, .null])), (q1, .inl (X.E 5, 5, .inr (.inr (.inr (.inr (va_up (va_up (va_up (va_up (va_up (fun _ => none) (0 : Int32).toNatClampNeg (some q2)) (1 : Int32).toNatClampNeg (some q4)) (2 : Int32).toNatClampNeg (some q6)) (3 : Int32).toNatClampNeg (some q8)) (4 : Int32).toNatClampNeg (some q10))))))), (q2, .inr (1, [])), (q4, .inr (2, [])), (q6, .inr (3, [])), (q8, .inr (4, [])), (q10, .inr (5, [])), (q12, .inr (6, [.ref q14, .ref q15, .ref q16, .ref q17, .ref q18, .ref q19, .ref q20, .int 0, .int 0, .int 0, .int 0, .int 0, .int 0, .ref a])), (q14, .inl (X.E 0, 8, .inl (fun _ => 0))), (q15, .inl (X.E 0, 8, .inl (fun _ => 0))), (q16, .inl (X.E 0, 8, .inl (fun _ => 0))), (q17, .inl (X.E 0, 8, .inl (fun _ => 0))), (q18, .inl (X.E 0, 8, .inl (fun _ => 0))), (q19, .inl (X.E 1, 8, .inl (fun _ => 0))), (q20, .inl (X.E 1, 8, .inl (fun _ => 0))), (q21, .inr (6, [.ref q23, .ref q24, .ref q25, .ref q26, .ref q27, .ref q28, .ref q29, .int 0, .int 0, .int 0, .int 0, .int 0, .int 0, .ref a])), (q23, .inl (X.E 0, 8, .inl (fun _ => 0))), (q24, .inl (X.E 0, 8, .inl (fun _ => 0))), (q25, .inl (X.E 0, 8, .inl (fun _ => 0))), (q26, .inl (X.E 0, 8, .inl (fun _ => 0))), (q27, .inl (X.E 0, 8, .inl (fun _ => 0))), (q28, .inl (X.E 1, 8, .inl (fun _ => 0))), (q29, .inl (X.E 1, 8, .inl (fun _ => 0))), (q30, .inl (X.E 1, 8, .inl (fun _ => 0))), (q31, .inl (X.E 0, 90, .inl (fun _ => 0))), (q32, .inl (X.E 1, 40, .inl (fun _ => 0))), (q33, .inr (11, [.ref q35, .int 0, .int 0])), (q35, .inl (X.E 4, 17, .inr (.inr (.inr (.inr (fun _ => none)))))), (q36, .inr (6, [.ref q38, .ref q39, .ref q40, .ref q41, .ref q42, .ref q43, .ref q44, .int 0, .int 0, .int 0, .int 0, .int 0, .int 0, .ref a])), (q38, .inl (X.E 0, 8, .inl (fun _ => 0))), (q39, .inl (X.E 0, 8, .inl (fun _ => 0))), (q40, .inl (X.E 0, 8, .inl (fun _ => 0))), (q41, .inl (X.E 0, 8, .inl (fun _ => 0))), (q42, .inl (X.E 0, 8, .inl (fun _ => 0))), (q43, .inl (X.E 1, 8, .inl (fun _ => 0))), (q44, .inl (X.E 1, 8, .inl (fun _ => 0)))]) h in_X0 tyX0 tyX0_ok nmX0 hnm 0 11 rfl rfl (fle rfl) ⟨rfl, rfl, rfl⟩ q1122 rfl rfl rfl (fle rfl) rfl dX0_init_130 ?_
  refine g_aload_n h 0 dX0_init_133 rfl rfl ?_
  refine g_new (ci := 11) (fs := [.null, .int 0, .int 0]) h hR in_J1 tyJ1 tyJ1_ok q1078 q644 q78 rfl df_J1 (fle rfl) (fle rfl) dX0_init_134 (fun q45 => ?_)
  refine G.sub (ws' := [(a, .inr (0, [.ref q1, .ref q12, .ref q21, .ref q30, .int falls, .int tears, .ref q31, .int typed, .int place, .ref q32, .ref q33, .ref q36, .null, .int isKept, .null, .null])), (q1, .inl (X.E 5, 5, .inr (.inr (.inr (.inr (va_up (va_up (va_up (va_up (va_up (fun _ => none) (0 : Int32).toNatClampNeg (some q2)) (1 : Int32).toNatClampNeg (some q4)) (2 : Int32).toNatClampNeg (some q6)) (3 : Int32).toNatClampNeg (some q8)) (4 : Int32).toNatClampNeg (some q10))))))), (q2, .inr (1, [])), (q4, .inr (2, [])), (q6, .inr (3, [])), (q8, .inr (4, [])), (q10, .inr (5, [])), (q12, .inr (6, [.ref q14, .ref q15, .ref q16, .ref q17, .ref q18, .ref q19, .ref q20, .int 0, .int 0, .int 0, .int 0, .int 0, .int 0, .ref a])), (q14, .inl (X.E 0, 8, .inl (fun _ => 0))), (q15, .inl (X.E 0, 8, .inl (fun _ => 0))), (q16, .inl (X.E 0, 8, .inl (fun _ => 0))), (q17, .inl (X.E 0, 8, .inl (fun _ => 0))), (q18, .inl (X.E 0, 8, .inl (fun _ => 0))), (q19, .inl (X.E 1, 8, .inl (fun _ => 0))), (q20, .inl (X.E 1, 8, .inl (fun _ => 0))), (q21, .inr (6, [.ref q23, .ref q24, .ref q25, .ref q26, .ref q27, .ref q28, .ref q29, .int 0, .int 0, .int 0, .int 0, .int 0, .int 0, .ref a])), (q23, .inl (X.E 0, 8, .inl (fun _ => 0))), (q24, .inl (X.E 0, 8, .inl (fun _ => 0))), (q25, .inl (X.E 0, 8, .inl (fun _ => 0))), (q26, .inl (X.E 0, 8, .inl (fun _ => 0))), (q27, .inl (X.E 0, 8, .inl (fun _ => 0))), (q28, .inl (X.E 1, 8, .inl (fun _ => 0))), (q29, .inl (X.E 1, 8, .inl (fun _ => 0))), (q30, .inl (X.E 1, 8, .inl (fun _ => 0))), (q31, .inl (X.E 0, 90, .inl (fun _ => 0))), (q32, .inl (X.E 1, 40, .inl (fun _ => 0))), (q33, .inr (11, [.ref q35, .int 0, .int 0])), (q35, .inl (X.E 4, 17, .inr (.inr (.inr (.inr (fun _ => none)))))), (q36, .inr (6, [.ref q38, .ref q39, .ref q40, .ref q41, .ref q42, .ref q43, .ref q44, .int 0, .int 0, .int 0, .int 0, .int 0, .int 0, .ref a])), (q38, .inl (X.E 0, 8, .inl (fun _ => 0))), (q39, .inl (X.E 0, 8, .inl (fun _ => 0))), (q40, .inl (X.E 0, 8, .inl (fun _ => 0))), (q41, .inl (X.E 0, 8, .inl (fun _ => 0))), (q42, .inl (X.E 0, 8, .inl (fun _ => 0))), (q43, .inl (X.E 1, 8, .inl (fun _ => 0))), (q44, .inl (X.E 1, 8, .inl (fun _ => 0))), (q45, .inr (11, [.null, .int 0, .int 0]))]) [0, 1, 2, 3, 4, 5, 6, 7, 8, 9, 10, 11, 12, 13, 14, 15, 16, 17, 18, 19, 20, 21, 22, 23, 24, 25, 26, 27, 28, 29, 30, 31, 32, 33, 34, 35, 36] rfl rfl ?_
  refine g_dup h dX0_init_137 rfl ?_
  obtain ⟨u_46, hv, hf⟩ := ob1 hf
  refine g_callI (n := 0) (As := []) (st := [.ref q45, .ref a]) (wr := [(a, .inr (0, [.ref q1, .ref q12, .ref q21, .ref q30, .int falls, .int tears, .ref q31, .int typed, .int place, .ref q32, .ref q33, .ref q36, .null, .int isKept, .null, .null])), (q1, .inl (X.E 5, 5, .inr (.inr (.inr (.inr (va_up (va_up (va_up (va_up (va_up (fun _ => none) (0 : Int32).toNatClampNeg (some q2)) (1 : Int32).toNatClampNeg (some q4)) (2 : Int32).toNatClampNeg (some q6)) (3 : Int32).toNatClampNeg (some q8)) (4 : Int32).toNatClampNeg (some q10))))))), (q2, .inr (1, [])), (q4, .inr (2, [])), (q6, .inr (3, [])), (q8, .inr (4, [])), (q10, .inr (5, [])), (q12, .inr (6, [.ref q14, .ref q15, .ref q16, .ref q17, .ref q18, .ref q19, .ref q20, .int 0, .int 0, .int 0, .int 0, .int 0, .int 0, .ref a])), (q14, .inl (X.E 0, 8, .inl (fun _ => 0))), (q15, .inl (X.E 0, 8, .inl (fun _ => 0))), (q16, .inl (X.E 0, 8, .inl (fun _ => 0))), (q17, .inl (X.E 0, 8, .inl (fun _ => 0))), (q18, .inl (X.E 0, 8, .inl (fun _ => 0))), (q19, .inl (X.E 1, 8, .inl (fun _ => 0))), (q20, .inl (X.E 1, 8, .inl (fun _ => 0))), (q21, .inr (6, [.ref q23, .ref q24, .ref q25, .ref q26, .ref q27, .ref q28, .ref q29, .int 0, .int 0, .int 0, .int 0, .int 0, .int 0, .ref a])), (q23, .inl (X.E 0, 8, .inl (fun _ => 0))), (q24, .inl (X.E 0, 8, .inl (fun _ => 0))), (q25, .inl (X.E 0, 8, .inl (fun _ => 0))), (q26, .inl (X.E 0, 8, .inl (fun _ => 0))), (q27, .inl (X.E 0, 8, .inl (fun _ => 0))), (q28, .inl (X.E 1, 8, .inl (fun _ => 0))), (q29, .inl (X.E 1, 8, .inl (fun _ => 0))), (q30, .inl (X.E 1, 8, .inl (fun _ => 0))), (q31, .inl (X.E 0, 90, .inl (fun _ => 0))), (q32, .inl (X.E 1, 40, .inl (fun _ => 0))), (q33, .inr (11, [.ref q35, .int 0, .int 0])), (q35, .inl (X.E 4, 17, .inr (.inr (.inr (.inr (fun _ => none)))))), (q36, .inr (6, [.ref q38, .ref q39, .ref q40, .ref q41, .ref q42, .ref q43, .ref q44, .int 0, .int 0, .int 0, .int 0, .int 0, .int 0, .ref a])), (q38, .inl (X.E 0, 8, .inl (fun _ => 0))), (q39, .inl (X.E 0, 8, .inl (fun _ => 0))), (q40, .inl (X.E 0, 8, .inl (fun _ => 0))), (q41, .inl (X.E 0, 8, .inl (fun _ => 0))), (q42, .inl (X.E 0, 8, .inl (fun _ => 0))), (q43, .inl (X.E 1, 8, .inl (fun _ => 0))), (q44, .inl (X.E 1, 8, .inl (fun _ => 0)))]) (isC := [36]) (isR := [0, 1, 2, 3, 4, 5, 6, 7, 8, 9, 10, 11, 12, 13, 14, 15, 16, 17, 18, 19, 20, 21, 22, 23, 24, 25, 26, 27, 28, 29, 30, 31, 32, 33, 34, 35]) h hR (ct_J1_init (a := q45) (head := 0) (tail := 0) hv) q1081 q78 q1079 q1080 rfl (by decide +kernel) rfl ⟨rfl, rfl, rfl, rfl, by decide⟩ ⟨fle rfl, fle rfl, fle rfl, fle rfl, fle rfl⟩ rfl dX0_init_138 ?_
  rintro _ _ ⟨q47, rfl, rfl⟩
  refine pin0 ?_
  refine G.sub (ws' := [(a, .inr (0, [.ref q1, .ref q12, .ref q21, .ref q30, .int falls, .int tears, .ref q31, .int typed, .int place, .ref q32, .ref q33, .ref q36, .null, .int isKept, .null, .null])), (q1, .inl (X.E 5, 5, .inr (.inr (.inr (.inr (va_up (va_up (va_up (va_up (va_up (fun _ => none) (0 : Int32).toNatClampNeg (some q2)) (1 : Int32).toNatClampNeg (some q4)) (2 : Int32).toNatClampNeg (some q6)) (3 : Int32).toNatClampNeg (some q8)) (4 : Int32).toNatClampNeg (some q10))))))), (q2, .inr (1, [])), (q4, .inr (2, [])), (q6, .inr (3, [])), (q8, .inr (4, [])), (q10, .inr (5, [])), (q12, .inr (6, [.ref q14, .ref q15, .ref q16, .ref q17, .ref q18, .ref q19, .ref q20, .int 0, .int 0, .int 0, .int 0, .int 0, .int 0, .ref a])), (q14, .inl (X.E 0, 8, .inl (fun _ => 0))), (q15, .inl (X.E 0, 8, .inl (fun _ => 0))), (q16, .inl (X.E 0, 8, .inl (fun _ => 0))), (q17, .inl (X.E 0, 8, .inl (fun _ => 0))), (q18, .inl (X.E 0, 8, .inl (fun _ => 0))), (q19, .inl (X.E 1, 8, .inl (fun _ => 0))), (q20, .inl (X.E 1, 8, .inl (fun _ => 0))), (q21, .inr (6, [.ref q23, .ref q24, .ref q25, .ref q26, .ref q27, .ref q28, .ref q29, .int 0, .int 0, .int 0, .int 0, .int 0, .int 0, .ref a])), (q23, .inl (X.E 0, 8, .inl (fun _ => 0))), (q24, .inl (X.E 0, 8, .inl (fun _ => 0))), (q25, .inl (X.E 0, 8, .inl (fun _ => 0))), (q26, .inl (X.E 0, 8, .inl (fun _ => 0))), (q27, .inl (X.E 0, 8, .inl (fun _ => 0))), (q28, .inl (X.E 1, 8, .inl (fun _ => 0))), (q29, .inl (X.E 1, 8, .inl (fun _ => 0))), (q30, .inl (X.E 1, 8, .inl (fun _ => 0))), (q31, .inl (X.E 0, 90, .inl (fun _ => 0))), (q32, .inl (X.E 1, 40, .inl (fun _ => 0))), (q33, .inr (11, [.ref q35, .int 0, .int 0])), (q35, .inl (X.E 4, 17, .inr (.inr (.inr (.inr (fun _ => none)))))), (q36, .inr (6, [.ref q38, .ref q39, .ref q40, .ref q41, .ref q42, .ref q43, .ref q44, .int 0, .int 0, .int 0, .int 0, .int 0, .int 0, .ref a])), (q38, .inl (X.E 0, 8, .inl (fun _ => 0))), (q39, .inl (X.E 0, 8, .inl (fun _ => 0))), (q40, .inl (X.E 0, 8, .inl (fun _ => 0))), (q41, .inl (X.E 0, 8, .inl (fun _ => 0))), (q42, .inl (X.E 0, 8, .inl (fun _ => 0))), (q43, .inl (X.E 1, 8, .inl (fun _ => 0))), (q44, .inl (X.E 1, 8, .inl (fun _ => 0))), (q45, .inr (11, [.ref q47, .int 0, .int 0])), (q47, .inl (X.E 4, 17, .inr (.inr (.inr (.inr (fun _ => none))))))]) [0, 1, 2, 3, 4, 5, 6, 7, 8, 9, 10, 11, 12, 13, 14, 15, 16, 17, 18, 19, 20, 21, 22, 23, 24, 25, 26, 27, 28, 29, 30, 31, 32, 33, 34, 35, 36, 37] rfl rfl ?_
  clear hv
  refine g_putF (ci := 0) (ty := tyX0 12) (ws' := [(a, .inr (0, [.ref q1, .ref q12, .ref q21, .ref q30, .int falls, .int tears, .ref q31, .int typed, .int place, .ref q32, .ref q33, .ref q36, .ref q45, .int isKept, .null, .null])), (q1, .inl (X.E 5, 5, .inr (.inr (.inr (.inr (va_up (va_up (va_up (va_up (va_up (fun _ => none) (0 : Int32).toNatClampNeg (some q2)) (1 : Int32).toNatClampNeg (some q4)) (2 : Int32).toNatClampNeg (some q6)) (3 : Int32).toNatClampNeg (some q8)) (4 : Int32).toNatClampNeg (some q10))))))), (q2, .inr (1, [])), (q4, .inr (2, [])), (q6, .inr (3, [])), (q8, .inr (4, [])), (q10, .inr (5, [])), (q12, .inr (6, [.ref q14, .ref q15, .ref q16, .ref q17, .ref q18, .ref q19, .ref q20, .int 0, .int 0, .int 0, .int 0, .int 0, .int 0, .ref a])), (q14, .inl (X.E 0, 8, .inl (fun _ => 0))), (q15, .inl (X.E 0, 8, .inl (fun _ => 0))), (q16, .inl (X.E 0, 8, .inl (fun _ => 0))), (q17, .inl (X.E 0, 8, .inl (fun _ => 0))), (q18, .inl (X.E 0, 8, .inl (fun _ => 0))), (q19, .inl (X.E 1, 8, .inl (fun _ => 0))), (q20, .inl (X.E 1, 8, .inl (fun _ => 0))), (q21, .inr (6, [.ref q23, .ref q24, .ref q25, .ref q26, .ref q27, .ref q28, .ref q29, .int 0, .int 0, .int 0, .int 0, .int 0, .int 0, .ref a])), (q23, .inl (X.E 0, 8, .inl (fun _ => 0))), (q24, .inl (X.E 0, 8, .inl (fun _ => 0))), (q25, .inl (X.E 0, 8, .inl (fun _ => 0))), (q26, .inl (X.E 0, 8, .inl (fun _ => 0))), (q27, .inl (X.E 0, 8, .inl (fun _ => 0))), (q28, .inl (X.E 1, 8, .inl (fun _ => 0))), (q29, .inl (X.E 1, 8, .inl (fun _ => 0))), (q30, .inl (X.E 1, 8, .inl (fun _ => 0))), (q31, .inl (X.E 0, 90, .inl (fun _ => 0))), (q32, .inl (X.E 1, 40, .inl (fun _ => 0))), (q33, .inr (11, [.ref q35, .int 0, .int 0])), (q35, .inl (X.E 4, 17, .inr (.inr (.inr (.inr (fun _ => none)))))), (q36, .inr (6, [.ref q38, .ref q39, .ref q40, .ref q41, .ref q42, .ref q43, .ref q44, .int 0, .int 0, .int 0, .int 0, .int 0, .int 0, .ref a])), (q38, .inl (X.E 0, 8, .inl (fun _ => 0))), (q39, .inl (X.E 0, 8, .inl (fun _ => 0))), (q40, .inl (X.E 0, 8, .inl (fun _ => 0))), (q41, .inl (X.E 0, 8, .inl (fun _ => 0))), (q42, .inl (X.E 0, 8, .inl (fun _ => 0))), (q43, .inl (X.E 1, 8, .inl (fun _ => 0))), (q44, .inl (X.E 1, 8, .inl (fun _ => 0))), (q45, .inr (11, [.ref q47, .int 0, .int 0])), (q47, .inl (X.E 4, 17, .inr (.inr (.inr (.inr (fun _ => none))))))]) h in_X0 tyX0 tyX0_ok nmX0 hnm 0 12 rfl rfl (fle rfl) ⟨rfl, rfl, rfl⟩ q1123 rfl rfl rfl (fle rfl) rfl dX0_init_141 ?_
  refine g_aload_n h 0 dX0_init_144 rfl rfl ?_
  refine g_iconst (v := 4) h dX0_init_145 kiconst_4 ?_
  refine g_newq (n := 4) (N := 4) (t0 := 6) h hR q1099 h.nw.2.1.2.2 rfl (by decide) (by decide) (by decide) (fle rfl) (fle rfl) dX0_init_146 (fun q48 => ?_)
  refine G.sub (ws' := [(a, .inr (0, [.ref q1, .ref q12, .ref q21, .ref q30, .int falls, .int tears, .ref q31, .int typed, .int place, .ref q32, .ref q33, .ref q36, .ref q45, .int isKept, .null, .null])), (q1, .inl (X.E 5, 5, .inr (.inr (.inr (.inr (va_up (va_up (va_up (va_up (va_up (fun _ => none) (0 : Int32).toNatClampNeg (some q2)) (1 : Int32).toNatClampNeg (some q4)) (2 : Int32).toNatClampNeg (some q6)) (3 : Int32).toNatClampNeg (some q8)) (4 : Int32).toNatClampNeg (some q10))))))), (q2, .inr (1, [])), (q4, .inr (2, [])), (q6, .inr (3, [])), (q8, .inr (4, [])), (q10, .inr (5, [])), (q12, .inr (6, [.ref q14, .ref q15, .ref q16, .ref q17, .ref q18, .ref q19, .ref q20, .int 0, .int 0, .int 0, .int 0, .int 0, .int 0, .ref a])), (q14, .inl (X.E 0, 8, .inl (fun _ => 0))), (q15, .inl (X.E 0, 8, .inl (fun _ => 0))), (q16, .inl (X.E 0, 8, .inl (fun _ => 0))), (q17, .inl (X.E 0, 8, .inl (fun _ => 0))), (q18, .inl (X.E 0, 8, .inl (fun _ => 0))), (q19, .inl (X.E 1, 8, .inl (fun _ => 0))), (q20, .inl (X.E 1, 8, .inl (fun _ => 0))), (q21, .inr (6, [.ref q23, .ref q24, .ref q25, .ref q26, .ref q27, .ref q28, .ref q29, .int 0, .int 0, .int 0, .int 0, .int 0, .int 0, .ref a])), (q23, .inl (X.E 0, 8, .inl (fun _ => 0))), (q24, .inl (X.E 0, 8, .inl (fun _ => 0))), (q25, .inl (X.E 0, 8, .inl (fun _ => 0))), (q26, .inl (X.E 0, 8, .inl (fun _ => 0))), (q27, .inl (X.E 0, 8, .inl (fun _ => 0))), (q28, .inl (X.E 1, 8, .inl (fun _ => 0))), (q29, .inl (X.E 1, 8, .inl (fun _ => 0))), (q30, .inl (X.E 1, 8, .inl (fun _ => 0))), (q31, .inl (X.E 0, 90, .inl (fun _ => 0))), (q32, .inl (X.E 1, 40, .inl (fun _ => 0))), (q33, .inr (11, [.ref q35, .int 0, .int 0])), (q35, .inl (X.E 4, 17, .inr (.inr (.inr (.inr (fun _ => none)))))), (q36, .inr (6, [.ref q38, .ref q39, .ref q40, .ref q41, .ref q42, .ref q43, .ref q44, .int 0, .int 0, .int 0, .int 0, .int 0, .int 0, .ref a])), (q38, .inl (X.E 0, 8, .inl (fun _ => 0))), (q39, .inl (X.E 0, 8, .inl (fun _ => 0))), (q40, .inl (X.E 0, 8, .inl (fun _ => 0))), (q41, .inl (X.E 0, 8, .inl (fun _ => 0))), (q42, .inl (X.E 0, 8, .inl (fun _ => 0))), (q43, .inl (X.E 1, 8, .inl (fun _ => 0))), (q44, .inl (X.E 1, 8, .inl (fun _ => 0))), (q45, .inr (11, [.ref q47, .int 0, .int 0])), (q47, .inl (X.E 4, 17, .inr (.inr (.inr (.inr (fun _ => none)))))), (q48, .inl (X.E 6, 4, .inr (.inr (.inr (.inr (fun _ => none))))))]) [0, 1, 2, 3, 4, 5, 6, 7, 8, 9, 10, 11, 12, 13, 14, 15, 16, 17, 18, 19, 20, 21, 22, 23, 24, 25, 26, 27, 28, 29, 30, 31, 32, 33, 34, 35, 36, 37, 38] rfl rfl ?_
  refine g_putF (ci := 0) (ty := tyX0 14) (ws' := [(a, .inr (0, [.ref q1, .ref q12, .ref q21, .ref q30, .int falls, .int tears, .ref q31, .int typed, .int place, .ref q32, .ref q33, .ref q36, .ref q45, .int isKept, .ref q48, .null])), (q1, .inl (X.E 5, 5, .inr (.inr (.inr (.inr (va_up (va_up (va_up (va_up (va_up (fun _ => none) (0 : Int32).toNatClampNeg (some q2)) (1 : Int32).toNatClampNeg (some q4)) (2 : Int32).toNatClampNeg (some q6)) (3 : Int32).toNatClampNeg (some q8)) (4 : Int32).toNatClampNeg (some q10))))))), (q2, .inr (1, [])), (q4, .inr (2, [])), (q6, .inr (3, [])), (q8, .inr (4, [])), (q10, .inr (5, [])), (q12, .inr (6, [.ref q14, .ref q15, .ref q16, .ref q17, .ref q18, .ref q19, .ref q20, .int 0, .int 0, .int 0, .int 0, .int 0, .int 0, .ref a])), (q14, .inl (X.E 0, 8, .inl (fun _ => 0))), (q15, .inl (X.E 0, 8, .inl (fun _ => 0))), (q16, .inl (X.E 0, 8, .inl (fun _ => 0))), (q17, .inl (X.E 0, 8, .inl (fun _ => 0))), (q18, .inl (X.E 0, 8, .inl (fun _ => 0))), (q19, .inl (X.E 1, 8, .inl (fun _ => 0))), (q20, .inl (X.E 1, 8, .inl (fun _ => 0))), (q21, .inr (6, [.ref q23, .ref q24, .ref q25, .ref q26, .ref q27, .ref q28, .ref q29, .int 0, .int 0, .int 0, .int 0, .int 0, .int 0, .ref a])), (q23, .inl (X.E 0, 8, .inl (fun _ => 0))), (q24, .inl (X.E 0, 8, .inl (fun _ => 0))), (q25, .inl (X.E 0, 8, .inl (fun _ => 0))), (q26, .inl (X.E 0, 8, .inl (fun _ => 0))), (q27, .inl (X.E 0, 8, .inl (fun _ => 0))), (q28, .inl (X.E 1, 8, .inl (fun _ => 0))), (q29, .inl (X.E 1, 8, .inl (fun _ => 0))), (q30, .inl (X.E 1, 8, .inl (fun _ => 0))), (q31, .inl (X.E 0, 90, .inl (fun _ => 0))), (q32, .inl (X.E 1, 40, .inl (fun _ => 0))), (q33, .inr (11, [.ref q35, .int 0, .int 0])), (q35, .inl (X.E 4, 17, .inr (.inr (.inr (.inr (fun _ => none)))))), (q36, .inr (6, [.ref q38, .ref q39, .ref q40, .ref q41, .ref q42, .ref q43, .ref q44, .int 0, .int 0, .int 0, .int 0, .int 0, .int 0, .ref a])), (q38, .inl (X.E 0, 8, .inl (fun _ => 0))), (q39, .inl (X.E 0, 8, .inl (fun _ => 0))), (q40, .inl (X.E 0, 8, .inl (fun _ => 0))), (q41, .inl (X.E 0, 8, .inl (fun _ => 0))), (q42, .inl (X.E 0, 8, .inl (fun _ => 0))), (q43, .inl (X.E 1, 8, .inl (fun _ => 0))), (q44, .inl (X.E 1, 8, .inl (fun _ => 0))), (q45, .inr (11, [.ref q47, .int 0, .int 0])), (q47, .inl (X.E 4, 17, .inr (.inr (.inr (.inr (fun _ => none)))))), (q48, .inl (X.E 6, 4, .inr (.inr (.inr (.inr (fun _ => none))))))]) h in_X0 tyX0 tyX0_ok nmX0 hnm 0 14 rfl rfl (fle rfl) ⟨rfl, rfl, rfl⟩ q1125 rfl rfl rfl (fle rfl) rfl dX0_init_149 ?_
  refine g_aload_n h 0 dX0_init_152 rfl rfl ?_
  refine g_bipush (v := 24) h dX0_init_153 kbipush_24 ?_
  refine g_newa (at0 := .long) (ty := .long) (n := 24) (N := 24) (t0 := 2) (a0 := (24, .inr (.inl (fun _ => 0)))) h hR q925 rfl rfl rfl (fun _ => rfl) (by decide) (by decide) (by decide) (fle rfl) (fle rfl) dX0_init_155 (fun q49 => ?_)
  refine G.sub (ws' := [(a, .inr (0, [.ref q1, .ref q12, .ref q21, .ref q30, .int falls, .int tears, .ref q31, .int typed, .int place, .ref q32, .ref q33, .ref q36, .ref q45, .int isKept, .ref q48, .null])), (q1, .inl (X.E 5, 5, .inr (.inr (.inr (.inr (va_up (va_up (va_up (va_up (va_up (fun _ => none) (0 : Int32).toNatClampNeg (some q2)) (1 : Int32).toNatClampNeg (some q4)) (2 : Int32).toNatClampNeg (some q6)) (3 : Int32).toNatClampNeg (some q8)) (4 : Int32).toNatClampNeg (some q10))))))), (q2, .inr (1, [])), (q4, .inr (2, [])), (q6, .inr (3, [])), (q8, .inr (4, [])), (q10, .inr (5, [])), (q12, .inr (6, [.ref q14, .ref q15, .ref q16, .ref q17, .ref q18, .ref q19, .ref q20, .int 0, .int 0, .int 0, .int 0, .int 0, .int 0, .ref a])), (q14, .inl (X.E 0, 8, .inl (fun _ => 0))), (q15, .inl (X.E 0, 8, .inl (fun _ => 0))), (q16, .inl (X.E 0, 8, .inl (fun _ => 0))), (q17, .inl (X.E 0, 8, .inl (fun _ => 0))), (q18, .inl (X.E 0, 8, .inl (fun _ => 0))), (q19, .inl (X.E 1, 8, .inl (fun _ => 0))), (q20, .inl (X.E 1, 8, .inl (fun _ => 0))), (q21, .inr (6, [.ref q23, .ref q24, .ref q25, .ref q26, .ref q27, .ref q28, .ref q29, .int 0, .int 0, .int 0, .int 0, .int 0, .int 0, .ref a])), (q23, .inl (X.E 0, 8, .inl (fun _ => 0))), (q24, .inl (X.E 0, 8, .inl (fun _ => 0))), (q25, .inl (X.E 0, 8, .inl (fun _ => 0))), (q26, .inl (X.E 0, 8, .inl (fun _ => 0))), (q27, .inl (X.E 0, 8, .inl (fun _ => 0))), (q28, .inl (X.E 1, 8, .inl (fun _ => 0))), (q29, .inl (X.E 1, 8, .inl (fun _ => 0))), (q30, .inl (X.E 1, 8, .inl (fun _ => 0))), (q31, .inl (X.E 0, 90, .inl (fun _ => 0))), (q32, .inl (X.E 1, 40, .inl (fun _ => 0))), (q33, .inr (11, [.ref q35, .int 0, .int 0])), (q35, .inl (X.E 4, 17, .inr (.inr (.inr (.inr (fun _ => none)))))), (q36, .inr (6, [.ref q38, .ref q39, .ref q40, .ref q41, .ref q42, .ref q43, .ref q44, .int 0, .int 0, .int 0, .int 0, .int 0, .int 0, .ref a])), (q38, .inl (X.E 0, 8, .inl (fun _ => 0))), (q39, .inl (X.E 0, 8, .inl (fun _ => 0))), (q40, .inl (X.E 0, 8, .inl (fun _ => 0))), (q41, .inl (X.E 0, 8, .inl (fun _ => 0))), (q42, .inl (X.E 0, 8, .inl (fun _ => 0))), (q43, .inl (X.E 1, 8, .inl (fun _ => 0))), (q44, .inl (X.E 1, 8, .inl (fun _ => 0))), (q45, .inr (11, [.ref q47, .int 0, .int 0])), (q47, .inl (X.E 4, 17, .inr (.inr (.inr (.inr (fun _ => none)))))), (q48, .inl (X.E 6, 4, .inr (.inr (.inr (.inr (fun _ => none)))))), (q49, .inl (X.E 2, 24, .inr (.inl (fun _ => 0))))]) [0, 1, 2, 3, 4, 5, 6, 7, 8, 9, 10, 11, 12, 13, 14, 15, 16, 17, 18, 19, 20, 21, 22, 23, 24, 25, 26, 27, 28, 29, 30, 31, 32, 33, 34, 35, 36, 37, 38, 39] rfl rfl ?_
  refine g_putF (ci := 0) (ty := tyX0 15) (ws' := [(a, .inr (0, [.ref q1, .ref q12, .ref q21, .ref q30, .int falls, .int tears, .ref q31, .int typed, .int place, .ref q32, .ref q33, .ref q36, .ref q45, .int isKept, .ref q48, .ref q49])), (q1, .inl (X.E 5, 5, .inr (.inr (.inr (.inr (va_up (va_up (va_up (va_up (va_up (fun _ => none) (0 : Int32).toNatClampNeg (some q2)) (1 : Int32).toNatClampNeg (some q4)) (2 : Int32).toNatClampNeg (some q6)) (3 : Int32).toNatClampNeg (some q8)) (4 : Int32).toNatClampNeg (some q10))))))), (q2, .inr (1, [])), (q4, .inr (2, [])), (q6, .inr (3, [])), (q8, .inr (4, [])), (q10, .inr (5, [])), (q12, .inr (6, [.ref q14, .ref q15, .ref q16, .ref q17, .ref q18, .ref q19, .ref q20, .int 0, .int 0, .int 0, .int 0, .int 0, .int 0, .ref a])), (q14, .inl (X.E 0, 8, .inl (fun _ => 0))), (q15, .inl (X.E 0, 8, .inl (fun _ => 0))), (q16, .inl (X.E 0, 8, .inl (fun _ => 0))), (q17, .inl (X.E 0, 8, .inl (fun _ => 0))), (q18, .inl (X.E 0, 8, .inl (fun _ => 0))), (q19, .inl (X.E 1, 8, .inl (fun _ => 0))), (q20, .inl (X.E 1, 8, .inl (fun _ => 0))), (q21, .inr (6, [.ref q23, .ref q24, .ref q25, .ref q26, .ref q27, .ref q28, .ref q29, .int 0, .int 0, .int 0, .int 0, .int 0, .int 0, .ref a])), (q23, .inl (X.E 0, 8, .inl (fun _ => 0))), (q24, .inl (X.E 0, 8, .inl (fun _ => 0))), (q25, .inl (X.E 0, 8, .inl (fun _ => 0))), (q26, .inl (X.E 0, 8, .inl (fun _ => 0))), (q27, .inl (X.E 0, 8, .inl (fun _ => 0))), (q28, .inl (X.E 1, 8, .inl (fun _ => 0))), (q29, .inl (X.E 1, 8, .inl (fun _ => 0))), (q30, .inl (X.E 1, 8, .inl (fun _ => 0))), (q31, .inl (X.E 0, 90, .inl (fun _ => 0))), (q32, .inl (X.E 1, 40, .inl (fun _ => 0))), (q33, .inr (11, [.ref q35, .int 0, .int 0])), (q35, .inl (X.E 4, 17, .inr (.inr (.inr (.inr (fun _ => none)))))), (q36, .inr (6, [.ref q38, .ref q39, .ref q40, .ref q41, .ref q42, .ref q43, .ref q44, .int 0, .int 0, .int 0, .int 0, .int 0, .int 0, .ref a])), (q38, .inl (X.E 0, 8, .inl (fun _ => 0))), (q39, .inl (X.E 0, 8, .inl (fun _ => 0))), (q40, .inl (X.E 0, 8, .inl (fun _ => 0))), (q41, .inl (X.E 0, 8, .inl (fun _ => 0))), (q42, .inl (X.E 0, 8, .inl (fun _ => 0))), (q43, .inl (X.E 1, 8, .inl (fun _ => 0))), (q44, .inl (X.E 1, 8, .inl (fun _ => 0))), (q45, .inr (11, [.ref q47, .int 0, .int 0])), (q47, .inl (X.E 4, 17, .inr (.inr (.inr (.inr (fun _ => none)))))), (q48, .inl (X.E 6, 4, .inr (.inr (.inr (.inr (fun _ => none)))))), (q49, .inl (X.E 2, 24, .inr (.inl (fun _ => 0))))]) h in_X0 tyX0 tyX0_ok nmX0 hnm 0 15 rfl rfl (fle rfl) ⟨rfl, rfl, rfl⟩ q1126 rfl rfl rfl (fle rfl) rfl dX0_init_157 ?_
  refine g_iconst (v := 0) h dX0_init_160 kiconst_0 ?_
  refine g_istore_n (lv' := [(1, .int 0), (0, .ref a)]) h dX0_init_161 rfl (hL 1 (fle rfl)) rfl ?_
  refine g_iload_n h 0 dX0_init_162 rfl rfl ?_
  refine g_iconst (v := 4) h dX0_init_163 kiconst_4 ?_
  refine b_icmp_ge (tgt := 186) h dX0_init_164 rfl (fun c0 => absurd c0 (by decide)) (fun _ => ?_)
  refine g_aload_n h 1 dX0_init_167 rfl rfl ?_
  refine g_get (ci := 0) (v := .ref q48) h in_X0 0 14 rfl rfl (fle rfl) rfl q1125 rfl dX0_init_168 ?_
  refine g_iload_n h 0 dX0_init_171 rfl rfl ?_
  refine g_new (ci := 7) (fs := [.null]) h hR in_X7 tyX7 tyX7_ok q1099 q1101 q79 rfl df_X7 (fle rfl) (fle rfl) dX0_init_172 (fun q50 => ?_)
  refine G.sub (ws' := [(a, .inr (0, [.ref q1, .ref q12, .ref q21, .ref q30, .int falls, .int tears, .ref q31, .int typed, .int place, .ref q32, .ref q33, .ref q36, .ref q45, .int isKept, .ref q48, .ref q49])), (q1, .inl (X.E 5, 5, .inr (.inr (.inr (.inr (va_up (va_up (va_up (va_up (va_up (fun _ => none) (0 : Int32).toNatClampNeg (some q2)) (1 : Int32).toNatClampNeg (some q4)) (2 : Int32).toNatClampNeg (some q6)) (3 : Int32).toNatClampNeg (some q8)) (4 : Int32).toNatClampNeg (some q10))))))), (q2, .inr (1, [])), (q4, .inr (2, [])), (q6, .inr (3, [])), (q8, .inr (4, [])), (q10, .inr (5, [])), (q12, .inr (6, [.ref q14, .ref q15, .ref q16, .ref q17, .ref q18, .ref q19, .ref q20, .int 0, .int 0, .int 0, .int 0, .int 0, .int 0, .ref a])), (q14, .inl (X.E 0, 8, .inl (fun _ => 0))), (q15, .inl (X.E 0, 8, .inl (fun _ => 0))), (q16, .inl (X.E 0, 8, .inl (fun _ => 0))), (q17, .inl (X.E 0, 8, .inl (fun _ => 0))), (q18, .inl (X.E 0, 8, .inl (fun _ => 0))), (q19, .inl (X.E 1, 8, .inl (fun _ => 0))), (q20, .inl (X.E 1, 8, .inl (fun _ => 0))), (q21, .inr (6, [.ref q23, .ref q24, .ref q25, .ref q26, .ref q27, .ref q28, .ref q29, .int 0, .int 0, .int 0, .int 0, .int 0, .int 0, .ref a])), (q23, .inl (X.E 0, 8, .inl (fun _ => 0))), (q24, .inl (X.E 0, 8, .inl (fun _ => 0))), (q25, .inl (X.E 0, 8, .inl (fun _ => 0))), (q26, .inl (X.E 0, 8, .inl (fun _ => 0))), (q27, .inl (X.E 0, 8, .inl (fun _ => 0))), (q28, .inl (X.E 1, 8, .inl (fun _ => 0))), (q29, .inl (X.E 1, 8, .inl (fun _ => 0))), (q30, .inl (X.E 1, 8, .inl (fun _ => 0))), (q31, .inl (X.E 0, 90, .inl (fun _ => 0))), (q32, .inl (X.E 1, 40, .inl (fun _ => 0))), (q33, .inr (11, [.ref q35, .int 0, .int 0])), (q35, .inl (X.E 4, 17, .inr (.inr (.inr (.inr (fun _ => none)))))), (q36, .inr (6, [.ref q38, .ref q39, .ref q40, .ref q41, .ref q42, .ref q43, .ref q44, .int 0, .int 0, .int 0, .int 0, .int 0, .int 0, .ref a])), (q38, .inl (X.E 0, 8, .inl (fun _ => 0))), (q39, .inl (X.E 0, 8, .inl (fun _ => 0))), (q40, .inl (X.E 0, 8, .inl (fun _ => 0))), (q41, .inl (X.E 0, 8, .inl (fun _ => 0))), (q42, .inl (X.E 0, 8, .inl (fun _ => 0))), (q43, .inl (X.E 1, 8, .inl (fun _ => 0))), (q44, .inl (X.E 1, 8, .inl (fun _ => 0))), (q45, .inr (11, [.ref q47, .int 0, .int 0])), (q47, .inl (X.E 4, 17, .inr (.inr (.inr (.inr (fun _ => none)))))), (q48, .inl (X.E 6, 4, .inr (.inr (.inr (.inr (fun _ => none)))))), (q49, .inl (X.E 2, 24, .inr (.inl (fun _ => 0)))), (q50, .inr (7, [.null]))]) [0, 1, 2, 3, 4, 5, 6, 7, 8, 9, 10, 11, 12, 13, 14, 15, 16, 17, 18, 19, 20, 21, 22, 23, 24, 25, 26, 27, 28, 29, 30, 31, 32, 33, 34, 35, 36, 37, 38, 39, 40] rfl rfl ?_
  refine g_dup h dX0_init_175 rfl ?_
  obtain ⟨u_51, hv, hf⟩ := ob1 hf
  refine g_callIN (n := 0) (As := []) (st := [.ref q50, .int 0, .ref q48]) (wr := [(a, .inr (0, [.ref q1, .ref q12, .ref q21, .ref q30, .int falls, .int tears, .ref q31, .int typed, .int place, .ref q32, .ref q33, .ref q36, .ref q45, .int isKept, .ref q48, .ref q49])), (q1, .inl (X.E 5, 5, .inr (.inr (.inr (.inr (va_up (va_up (va_up (va_up (va_up (fun _ => none) (0 : Int32).toNatClampNeg (some q2)) (1 : Int32).toNatClampNeg (some q4)) (2 : Int32).toNatClampNeg (some q6)) (3 : Int32).toNatClampNeg (some q8)) (4 : Int32).toNatClampNeg (some q10))))))), (q2, .inr (1, [])), (q4, .inr (2, [])), (q6, .inr (3, [])), (q8, .inr (4, [])), (q10, .inr (5, [])), (q12, .inr (6, [.ref q14, .ref q15, .ref q16, .ref q17, .ref q18, .ref q19, .ref q20, .int 0, .int 0, .int 0, .int 0, .int 0, .int 0, .ref a])), (q14, .inl (X.E 0, 8, .inl (fun _ => 0))), (q15, .inl (X.E 0, 8, .inl (fun _ => 0))), (q16, .inl (X.E 0, 8, .inl (fun _ => 0))), (q17, .inl (X.E 0, 8, .inl (fun _ => 0))), (q18, .inl (X.E 0, 8, .inl (fun _ => 0))), (q19, .inl (X.E 1, 8, .inl (fun _ => 0))), (q20, .inl (X.E 1, 8, .inl (fun _ => 0))), (q21, .inr (6, [.ref q23, .ref q24, .ref q25, .ref q26, .ref q27, .ref q28, .ref q29, .int 0, .int 0, .int 0, .int 0, .int 0, .int 0, .ref a])), (q23, .inl (X.E 0, 8, .inl (fun _ => 0))), (q24, .inl (X.E 0, 8, .inl (fun _ => 0))), (q25, .inl (X.E 0, 8, .inl (fun _ => 0))), (q26, .inl (X.E 0, 8, .inl (fun _ => 0))), (q27, .inl (X.E 0, 8, .inl (fun _ => 0))), (q28, .inl (X.E 1, 8, .inl (fun _ => 0))), (q29, .inl (X.E 1, 8, .inl (fun _ => 0))), (q30, .inl (X.E 1, 8, .inl (fun _ => 0))), (q31, .inl (X.E 0, 90, .inl (fun _ => 0))), (q32, .inl (X.E 1, 40, .inl (fun _ => 0))), (q33, .inr (11, [.ref q35, .int 0, .int 0])), (q35, .inl (X.E 4, 17, .inr (.inr (.inr (.inr (fun _ => none)))))), (q36, .inr (6, [.ref q38, .ref q39, .ref q40, .ref q41, .ref q42, .ref q43, .ref q44, .int 0, .int 0, .int 0, .int 0, .int 0, .int 0, .ref a])), (q38, .inl (X.E 0, 8, .inl (fun _ => 0))), (q39, .inl (X.E 0, 8, .inl (fun _ => 0))), (q40, .inl (X.E 0, 8, .inl (fun _ => 0))), (q41, .inl (X.E 0, 8, .inl (fun _ => 0))), (q42, .inl (X.E 0, 8, .inl (fun _ => 0))), (q43, .inl (X.E 1, 8, .inl (fun _ => 0))), (q44, .inl (X.E 1, 8, .inl (fun _ => 0))), (q45, .inr (11, [.ref q47, .int 0, .int 0])), (q47, .inl (X.E 4, 17, .inr (.inr (.inr (.inr (fun _ => none)))))), (q48, .inl (X.E 6, 4, .inr (.inr (.inr (.inr (fun _ => none)))))), (q49, .inl (X.E 2, 24, .inr (.inl (fun _ => 0)))), (q50, .inr (7, [.null]))]) (isC := []) (isR := [0, 1, 2, 3, 4, 5, 6, 7, 8, 9, 10, 11, 12, 13, 14, 15, 16, 17, 18, 19, 20, 21, 22, 23, 24, 25, 26, 27, 28, 29, 30, 31, 32, 33, 34, 35, 36, 37, 38, 39, 40]) h hR (ct_X7_init (a := q50) hv) q1104 q79 q1102 q1103 rfl (by decide +kernel) rfl ⟨rfl, rfl, rfl, rfl, by decide⟩ ⟨fle rfl, fle rfl, fle rfl, fle rfl, fle rfl⟩ rfl dX0_init_176 (pin (perm := [0, 1, 2, 3, 4, 5, 6, 7, 8, 9, 10, 11, 12, 13, 14, 15, 16, 17, 18, 19, 20, 21, 22, 23, 24, 25, 26, 27, 28, 29, 30, 31, 32, 33, 34, 35, 36, 37, 38, 39, 40]) (ws' := [(a, .inr (0, [.ref q1, .ref q12, .ref q21, .ref q30, .int falls, .int tears, .ref q31, .int typed, .int place, .ref q32, .ref q33, .ref q36, .ref q45, .int isKept, .ref q48, .ref q49])), (q1, .inl (X.E 5, 5, .inr (.inr (.inr (.inr (va_up (va_up (va_up (va_up (va_up (fun _ => none) (0 : Int32).toNatClampNeg (some q2)) (1 : Int32).toNatClampNeg (some q4)) (2 : Int32).toNatClampNeg (some q6)) (3 : Int32).toNatClampNeg (some q8)) (4 : Int32).toNatClampNeg (some q10))))))), (q2, .inr (1, [])), (q4, .inr (2, [])), (q6, .inr (3, [])), (q8, .inr (4, [])), (q10, .inr (5, [])), (q12, .inr (6, [.ref q14, .ref q15, .ref q16, .ref q17, .ref q18, .ref q19, .ref q20, .int 0, .int 0, .int 0, .int 0, .int 0, .int 0, .ref a])), (q14, .inl (X.E 0, 8, .inl (fun _ => 0))), (q15, .inl (X.E 0, 8, .inl (fun _ => 0))), (q16, .inl (X.E 0, 8, .inl (fun _ => 0))), (q17, .inl (X.E 0, 8, .inl (fun _ => 0))), (q18, .inl (X.E 0, 8, .inl (fun _ => 0))), (q19, .inl (X.E 1, 8, .inl (fun _ => 0))), (q20, .inl (X.E 1, 8, .inl (fun _ => 0))), (q21, .inr (6, [.ref q23, .ref q24, .ref q25, .ref q26, .ref q27, .ref q28, .ref q29, .int 0, .int 0, .int 0, .int 0, .int 0, .int 0, .ref a])), (q23, .inl (X.E 0, 8, .inl (fun _ => 0))), (q24, .inl (X.E 0, 8, .inl (fun _ => 0))), (q25, .inl (X.E 0, 8, .inl (fun _ => 0))), (q26, .inl (X.E 0, 8, .inl (fun _ => 0))), (q27, .inl (X.E 0, 8, .inl (fun _ => 0))), (q28, .inl (X.E 1, 8, .inl (fun _ => 0))), (q29, .inl (X.E 1, 8, .inl (fun _ => 0))), (q30, .inl (X.E 1, 8, .inl (fun _ => 0))), (q31, .inl (X.E 0, 90, .inl (fun _ => 0))), (q32, .inl (X.E 1, 40, .inl (fun _ => 0))), (q33, .inr (11, [.ref q35, .int 0, .int 0])), (q35, .inl (X.E 4, 17, .inr (.inr (.inr (.inr (fun _ => none)))))), (q36, .inr (6, [.ref q38, .ref q39, .ref q40, .ref q41, .ref q42, .ref q43, .ref q44, .int 0, .int 0, .int 0, .int 0, .int 0, .int 0, .ref a])), (q38, .inl (X.E 0, 8, .inl (fun _ => 0))), (q39, .inl (X.E 0, 8, .inl (fun _ => 0))), (q40, .inl (X.E 0, 8, .inl (fun _ => 0))), (q41, .inl (X.E 0, 8, .inl (fun _ => 0))), (q42, .inl (X.E 0, 8, .inl (fun _ => 0))), (q43, .inl (X.E 1, 8, .inl (fun _ => 0))), (q44, .inl (X.E 1, 8, .inl (fun _ => 0))), (q45, .inr (11, [.ref q47, .int 0, .int 0])), (q47, .inl (X.E 4, 17, .inr (.inr (.inr (.inr (fun _ => none)))))), (q48, .inl (X.E 6, 4, .inr (.inr (.inr (.inr (fun _ => none)))))), (q49, .inl (X.E 2, 24, .inr (.inl (fun _ => 0)))), (q50, .inr (7, [.null]))]) (stk := [.ref q50, .int 0, .ref q48]) rfl rfl rfl ?_)
  clear hv
  refine g_aastS (t0 := 6) (ci := 7) (r := (RX7, TX7, 1)) (ws' := [(a, .inr (0, [.ref q1, .ref q12, .ref q21, .ref q30, .int falls, .int tears, .ref q31, .int typed, .int place, .ref q32, .ref q33, .ref q36, .ref q45, .int isKept, .ref q48, .ref q49])), (q1, .inl (X.E 5, 5, .inr (.inr (.inr (.inr (va_up (va_up (va_up (va_up (va_up (fun _ => none) (0 : Int32).toNatClampNeg (some q2)) (1 : Int32).toNatClampNeg (some q4)) (2 : Int32).toNatClampNeg (some q6)) (3 : Int32).toNatClampNeg (some q8)) (4 : Int32).toNatClampNeg (some q10))))))), (q2, .inr (1, [])), (q4, .inr (2, [])), (q6, .inr (3, [])), (q8, .inr (4, [])), (q10, .inr (5, [])), (q12, .inr (6, [.ref q14, .ref q15, .ref q16, .ref q17, .ref q18, .ref q19, .ref q20, .int 0, .int 0, .int 0, .int 0, .int 0, .int 0, .ref a])), (q14, .inl (X.E 0, 8, .inl (fun _ => 0))), (q15, .inl (X.E 0, 8, .inl (fun _ => 0))), (q16, .inl (X.E 0, 8, .inl (fun _ => 0))), (q17, .inl (X.E 0, 8, .inl (fun _ => 0))), (q18, .inl (X.E 0, 8, .inl (fun _ => 0))), (q19, .inl (X.E 1, 8, .inl (fun _ => 0))), (q20, .inl (X.E 1, 8, .inl (fun _ => 0))), (q21, .inr (6, [.ref q23, .ref q24, .ref q25, .ref q26, .ref q27, .ref q28, .ref q29, .int 0, .int 0, .int 0, .int 0, .int 0, .int 0, .ref a])), (q23, .inl (X.E 0, 8, .inl (fun _ => 0))), (q24, .inl (X.E 0, 8, .inl (fun _ => 0))), (q25, .inl (X.E 0, 8, .inl (fun _ => 0))), (q26, .inl (X.E 0, 8, .inl (fun _ => 0))), (q27, .inl (X.E 0, 8, .inl (fun _ => 0))), (q28, .inl (X.E 1, 8, .inl (fun _ => 0))), (q29, .inl (X.E 1, 8, .inl (fun _ => 0))), (q30, .inl (X.E 1, 8, .inl (fun _ => 0))), (q31, .inl (X.E 0, 90, .inl (fun _ => 0))), (q32, .inl (X.E 1, 40, .inl (fun _ => 0))), (q33, .inr (11, [.ref q35, .int 0, .int 0])), (q35, .inl (X.E 4, 17, .inr (.inr (.inr (.inr (fun _ => none)))))), (q36, .inr (6, [.ref q38, .ref q39, .ref q40, .ref q41, .ref q42, .ref q43, .ref q44, .int 0, .int 0, .int 0, .int 0, .int 0, .int 0, .ref a])), (q38, .inl (X.E 0, 8, .inl (fun _ => 0))), (q39, .inl (X.E 0, 8, .inl (fun _ => 0))), (q40, .inl (X.E 0, 8, .inl (fun _ => 0))), (q41, .inl (X.E 0, 8, .inl (fun _ => 0))), (q42, .inl (X.E 0, 8, .inl (fun _ => 0))), (q43, .inl (X.E 1, 8, .inl (fun _ => 0))), (q44, .inl (X.E 1, 8, .inl (fun _ => 0))), (q45, .inr (11, [.ref q47, .int 0, .int 0])), (q47, .inl (X.E 4, 17, .inr (.inr (.inr (.inr (fun _ => none)))))), (q48, .inl (X.E 6, 4, .inr (.inr (.inr (.inr (va_up (fun _ => none) (0 : Int32).toNatClampNeg (some q50))))))), (q49, .inl (X.E 2, 24, .inr (.inl (fun _ => 0)))), (q50, .inr (7, [.null]))]) h 38 40 rfl rfl rfl rfl (by decide) rfl dX0_init_179 ?_
  refine g_iinc (j := 0) (v := 1) (lv' := [(1, .int 1), (0, .ref a)]) h dX0_init_180 rfl (by decide) (hL 1 (fle rfl)) rfl ?_
  refine g_goto (tgt := 162) h dX0_init_183 rfl ?_
  refine g_iload_n h 0 dX0_init_162 rfl rfl ?_
  refine g_iconst (v := 4) h dX0_init_163 kiconst_4 ?_
  refine b_icmp_ge (tgt := 186) h dX0_init_164 rfl (fun c0 => absurd c0 (by decide)) (fun _ => ?_)
  refine g_aload_n h 1 dX0_init_167 rfl rfl ?_
  refine g_get (ci := 0) (v := .ref q48) h in_X0 0 14 rfl rfl (fle rfl) rfl q1125 rfl dX0_init_168 ?_
  refine g_iload_n h 0 dX0_init_171 rfl rfl ?_
  refine g_new (ci := 7) (fs := [.null]) h hR in_X7 tyX7 tyX7_ok q1099 q1101 q79 rfl df_X7 (fle rfl) (fle rfl) dX0_init_172 (fun q52 => ?_)
  refine G.sub (ws' := [(a, .inr (0, [.ref q1, .ref q12, .ref q21, .ref q30, .int falls, .int tears, .ref q31, .int typed, .int place, .ref q32, .ref q33, .ref q36, .ref q45, .int isKept, .ref q48, .ref q49])), (q1, .inl (X.E 5, 5, .inr (.inr (.inr (.inr (va_up (va_up (va_up (va_up (va_up (fun _ => none) (0 : Int32).toNatClampNeg (some q2)) (1 : Int32).toNatClampNeg (some q4)) (2 : Int32).toNatClampNeg (some q6)) (3 : Int32).toNatClampNeg (some q8)) (4 : Int32).toNatClampNeg (some q10))))))), (q2, .inr (1, [])), (q4, .inr (2, [])), (q6, .inr (3, [])), (q8, .inr (4, [])), (q10, .inr (5, [])), (q12, .inr (6, [.ref q14, .ref q15, .ref q16, .ref q17, .ref q18, .ref q19, .ref q20, .int 0, .int 0, .int 0, .int 0, .int 0, .int 0, .ref a])), (q14, .inl (X.E 0, 8, .inl (fun _ => 0))), (q15, .inl (X.E 0, 8, .inl (fun _ => 0))), (q16, .inl (X.E 0, 8, .inl (fun _ => 0))), (q17, .inl (X.E 0, 8, .inl (fun _ => 0))), (q18, .inl (X.E 0, 8, .inl (fun _ => 0))), (q19, .inl (X.E 1, 8, .inl (fun _ => 0))), (q20, .inl (X.E 1, 8, .inl (fun _ => 0))), (q21, .inr (6, [.ref q23, .ref q24, .ref q25, .ref q26, .ref q27, .ref q28, .ref q29, .int 0, .int 0, .int 0, .int 0, .int 0, .int 0, .ref a])), (q23, .inl (X.E 0, 8, .inl (fun _ => 0))), (q24, .inl (X.E 0, 8, .inl (fun _ => 0))), (q25, .inl (X.E 0, 8, .inl (fun _ => 0))), (q26, .inl (X.E 0, 8, .inl (fun _ => 0))), (q27, .inl (X.E 0, 8, .inl (fun _ => 0))), (q28, .inl (X.E 1, 8, .inl (fun _ => 0))), (q29, .inl (X.E 1, 8, .inl (fun _ => 0))), (q30, .inl (X.E 1, 8, .inl (fun _ => 0))), (q31, .inl (X.E 0, 90, .inl (fun _ => 0))), (q32, .inl (X.E 1, 40, .inl (fun _ => 0))), (q33, .inr (11, [.ref q35, .int 0, .int 0])), (q35, .inl (X.E 4, 17, .inr (.inr (.inr (.inr (fun _ => none)))))), (q36, .inr (6, [.ref q38, .ref q39, .ref q40, .ref q41, .ref q42, .ref q43, .ref q44, .int 0, .int 0, .int 0, .int 0, .int 0, .int 0, .ref a])), (q38, .inl (X.E 0, 8, .inl (fun _ => 0))), (q39, .inl (X.E 0, 8, .inl (fun _ => 0))), (q40, .inl (X.E 0, 8, .inl (fun _ => 0))), (q41, .inl (X.E 0, 8, .inl (fun _ => 0))), (q42, .inl (X.E 0, 8, .inl (fun _ => 0))), (q43, .inl (X.E 1, 8, .inl (fun _ => 0))), (q44, .inl (X.E 1, 8, .inl (fun _ => 0))), (q45, .inr (11, [.ref q47, .int 0, .int 0])), (q47, .inl (X.E 4, 17, .inr (.inr (.inr (.inr (fun _ => none)))))), (q48, .inl (X.E 6, 4, .inr (.inr (.inr (.inr (va_up (fun _ => none) (0 : Int32).toNatClampNeg (some q50))))))), (q49, .inl (X.E 2, 24, .inr (.inl (fun _ => 0)))), (q50, .inr (7, [.null])), (q52, .inr (7, [.null]))]) [0, 1, 2, 3, 4, 5, 6, 7, 8, 9, 10, 11, 12, 13, 14, 15, 16, 17, 18, 19, 20, 21, 22, 23, 24, 25, 26, 27, 28, 29, 30, 31, 32, 33, 34, 35, 36, 37, 38, 39, 40, 41] rfl rfl ?_
  refine g_dup h dX0_init_175 rfl ?_
  obtain ⟨u_53, hv, hf⟩ := ob1 hf
  refine g_callIN (n := 0) (As := []) (st := [.ref q52, .int 1, .ref q48]) (wr := [(a, .inr (0, [.ref q1, .ref q12, .ref q21, .ref q30, .int falls, .int tears, .ref q31, .int typed, .int place, .ref q32, .ref q33, .ref q36, .ref q45, .int isKept, .ref q48, .ref q49])), (q1, .inl (X.E 5, 5, .inr (.inr (.inr (.inr (va_up (va_up (va_up (va_up (va_up (fun _ => none) (0 : Int32).toNatClampNeg (some q2)) (1 : Int32).toNatClampNeg (some q4)) (2 : Int32).toNatClampNeg (some q6)) (3 : Int32).toNatClampNeg (some q8)) (4 : Int32).toNatClampNeg (some q10))))))), (q2, .inr (1, [])), (q4, .inr (2, [])), (q6, .inr (3, [])), (q8, .inr (4, [])), (q10, .inr (5, [])), (q12, .inr (6, [.ref q14, .ref q15, .ref q16, .ref q17, .ref q18, .ref q19, .ref q20, .int 0, .int 0, .int 0, .int 0, .int 0, .int 0, .ref a])), (q14, .inl (X.E 0, 8, .inl (fun _ => 0))), (q15, .inl (X.E 0, 8, .inl (fun _ => 0))), (q16, .inl (X.E 0, 8, .inl (fun _ => 0))), (q17, .inl (X.E 0, 8, .inl (fun _ => 0))), (q18, .inl (X.E 0, 8, .inl (fun _ => 0))), (q19, .inl (X.E 1, 8, .inl (fun _ => 0))), (q20, .inl (X.E 1, 8, .inl (fun _ => 0))), (q21, .inr (6, [.ref q23, .ref q24, .ref q25, .ref q26, .ref q27, .ref q28, .ref q29, .int 0, .int 0, .int 0, .int 0, .int 0, .int 0, .ref a])), (q23, .inl (X.E 0, 8, .inl (fun _ => 0))), (q24, .inl (X.E 0, 8, .inl (fun _ => 0))), (q25, .inl (X.E 0, 8, .inl (fun _ => 0))), (q26, .inl (X.E 0, 8, .inl (fun _ => 0))), (q27, .inl (X.E 0, 8, .inl (fun _ => 0))), (q28, .inl (X.E 1, 8, .inl (fun _ => 0))), (q29, .inl (X.E 1, 8, .inl (fun _ => 0))), (q30, .inl (X.E 1, 8, .inl (fun _ => 0))), (q31, .inl (X.E 0, 90, .inl (fun _ => 0))), (q32, .inl (X.E 1, 40, .inl (fun _ => 0))), (q33, .inr (11, [.ref q35, .int 0, .int 0])), (q35, .inl (X.E 4, 17, .inr (.inr (.inr (.inr (fun _ => none)))))), (q36, .inr (6, [.ref q38, .ref q39, .ref q40, .ref q41, .ref q42, .ref q43, .ref q44, .int 0, .int 0, .int 0, .int 0, .int 0, .int 0, .ref a])), (q38, .inl (X.E 0, 8, .inl (fun _ => 0))), (q39, .inl (X.E 0, 8, .inl (fun _ => 0))), (q40, .inl (X.E 0, 8, .inl (fun _ => 0))), (q41, .inl (X.E 0, 8, .inl (fun _ => 0))), (q42, .inl (X.E 0, 8, .inl (fun _ => 0))), (q43, .inl (X.E 1, 8, .inl (fun _ => 0))), (q44, .inl (X.E 1, 8, .inl (fun _ => 0))), (q45, .inr (11, [.ref q47, .int 0, .int 0])), (q47, .inl (X.E 4, 17, .inr (.inr (.inr (.inr (fun _ => none)))))), (q48, .inl (X.E 6, 4, .inr (.inr (.inr (.inr (va_up (fun _ => none) (0 : Int32).toNatClampNeg (some q50))))))), (q49, .inl (X.E 2, 24, .inr (.inl (fun _ => 0)))), (q50, .inr (7, [.null])), (q52, .inr (7, [.null]))]) (isC := []) (isR := [0, 1, 2, 3, 4, 5, 6, 7, 8, 9, 10, 11, 12, 13, 14, 15, 16, 17, 18, 19, 20, 21, 22, 23, 24, 25, 26, 27, 28, 29, 30, 31, 32, 33, 34, 35, 36, 37, 38, 39, 40, 41]) h hR (ct_X7_init (a := q52) hv) q1104 q79 q1102 q1103 rfl (by decide +kernel) rfl ⟨rfl, rfl, rfl, rfl, by decide⟩ ⟨fle rfl, fle rfl, fle rfl, fle rfl, fle rfl⟩ rfl dX0_init_176 (pin (perm := [0, 1, 2, 3, 4, 5, 6, 7, 8, 9, 10, 11, 12, 13, 14, 15, 16, 17, 18, 19, 20, 21, 22, 23, 24, 25, 26, 27, 28, 29, 30, 31, 32, 33, 34, 35, 36, 37, 38, 39, 40, 41]) (ws' := [(a, .inr (0, [.ref q1, .ref q12, .ref q21, .ref q30, .int falls, .int tears, .ref q31, .int typed, .int place, .ref q32, .ref q33, .ref q36, .ref q45, .int isKept, .ref q48, .ref q49])), (q1, .inl (X.E 5, 5, .inr (.inr (.inr (.inr (va_up (va_up (va_up (va_up (va_up (fun _ => none) (0 : Int32).toNatClampNeg (some q2)) (1 : Int32).toNatClampNeg (some q4)) (2 : Int32).toNatClampNeg (some q6)) (3 : Int32).toNatClampNeg (some q8)) (4 : Int32).toNatClampNeg (some q10))))))), (q2, .inr (1, [])), (q4, .inr (2, [])), (q6, .inr (3, [])), (q8, .inr (4, [])), (q10, .inr (5, [])), (q12, .inr (6, [.ref q14, .ref q15, .ref q16, .ref q17, .ref q18, .ref q19, .ref q20, .int 0, .int 0, .int 0, .int 0, .int 0, .int 0, .ref a])), (q14, .inl (X.E 0, 8, .inl (fun _ => 0))), (q15, .inl (X.E 0, 8, .inl (fun _ => 0))), (q16, .inl (X.E 0, 8, .inl (fun _ => 0))), (q17, .inl (X.E 0, 8, .inl (fun _ => 0))), (q18, .inl (X.E 0, 8, .inl (fun _ => 0))), (q19, .inl (X.E 1, 8, .inl (fun _ => 0))), (q20, .inl (X.E 1, 8, .inl (fun _ => 0))), (q21, .inr (6, [.ref q23, .ref q24, .ref q25, .ref q26, .ref q27, .ref q28, .ref q29, .int 0, .int 0, .int 0, .int 0, .int 0, .int 0, .ref a])), (q23, .inl (X.E 0, 8, .inl (fun _ => 0))), (q24, .inl (X.E 0, 8, .inl (fun _ => 0))), (q25, .inl (X.E 0, 8, .inl (fun _ => 0))), (q26, .inl (X.E 0, 8, .inl (fun _ => 0))), (q27, .inl (X.E 0, 8, .inl (fun _ => 0))), (q28, .inl (X.E 1, 8, .inl (fun _ => 0))), (q29, .inl (X.E 1, 8, .inl (fun _ => 0))), (q30, .inl (X.E 1, 8, .inl (fun _ => 0))), (q31, .inl (X.E 0, 90, .inl (fun _ => 0))), (q32, .inl (X.E 1, 40, .inl (fun _ => 0))), (q33, .inr (11, [.ref q35, .int 0, .int 0])), (q35, .inl (X.E 4, 17, .inr (.inr (.inr (.inr (fun _ => none)))))), (q36, .inr (6, [.ref q38, .ref q39, .ref q40, .ref q41, .ref q42, .ref q43, .ref q44, .int 0, .int 0, .int 0, .int 0, .int 0, .int 0, .ref a])), (q38, .inl (X.E 0, 8, .inl (fun _ => 0))), (q39, .inl (X.E 0, 8, .inl (fun _ => 0))), (q40, .inl (X.E 0, 8, .inl (fun _ => 0))), (q41, .inl (X.E 0, 8, .inl (fun _ => 0))), (q42, .inl (X.E 0, 8, .inl (fun _ => 0))), (q43, .inl (X.E 1, 8, .inl (fun _ => 0))), (q44, .inl (X.E 1, 8, .inl (fun _ => 0))), (q45, .inr (11, [.ref q47, .int 0, .int 0])), (q47, .inl (X.E 4, 17, .inr (.inr (.inr (.inr (fun _ => none)))))), (q48, .inl (X.E 6, 4, .inr (.inr (.inr (.inr (va_up (fun _ => none) (0 : Int32).toNatClampNeg (some q50))))))), (q49, .inl (X.E 2, 24, .inr (.inl (fun _ => 0)))), (q50, .inr (7, [.null])), (q52, .inr (7, [.null]))]) (stk := [.ref q52, .int 1, .ref q48]) rfl rfl rfl ?_)
  clear hv
  refine g_aastS (t0 := 6) (ci := 7) (r := (RX7, TX7, 1)) (ws' := [(a, .inr (0, [.ref q1, .ref q12, .ref q21, .ref q30, .int falls, .int tears, .ref q31, .int typed, .int place, .ref q32, .ref q33, .ref q36, .ref q45, .int isKept, .ref q48, .ref q49])), (q1, .inl (X.E 5, 5, .inr (.inr (.inr (.inr (va_up (va_up (va_up (va_up (va_up (fun _ => none) (0 : Int32).toNatClampNeg (some q2)) (1 : Int32).toNatClampNeg (some q4)) (2 : Int32).toNatClampNeg (some q6)) (3 : Int32).toNatClampNeg (some q8)) (4 : Int32).toNatClampNeg (some q10))))))), (q2, .inr (1, [])), (q4, .inr (2, [])), (q6, .inr (3, [])), (q8, .inr (4, [])), (q10, .inr (5, [])), (q12, .inr (6, [.ref q14, .ref q15, .ref q16, .ref q17, .ref q18, .ref q19, .ref q20, .int 0, .int 0, .int 0, .int 0, .int 0, .int 0, .ref a])), (q14, .inl (X.E 0, 8, .inl (fun _ => 0))), (q15, .inl (X.E 0, 8, .inl (fun _ => 0))), (q16, .inl (X.E 0, 8, .inl (fun _ => 0))), (q17, .inl (X.E 0, 8, .inl (fun _ => 0))), (q18, .inl (X.E 0, 8, .inl (fun _ => 0))), (q19, .inl (X.E 1, 8, .inl (fun _ => 0))), (q20, .inl (X.E 1, 8, .inl (fun _ => 0))), (q21, .inr (6, [.ref q23, .ref q24, .ref q25, .ref q26, .ref q27, .ref q28, .ref q29, .int 0, .int 0, .int 0, .int 0, .int 0, .int 0, .ref a])), (q23, .inl (X.E 0, 8, .inl (fun _ => 0))), (q24, .inl (X.E 0, 8, .inl (fun _ => 0))), (q25, .inl (X.E 0, 8, .inl (fun _ => 0))), (q26, .inl (X.E 0, 8, .inl (fun _ => 0))), (q27, .inl (X.E 0, 8, .inl (fun _ => 0))), (q28, .inl (X.E 1, 8, .inl (fun _ => 0))), (q29, .inl (X.E 1, 8, .inl (fun _ => 0))), (q30, .inl (X.E 1, 8, .inl (fun _ => 0))), (q31, .inl (X.E 0, 90, .inl (fun _ => 0))), (q32, .inl (X.E 1, 40, .inl (fun _ => 0))), (q33, .inr (11, [.ref q35, .int 0, .int 0])), (q35, .inl (X.E 4, 17, .inr (.inr (.inr (.inr (fun _ => none)))))), (q36, .inr (6, [.ref q38, .ref q39, .ref q40, .ref q41, .ref q42, .ref q43, .ref q44, .int 0, .int 0, .int 0, .int 0, .int 0, .int 0, .ref a])), (q38, .inl (X.E 0, 8, .inl (fun _ => 0))), (q39, .inl (X.E 0, 8, .inl (fun _ => 0))), (q40, .inl (X.E 0, 8, .inl (fun _ => 0))), (q41, .inl (X.E 0, 8, .inl (fun _ => 0))), (q42, .inl (X.E 0, 8, .inl (fun _ => 0))), (q43, .inl (X.E 1, 8, .inl (fun _ => 0))), (q44, .inl (X.E 1, 8, .inl (fun _ => 0))), (q45, .inr (11, [.ref q47, .int 0, .int 0])), (q47, .inl (X.E 4, 17, .inr (.inr (.inr (.inr (fun _ => none)))))), (q48, .inl (X.E 6, 4, .inr (.inr (.inr (.inr (va_up (va_up (fun _ => none) (0 : Int32).toNatClampNeg (some q50)) (1 : Int32).toNatClampNeg (some q52))))))), (q49, .inl (X.E 2, 24, .inr (.inl (fun _ => 0)))), (q50, .inr (7, [.null])), (q52, .inr (7, [.null]))]) h 38 41 rfl rfl rfl rfl (by decide) rfl dX0_init_179 ?_
  refine g_iinc (j := 0) (v := 2) (lv' := [(1, .int 2), (0, .ref a)]) h dX0_init_180 rfl (by decide) (hL 1 (fle rfl)) rfl ?_
  refine g_goto (tgt := 162) h dX0_init_183 rfl ?_
  refine g_iload_n h 0 dX0_init_162 rfl rfl ?_
  refine g_iconst (v := 4) h dX0_init_163 kiconst_4 ?_
  refine b_icmp_ge (tgt := 186) h dX0_init_164 rfl (fun c0 => absurd c0 (by decide)) (fun _ => ?_)
  refine g_aload_n h 1 dX0_init_167 rfl rfl ?_
  refine g_get (ci := 0) (v := .ref q48) h in_X0 0 14 rfl rfl (fle rfl) rfl q1125 rfl dX0_init_168 ?_
  refine g_iload_n h 0 dX0_init_171 rfl rfl ?_
  refine g_new (ci := 7) (fs := [.null]) h hR in_X7 tyX7 tyX7_ok q1099 q1101 q79 rfl df_X7 (fle rfl) (fle rfl) dX0_init_172 (fun q54 => ?_)
  refine G.sub (ws' := [(a, .inr (0, [.ref q1, .ref q12, .ref q21, .ref q30, .int falls, .int tears, .ref q31, .int typed, .int place, .ref q32, .ref q33, .ref q36, .ref q45, .int isKept, .ref q48, .ref q49])), (q1, .inl (X.E 5, 5, .inr (.inr (.inr (.inr (va_up (va_up (va_up (va_up (va_up (fun _ => none) (0 : Int32).toNatClampNeg (some q2)) (1 : Int32).toNatClampNeg (some q4)) (2 : Int32).toNatClampNeg (some q6)) (3 : Int32).toNatClampNeg (some q8)) (4 : Int32).toNatClampNeg (some q10))))))), (q2, .inr (1, [])), (q4, .inr (2, [])), (q6, .inr (3, [])), (q8, .inr (4, [])), (q10, .inr (5, [])), (q12, .inr (6, [.ref q14, .ref q15, .ref q16, .ref q17, .ref q18, .ref q19, .ref q20, .int 0, .int 0, .int 0, .int 0, .int 0, .int 0, .ref a])), (q14, .inl (X.E 0, 8, .inl (fun _ => 0))), (q15, .inl (X.E 0, 8, .inl (fun _ => 0))), (q16, .inl (X.E 0, 8, .inl (fun _ => 0))), (q17, .inl (X.E 0, 8, .inl (fun _ => 0))), (q18, .inl (X.E 0, 8, .inl (fun _ => 0))), (q19, .inl (X.E 1, 8, .inl (fun _ => 0))), (q20, .inl (X.E 1, 8, .inl (fun _ => 0))), (q21, .inr (6, [.ref q23, .ref q24, .ref q25, .ref q26, .ref q27, .ref q28, .ref q29, .int 0, .int 0, .int 0, .int 0, .int 0, .int 0, .ref a])), (q23, .inl (X.E 0, 8, .inl (fun _ => 0))), (q24, .inl (X.E 0, 8, .inl (fun _ => 0))), (q25, .inl (X.E 0, 8, .inl (fun _ => 0))), (q26, .inl (X.E 0, 8, .inl (fun _ => 0))), (q27, .inl (X.E 0, 8, .inl (fun _ => 0))), (q28, .inl (X.E 1, 8, .inl (fun _ => 0))), (q29, .inl (X.E 1, 8, .inl (fun _ => 0))), (q30, .inl (X.E 1, 8, .inl (fun _ => 0))), (q31, .inl (X.E 0, 90, .inl (fun _ => 0))), (q32, .inl (X.E 1, 40, .inl (fun _ => 0))), (q33, .inr (11, [.ref q35, .int 0, .int 0])), (q35, .inl (X.E 4, 17, .inr (.inr (.inr (.inr (fun _ => none)))))), (q36, .inr (6, [.ref q38, .ref q39, .ref q40, .ref q41, .ref q42, .ref q43, .ref q44, .int 0, .int 0, .int 0, .int 0, .int 0, .int 0, .ref a])), (q38, .inl (X.E 0, 8, .inl (fun _ => 0))), (q39, .inl (X.E 0, 8, .inl (fun _ => 0))), (q40, .inl (X.E 0, 8, .inl (fun _ => 0))), (q41, .inl (X.E 0, 8, .inl (fun _ => 0))), (q42, .inl (X.E 0, 8, .inl (fun _ => 0))), (q43, .inl (X.E 1, 8, .inl (fun _ => 0))), (q44, .inl (X.E 1, 8, .inl (fun _ => 0))), (q45, .inr (11, [.ref q47, .int 0, .int 0])), (q47, .inl (X.E 4, 17, .inr (.inr (.inr (.inr (fun _ => none)))))), (q48, .inl (X.E 6, 4, .inr (.inr (.inr (.inr (va_up (va_up (fun _ => none) (0 : Int32).toNatClampNeg (some q50)) (1 : Int32).toNatClampNeg (some q52))))))), (q49, .inl (X.E 2, 24, .inr (.inl (fun _ => 0)))), (q50, .inr (7, [.null])), (q52, .inr (7, [.null])), (q54, .inr (7, [.null]))]) [0, 1, 2, 3, 4, 5, 6, 7, 8, 9, 10, 11, 12, 13, 14, 15, 16, 17, 18, 19, 20, 21, 22, 23, 24, 25, 26, 27, 28, 29, 30, 31, 32, 33, 34, 35, 36, 37, 38, 39, 40, 41, 42] rfl rfl ?_
  refine g_dup h dX0_init_175 rfl ?_
  obtain ⟨u_55, hv, hf⟩ := ob1 hf
  refine g_callIN (n := 0) (As := []) (st := [.ref q54, .int 2, .ref q48]) (wr := [(a, .inr (0, [.ref q1, .ref q12, .ref q21, .ref q30, .int falls, .int tears, .ref q31, .int typed, .int place, .ref q32, .ref q33, .ref q36, .ref q45, .int isKept, .ref q48, .ref q49])), (q1, .inl (X.E 5, 5, .inr (.inr (.inr (.inr (va_up (va_up (va_up (va_up (va_up (fun _ => none) (0 : Int32).toNatClampNeg (some q2)) (1 : Int32).toNatClampNeg (some q4)) (2 : Int32).toNatClampNeg (some q6)) (3 : Int32).toNatClampNeg (some q8)) (4 : Int32).toNatClampNeg (some q10))))))), (q2, .inr (1, [])), (q4, .inr (2, [])), (q6, .inr (3, [])), (q8, .inr (4, [])), (q10, .inr (5, [])), (q12, .inr (6, [.ref q14, .ref q15, .ref q16, .ref q17, .ref q18, .ref q19, .ref q20, .int 0, .int 0, .int 0, .int 0, .int 0, .int 0, .ref a])), (q14, .inl (X.E 0, 8, .inl (fun _ => 0))), (q15, .inl (X.E 0, 8, .inl (fun _ => 0))), (q16, .inl (X.E 0, 8, .inl (fun _ => 0))), (q17, .inl (X.E 0, 8, .inl (fun _ => 0))), (q18, .inl (X.E 0, 8, .inl (fun _ => 0))), (q19, .inl (X.E 1, 8, .inl (fun _ => 0))), (q20, .inl (X.E 1, 8, .inl (fun _ => 0))), (q21, .inr (6, [.ref q23, .ref q24, .ref q25, .ref q26, .ref q27, .ref q28, .ref q29, .int 0, .int 0, .int 0, .int 0, .int 0, .int 0, .ref a])), (q23, .inl (X.E 0, 8, .inl (fun _ => 0))), (q24, .inl (X.E 0, 8, .inl (fun _ => 0))), (q25, .inl (X.E 0, 8, .inl (fun _ => 0))), (q26, .inl (X.E 0, 8, .inl (fun _ => 0))), (q27, .inl (X.E 0, 8, .inl (fun _ => 0))), (q28, .inl (X.E 1, 8, .inl (fun _ => 0))), (q29, .inl (X.E 1, 8, .inl (fun _ => 0))), (q30, .inl (X.E 1, 8, .inl (fun _ => 0))), (q31, .inl (X.E 0, 90, .inl (fun _ => 0))), (q32, .inl (X.E 1, 40, .inl (fun _ => 0))), (q33, .inr (11, [.ref q35, .int 0, .int 0])), (q35, .inl (X.E 4, 17, .inr (.inr (.inr (.inr (fun _ => none)))))), (q36, .inr (6, [.ref q38, .ref q39, .ref q40, .ref q41, .ref q42, .ref q43, .ref q44, .int 0, .int 0, .int 0, .int 0, .int 0, .int 0, .ref a])), (q38, .inl (X.E 0, 8, .inl (fun _ => 0))), (q39, .inl (X.E 0, 8, .inl (fun _ => 0))), (q40, .inl (X.E 0, 8, .inl (fun _ => 0))), (q41, .inl (X.E 0, 8, .inl (fun _ => 0))), (q42, .inl (X.E 0, 8, .inl (fun _ => 0))), (q43, .inl (X.E 1, 8, .inl (fun _ => 0))), (q44, .inl (X.E 1, 8, .inl (fun _ => 0))), (q45, .inr (11, [.ref q47, .int 0, .int 0])), (q47, .inl (X.E 4, 17, .inr (.inr (.inr (.inr (fun _ => none)))))), (q48, .inl (X.E 6, 4, .inr (.inr (.inr (.inr (va_up (va_up (fun _ => none) (0 : Int32).toNatClampNeg (some q50)) (1 : Int32).toNatClampNeg (some q52))))))), (q49, .inl (X.E 2, 24, .inr (.inl (fun _ => 0)))), (q50, .inr (7, [.null])), (q52, .inr (7, [.null])), (q54, .inr (7, [.null]))]) (isC := []) (isR := [0, 1, 2, 3, 4, 5, 6, 7, 8, 9, 10, 11, 12, 13, 14, 15, 16, 17, 18, 19, 20, 21, 22, 23, 24, 25, 26, 27, 28, 29, 30, 31, 32, 33, 34, 35, 36, 37, 38, 39, 40, 41, 42]) h hR (ct_X7_init (a := q54) hv) q1104 q79 q1102 q1103 rfl (by decide +kernel) rfl ⟨rfl, rfl, rfl, rfl, by decide⟩ ⟨fle rfl, fle rfl, fle rfl, fle rfl, fle rfl⟩ rfl dX0_init_176 (pin (perm := [0, 1, 2, 3, 4, 5, 6, 7, 8, 9, 10, 11, 12, 13, 14, 15, 16, 17, 18, 19, 20, 21, 22, 23, 24, 25, 26, 27, 28, 29, 30, 31, 32, 33, 34, 35, 36, 37, 38, 39, 40, 41, 42]) (ws' := [(a, .inr (0, [.ref q1, .ref q12, .ref q21, .ref q30, .int falls, .int tears, .ref q31, .int typed, .int place, .ref q32, .ref q33, .ref q36, .ref q45, .int isKept, .ref q48, .ref q49])), (q1, .inl (X.E 5, 5, .inr (.inr (.inr (.inr (va_up (va_up (va_up (va_up (va_up (fun _ => none) (0 : Int32).toNatClampNeg (some q2)) (1 : Int32).toNatClampNeg (some q4)) (2 : Int32).toNatClampNeg (some q6)) (3 : Int32).toNatClampNeg (some q8)) (4 : Int32).toNatClampNeg (some q10))))))), (q2, .inr (1, [])), (q4, .inr (2, [])), (q6, .inr (3, [])), (q8, .inr (4, [])), (q10, .inr (5, [])), (q12, .inr (6, [.ref q14, .ref q15, .ref q16, .ref q17, .ref q18, .ref q19, .ref q20, .int 0, .int 0, .int 0, .int 0, .int 0, .int 0, .ref a])), (q14, .inl (X.E 0, 8, .inl (fun _ => 0))), (q15, .inl (X.E 0, 8, .inl (fun _ => 0))), (q16, .inl (X.E 0, 8, .inl (fun _ => 0))), (q17, .inl (X.E 0, 8, .inl (fun _ => 0))), (q18, .inl (X.E 0, 8, .inl (fun _ => 0))), (q19, .inl (X.E 1, 8, .inl (fun _ => 0))), (q20, .inl (X.E 1, 8, .inl (fun _ => 0))), (q21, .inr (6, [.ref q23, .ref q24, .ref q25, .ref q26, .ref q27, .ref q28, .ref q29, .int 0, .int 0, .int 0, .int 0, .int 0, .int 0, .ref a])), (q23, .inl (X.E 0, 8, .inl (fun _ => 0))), (q24, .inl (X.E 0, 8, .inl (fun _ => 0))), (q25, .inl (X.E 0, 8, .inl (fun _ => 0))), (q26, .inl (X.E 0, 8, .inl (fun _ => 0))), (q27, .inl (X.E 0, 8, .inl (fun _ => 0))), (q28, .inl (X.E 1, 8, .inl (fun _ => 0))), (q29, .inl (X.E 1, 8, .inl (fun _ => 0))), (q30, .inl (X.E 1, 8, .inl (fun _ => 0))), (q31, .inl (X.E 0, 90, .inl (fun _ => 0))), (q32, .inl (X.E 1, 40, .inl (fun _ => 0))), (q33, .inr (11, [.ref q35, .int 0, .int 0])), (q35, .inl (X.E 4, 17, .inr (.inr (.inr (.inr (fun _ => none)))))), (q36, .inr (6, [.ref q38, .ref q39, .ref q40, .ref q41, .ref q42, .ref q43, .ref q44, .int 0, .int 0, .int 0, .int 0, .int 0, .int 0, .ref a])), (q38, .inl (X.E 0, 8, .inl (fun _ => 0))), (q39, .inl (X.E 0, 8, .inl (fun _ => 0))), (q40, .inl (X.E 0, 8, .inl (fun _ => 0))), (q41, .inl (X.E 0, 8, .inl (fun _ => 0))), (q42, .inl (X.E 0, 8, .inl (fun _ => 0))), (q43, .inl (X.E 1, 8, .inl (fun _ => 0))), (q44, .inl (X.E 1, 8, .inl (fun _ => 0))), (q45, .inr (11, [.ref q47, .int 0, .int 0])), (q47, .inl (X.E 4, 17, .inr (.inr (.inr (.inr (fun _ => none)))))), (q48, .inl (X.E 6, 4, .inr (.inr (.inr (.inr (va_up (va_up (fun _ => none) (0 : Int32).toNatClampNeg (some q50)) (1 : Int32).toNatClampNeg (some q52))))))), (q49, .inl (X.E 2, 24, .inr (.inl (fun _ => 0)))), (q50, .inr (7, [.null])), (q52, .inr (7, [.null])), (q54, .inr (7, [.null]))]) (stk := [.ref q54, .int 2, .ref q48]) rfl rfl rfl ?_)
  clear hv
  refine g_aastS (t0 := 6) (ci := 7) (r := (RX7, TX7, 1)) (ws' := [(a, .inr (0, [.ref q1, .ref q12, .ref q21, .ref q30, .int falls, .int tears, .ref q31, .int typed, .int place, .ref q32, .ref q33, .ref q36, .ref q45, .int isKept, .ref q48, .ref q49])), (q1, .inl (X.E 5, 5, .inr (.inr (.inr (.inr (va_up (va_up (va_up (va_up (va_up (fun _ => none) (0 : Int32).toNatClampNeg (some q2)) (1 : Int32).toNatClampNeg (some q4)) (2 : Int32).toNatClampNeg (some q6)) (3 : Int32).toNatClampNeg (some q8)) (4 : Int32).toNatClampNeg (some q10))))))), (q2, .inr (1, [])), (q4, .inr (2, [])), (q6, .inr (3, [])), (q8, .inr (4, [])), (q10, .inr (5, [])), (q12, .inr (6, [.ref q14, .ref q15, .ref q16, .ref q17, .ref q18, .ref q19, .ref q20, .int 0, .int 0, .int 0, .int 0, .int 0, .int 0, .ref a])), (q14, .inl (X.E 0, 8, .inl (fun _ => 0))), (q15, .inl (X.E 0, 8, .inl (fun _ => 0))), (q16, .inl (X.E 0, 8, .inl (fun _ => 0))), (q17, .inl (X.E 0, 8, .inl (fun _ => 0))), (q18, .inl (X.E 0, 8, .inl (fun _ => 0))), (q19, .inl (X.E 1, 8, .inl (fun _ => 0))), (q20, .inl (X.E 1, 8, .inl (fun _ => 0))), (q21, .inr (6, [.ref q23, .ref q24, .ref q25, .ref q26, .ref q27, .ref q28, .ref q29, .int 0, .int 0, .int 0, .int 0, .int 0, .int 0, .ref a])), (q23, .inl (X.E 0, 8, .inl (fun _ => 0))), (q24, .inl (X.E 0, 8, .inl (fun _ => 0))), (q25, .inl (X.E 0, 8, .inl (fun _ => 0))), (q26, .inl (X.E 0, 8, .inl (fun _ => 0))), (q27, .inl (X.E 0, 8, .inl (fun _ => 0))), (q28, .inl (X.E 1, 8, .inl (fun _ => 0))), (q29, .inl (X.E 1, 8, .inl (fun _ => 0))), (q30, .inl (X.E 1, 8, .inl (fun _ => 0))), (q31, .inl (X.E 0, 90, .inl (fun _ => 0))), (q32, .inl (X.E 1, 40, .inl (fun _ => 0))), (q33, .inr (11, [.ref q35, .int 0, .int 0])), (q35, .inl (X.E 4, 17, .inr (.inr (.inr (.inr (fun _ => none)))))), (q36, .inr (6, [.ref q38, .ref q39, .ref q40, .ref q41, .ref q42, .ref q43, .ref q44, .int 0, .int 0, .int 0, .int 0, .int 0, .int 0, .ref a])), (q38, .inl (X.E 0, 8, .inl (fun _ => 0))), (q39, .inl (X.E 0, 8, .inl (fun _ => 0))), (q40, .inl (X.E 0, 8, .inl (fun _ => 0))), (q41, .inl (X.E 0, 8, .inl (fun _ => 0))), (q42, .inl (X.E 0, 8, .inl (fun _ => 0))), (q43, .inl (X.E 1, 8, .inl (fun _ => 0))), (q44, .inl (X.E 1, 8, .inl (fun _ => 0))), (q45, .inr (11, [.ref q47, .int 0, .int 0])), (q47, .inl (X.E 4, 17, .inr (.inr (.inr (.inr (fun _ => none)))))), (q48, .inl (X.E 6, 4, .inr (.inr (.inr (.inr (va_up (va_up (va_up (fun _ => none) (0 : Int32).toNatClampNeg (some q50)) (1 : Int32).toNatClampNeg (some q52)) (2 : Int32).toNatClampNeg (some q54))))))), (q49, .inl (X.E 2, 24, .inr (.inl (fun _ => 0)))), (q50, .inr (7, [.null])), (q52, .inr (7, [.null])), (q54, .inr (7, [.null]))]) h 38 42 rfl rfl rfl rfl (by decide) rfl dX0_init_179 ?_
  refine g_iinc (j := 0) (v := 3) (lv' := [(1, .int 3), (0, .ref a)]) h dX0_init_180 rfl (by decide) (hL 1 (fle rfl)) rfl ?_
  refine g_goto (tgt := 162) h dX0_init_183 rfl ?_
  refine g_iload_n h 0 dX0_init_162 rfl rfl ?_
  refine g_iconst (v := 4) h dX0_init_163 kiconst_4 ?_
  refine b_icmp_ge (tgt := 186) h dX0_init_164 rfl (fun c0 => absurd c0 (by decide)) (fun _ => ?_)
  refine g_aload_n h 1 dX0_init_167 rfl rfl ?_
  refine g_get (ci := 0) (v := .ref q48) h in_X0 0 14 rfl rfl (fle rfl) rfl q1125 rfl dX0_init_168 ?_
  refine g_iload_n h 0 dX0_init_171 rfl rfl ?_
  refine g_new (ci := 7) (fs := [.null]) h hR in_X7 tyX7 tyX7_ok q1099 q1101 q79 rfl df_X7 (fle rfl) (fle rfl) dX0_init_172 (fun q56 => ?_)
  refine G.sub (ws' := [(a, .inr (0, [.ref q1, .ref q12, .ref q21, .ref q30, .int falls, .int tears, .ref q31, .int typed, .int place, .ref q32, .ref q33, .ref q36, .ref q45, .int isKept, .ref q48, .ref q49])), (q1, .inl (X.E 5, 5, .inr (.inr (.inr (.inr (va_up (va_up (va_up (va_up (va_up (fun _ => none) (0 : Int32).toNatClampNeg (some q2)) (1 : Int32).toNatClampNeg (some q4)) (2 : Int32).toNatClampNeg (some q6)) (3 : Int32).toNatClampNeg (some q8)) (4 : Int32).toNatClampNeg (some q10))))))), (q2, .inr (1, [])), (q4, .inr (2, [])), (q6, .inr (3, [])), (q8, .inr (4, [])), (q10, .inr (5, [])), (q12, .inr (6, [.ref q14, .ref q15, .ref q16, .ref q17, .ref q18, .ref q19, .ref q20, .int 0, .int 0, .int 0, .int 0, .int 0, .int 0, .ref a])), (q14, .inl (X.E 0, 8, .inl (fun _ => 0))), (q15, .inl (X.E 0, 8, .inl (fun _ => 0))), (q16, .inl (X.E 0, 8, .inl (fun _ => 0))), (q17, .inl (X.E 0, 8, .inl (fun _ => 0))), (q18, .inl (X.E 0, 8, .inl (fun _ => 0))), (q19, .inl (X.E 1, 8, .inl (fun _ => 0))), (q20, .inl (X.E 1, 8, .inl (fun _ => 0))), (q21, .inr (6, [.ref q23, .ref q24, .ref q25, .ref q26, .ref q27, .ref q28, .ref q29, .int 0, .int 0, .int 0, .int 0, .int 0, .int 0, .ref a])), (q23, .inl (X.E 0, 8, .inl (fun _ => 0))), (q24, .inl (X.E 0, 8, .inl (fun _ => 0))), (q25, .inl (X.E 0, 8, .inl (fun _ => 0))), (q26, .inl (X.E 0, 8, .inl (fun _ => 0))), (q27, .inl (X.E 0, 8, .inl (fun _ => 0))), (q28, .inl (X.E 1, 8, .inl (fun _ => 0))), (q29, .inl (X.E 1, 8, .inl (fun _ => 0))), (q30, .inl (X.E 1, 8, .inl (fun _ => 0))), (q31, .inl (X.E 0, 90, .inl (fun _ => 0))), (q32, .inl (X.E 1, 40, .inl (fun _ => 0))), (q33, .inr (11, [.ref q35, .int 0, .int 0])), (q35, .inl (X.E 4, 17, .inr (.inr (.inr (.inr (fun _ => none)))))), (q36, .inr (6, [.ref q38, .ref q39, .ref q40, .ref q41, .ref q42, .ref q43, .ref q44, .int 0, .int 0, .int 0, .int 0, .int 0, .int 0, .ref a])), (q38, .inl (X.E 0, 8, .inl (fun _ => 0))), (q39, .inl (X.E 0, 8, .inl (fun _ => 0))), (q40, .inl (X.E 0, 8, .inl (fun _ => 0))), (q41, .inl (X.E 0, 8, .inl (fun _ => 0))), (q42, .inl (X.E 0, 8, .inl (fun _ => 0))), (q43, .inl (X.E 1, 8, .inl (fun _ => 0))), (q44, .inl (X.E 1, 8, .inl (fun _ => 0))), (q45, .inr (11, [.ref q47, .int 0, .int 0])), (q47, .inl (X.E 4, 17, .inr (.inr (.inr (.inr (fun _ => none)))))), (q48, .inl (X.E 6, 4, .inr (.inr (.inr (.inr (va_up (va_up (va_up (fun _ => none) (0 : Int32).toNatClampNeg (some q50)) (1 : Int32).toNatClampNeg (some q52)) (2 : Int32).toNatClampNeg (some q54))))))), (q49, .inl (X.E 2, 24, .inr (.inl (fun _ => 0)))), (q50, .inr (7, [.null])), (q52, .inr (7, [.null])), (q54, .inr (7, [.null])), (q56, .inr (7, [.null]))]) [0, 1, 2, 3, 4, 5, 6, 7, 8, 9, 10, 11, 12, 13, 14, 15, 16, 17, 18, 19, 20, 21, 22, 23, 24, 25, 26, 27, 28, 29, 30, 31, 32, 33, 34, 35, 36, 37, 38, 39, 40, 41, 42, 43] rfl rfl ?_
  refine g_dup h dX0_init_175 rfl ?_
  obtain ⟨u_57, hv, hf⟩ := ob1 hf
  refine g_callIN (n := 0) (As := []) (st := [.ref q56, .int 3, .ref q48]) (wr := [(a, .inr (0, [.ref q1, .ref q12, .ref q21, .ref q30, .int falls, .int tears, .ref q31, .int typed, .int place, .ref q32, .ref q33, .ref q36, .ref q45, .int isKept, .ref q48, .ref q49])), (q1, .inl (X.E 5, 5, .inr (.inr (.inr (.inr (va_up (va_up (va_up (va_up (va_up (fun _ => none) (0 : Int32).toNatClampNeg (some q2)) (1 : Int32).toNatClampNeg (some q4)) (2 : Int32).toNatClampNeg (some q6)) (3 : Int32).toNatClampNeg (some q8)) (4 : Int32).toNatClampNeg (some q10))))))), (q2, .inr (1, [])), (q4, .inr (2, [])), (q6, .inr (3, [])), (q8, .inr (4, [])), (q10, .inr (5, [])), (q12, .inr (6, [.ref q14, .ref q15, .ref q16, .ref q17, .ref q18, .ref q19, .ref q20, .int 0, .int 0, .int 0, .int 0, .int 0, .int 0, .ref a])), (q14, .inl (X.E 0, 8, .inl (fun _ => 0))), (q15, .inl (X.E 0, 8, .inl (fun _ => 0))), (q16, .inl (X.E 0, 8, .inl (fun _ => 0))), (q17, .inl (X.E 0, 8, .inl (fun _ => 0))), (q18, .inl (X.E 0, 8, .inl (fun _ => 0))), (q19, .inl (X.E 1, 8, .inl (fun _ => 0))), (q20, .inl (X.E 1, 8, .inl (fun _ => 0))), (q21, .inr (6, [.ref q23, .ref q24, .ref q25, .ref q26, .ref q27, .ref q28, .ref q29, .int 0, .int 0, .int 0, .int 0, .int 0, .int 0, .ref a])), (q23, .inl (X.E 0, 8, .inl (fun _ => 0))), (q24, .inl (X.E 0, 8, .inl (fun _ => 0))), (q25, .inl (X.E 0, 8, .inl (fun _ => 0))), (q26, .inl (X.E 0, 8, .inl (fun _ => 0))), (q27, .inl (X.E 0, 8, .inl (fun _ => 0))), (q28, .inl (X.E 1, 8, .inl (fun _ => 0))), (q29, .inl (X.E 1, 8, .inl (fun _ => 0))), (q30, .inl (X.E 1, 8, .inl (fun _ => 0))), (q31, .inl (X.E 0, 90, .inl (fun _ => 0))), (q32, .inl (X.E 1, 40, .inl (fun _ => 0))), (q33, .inr (11, [.ref q35, .int 0, .int 0])), (q35, .inl (X.E 4, 17, .inr (.inr (.inr (.inr (fun _ => none)))))), (q36, .inr (6, [.ref q38, .ref q39, .ref q40, .ref q41, .ref q42, .ref q43, .ref q44, .int 0, .int 0, .int 0, .int 0, .int 0, .int 0, .ref a])), (q38, .inl (X.E 0, 8, .inl (fun _ => 0))), (q39, .inl (X.E 0, 8, .inl (fun _ => 0))), (q40, .inl (X.E 0, 8, .inl (fun _ => 0))), (q41, .inl (X.E 0, 8, .inl (fun _ => 0))), (q42, .inl (X.E 0, 8, .inl (fun _ => 0))), (q43, .inl (X.E 1, 8, .inl (fun _ => 0))), (q44, .inl (X.E 1, 8, .inl (fun _ => 0))), (q45, .inr (11, [.ref q47, .int 0, .int 0])), (q47, .inl (X.E 4, 17, .inr (.inr (.inr (.inr (fun _ => none)))))), (q48, .inl (X.E 6, 4, .inr (.inr (.inr (.inr (va_up (va_up (va_up (fun _ => none) (0 : Int32).toNatClampNeg (some q50)) (1 : Int32).toNatClampNeg (some q52)) (2 : Int32).toNatClampNeg (some q54))))))), (q49, .inl (X.E 2, 24, .inr (.inl (fun _ => 0)))), (q50, .inr (7, [.null])), (q52, .inr (7, [.null])), (q54, .inr (7, [.null])), (q56, .inr (7, [.null]))]) (isC := []) (isR := [0, 1, 2, 3, 4, 5, 6, 7, 8, 9, 10, 11, 12, 13, 14, 15, 16, 17, 18, 19, 20, 21, 22, 23, 24, 25, 26, 27, 28, 29, 30, 31, 32, 33, 34, 35, 36, 37, 38, 39, 40, 41, 42, 43]) h hR (ct_X7_init (a := q56) hv) q1104 q79 q1102 q1103 rfl (by decide +kernel) rfl ⟨rfl, rfl, rfl, rfl, by decide⟩ ⟨fle rfl, fle rfl, fle rfl, fle rfl, fle rfl⟩ rfl dX0_init_176 (pin (perm := [0, 1, 2, 3, 4, 5, 6, 7, 8, 9, 10, 11, 12, 13, 14, 15, 16, 17, 18, 19, 20, 21, 22, 23, 24, 25, 26, 27, 28, 29, 30, 31, 32, 33, 34, 35, 36, 37, 38, 39, 40, 41, 42, 43]) (ws' := [(a, .inr (0, [.ref q1, .ref q12, .ref q21, .ref q30, .int falls, .int tears, .ref q31, .int typed, .int place, .ref q32, .ref q33, .ref q36, .ref q45, .int isKept, .ref q48, .ref q49])), (q1, .inl (X.E 5, 5, .inr (.inr (.inr (.inr (va_up (va_up (va_up (va_up (va_up (fun _ => none) (0 : Int32).toNatClampNeg (some q2)) (1 : Int32).toNatClampNeg (some q4)) (2 : Int32).toNatClampNeg (some q6)) (3 : Int32).toNatClampNeg (some q8)) (4 : Int32).toNatClampNeg (some q10))))))), (q2, .inr (1, [])), (q4, .inr (2, [])), (q6, .inr (3, [])), (q8, .inr (4, [])), (q10, .inr (5, [])), (q12, .inr (6, [.ref q14, .ref q15, .ref q16, .ref q17, .ref q18, .ref q19, .ref q20, .int 0, .int 0, .int 0, .int 0, .int 0, .int 0, .ref a])), (q14, .inl (X.E 0, 8, .inl (fun _ => 0))), (q15, .inl (X.E 0, 8, .inl (fun _ => 0))), (q16, .inl (X.E 0, 8, .inl (fun _ => 0))), (q17, .inl (X.E 0, 8, .inl (fun _ => 0))), (q18, .inl (X.E 0, 8, .inl (fun _ => 0))), (q19, .inl (X.E 1, 8, .inl (fun _ => 0))), (q20, .inl (X.E 1, 8, .inl (fun _ => 0))), (q21, .inr (6, [.ref q23, .ref q24, .ref q25, .ref q26, .ref q27, .ref q28, .ref q29, .int 0, .int 0, .int 0, .int 0, .int 0, .int 0, .ref a])), (q23, .inl (X.E 0, 8, .inl (fun _ => 0))), (q24, .inl (X.E 0, 8, .inl (fun _ => 0))), (q25, .inl (X.E 0, 8, .inl (fun _ => 0))), (q26, .inl (X.E 0, 8, .inl (fun _ => 0))), (q27, .inl (X.E 0, 8, .inl (fun _ => 0))), (q28, .inl (X.E 1, 8, .inl (fun _ => 0))), (q29, .inl (X.E 1, 8, .inl (fun _ => 0))), (q30, .inl (X.E 1, 8, .inl (fun _ => 0))), (q31, .inl (X.E 0, 90, .inl (fun _ => 0))), (q32, .inl (X.E 1, 40, .inl (fun _ => 0))), (q33, .inr (11, [.ref q35, .int 0, .int 0])), (q35, .inl (X.E 4, 17, .inr (.inr (.inr (.inr (fun _ => none)))))), (q36, .inr (6, [.ref q38, .ref q39, .ref q40, .ref q41, .ref q42, .ref q43, .ref q44, .int 0, .int 0, .int 0, .int 0, .int 0, .int 0, .ref a])), (q38, .inl (X.E 0, 8, .inl (fun _ => 0))), (q39, .inl (X.E 0, 8, .inl (fun _ => 0))), (q40, .inl (X.E 0, 8, .inl (fun _ => 0))), (q41, .inl (X.E 0, 8, .inl (fun _ => 0))), (q42, .inl (X.E 0, 8, .inl (fun _ => 0))), (q43, .inl (X.E 1, 8, .inl (fun _ => 0))), (q44, .inl (X.E 1, 8, .inl (fun _ => 0))), (q45, .inr (11, [.ref q47, .int 0, .int 0])), (q47, .inl (X.E 4, 17, .inr (.inr (.inr (.inr (fun _ => none)))))), (q48, .inl (X.E 6, 4, .inr (.inr (.inr (.inr (va_up (va_up (va_up (fun _ => none) (0 : Int32).toNatClampNeg (some q50)) (1 : Int32).toNatClampNeg (some q52)) (2 : Int32).toNatClampNeg (some q54))))))), (q49, .inl (X.E 2, 24, .inr (.inl (fun _ => 0)))), (q50, .inr (7, [.null])), (q52, .inr (7, [.null])), (q54, .inr (7, [.null])), (q56, .inr (7, [.null]))]) (stk := [.ref q56, .int 3, .ref q48]) rfl rfl rfl ?_)
  clear hv
  refine g_aastS (t0 := 6) (ci := 7) (r := (RX7, TX7, 1)) (ws' := [(a, .inr (0, [.ref q1, .ref q12, .ref q21, .ref q30, .int falls, .int tears, .ref q31, .int typed, .int place, .ref q32, .ref q33, .ref q36, .ref q45, .int isKept, .ref q48, .ref q49])), (q1, .inl (X.E 5, 5, .inr (.inr (.inr (.inr (va_up (va_up (va_up (va_up (va_up (fun _ => none) (0 : Int32).toNatClampNeg (some q2)) (1 : Int32).toNatClampNeg (some q4)) (2 : Int32).toNatClampNeg (some q6)) (3 : Int32).toNatClampNeg (some q8)) (4 : Int32).toNatClampNeg (some q10))))))), (q2, .inr (1, [])), (q4, .inr (2, [])), (q6, .inr (3, [])), (q8, .inr (4, [])), (q10, .inr (5, [])), (q12, .inr (6, [.ref q14, .ref q15, .ref q16, .ref q17, .ref q18, .ref q19, .ref q20, .int 0, .int 0, .int 0, .int 0, .int 0, .int 0, .ref a])), (q14, .inl (X.E 0, 8, .inl (fun _ => 0))), (q15, .inl (X.E 0, 8, .inl (fun _ => 0))), (q16, .inl (X.E 0, 8, .inl (fun _ => 0))), (q17, .inl (X.E 0, 8, .inl (fun _ => 0))), (q18, .inl (X.E 0, 8, .inl (fun _ => 0))), (q19, .inl (X.E 1, 8, .inl (fun _ => 0))), (q20, .inl (X.E 1, 8, .inl (fun _ => 0))), (q21, .inr (6, [.ref q23, .ref q24, .ref q25, .ref q26, .ref q27, .ref q28, .ref q29, .int 0, .int 0, .int 0, .int 0, .int 0, .int 0, .ref a])), (q23, .inl (X.E 0, 8, .inl (fun _ => 0))), (q24, .inl (X.E 0, 8, .inl (fun _ => 0))), (q25, .inl (X.E 0, 8, .inl (fun _ => 0))), (q26, .inl (X.E 0, 8, .inl (fun _ => 0))), (q27, .inl (X.E 0, 8, .inl (fun _ => 0))), (q28, .inl (X.E 1, 8, .inl (fun _ => 0))), (q29, .inl (X.E 1, 8, .inl (fun _ => 0))), (q30, .inl (X.E 1, 8, .inl (fun _ => 0))), (q31, .inl (X.E 0, 90, .inl (fun _ => 0))), (q32, .inl (X.E 1, 40, .inl (fun _ => 0))), (q33, .inr (11, [.ref q35, .int 0, .int 0])), (q35, .inl (X.E 4, 17, .inr (.inr (.inr (.inr (fun _ => none)))))), (q36, .inr (6, [.ref q38, .ref q39, .ref q40, .ref q41, .ref q42, .ref q43, .ref q44, .int 0, .int 0, .int 0, .int 0, .int 0, .int 0, .ref a])), (q38, .inl (X.E 0, 8, .inl (fun _ => 0))), (q39, .inl (X.E 0, 8, .inl (fun _ => 0))), (q40, .inl (X.E 0, 8, .inl (fun _ => 0))), (q41, .inl (X.E 0, 8, .inl (fun _ => 0))), (q42, .inl (X.E 0, 8, .inl (fun _ => 0))), (q43, .inl (X.E 1, 8, .inl (fun _ => 0))), (q44, .inl (X.E 1, 8, .inl (fun _ => 0))), (q45, .inr (11, [.ref q47, .int 0, .int 0])), (q47, .inl (X.E 4, 17, .inr (.inr (.inr (.inr (fun _ => none)))))), (q48, .inl (X.E 6, 4, .inr (.inr (.inr (.inr (va_up (va_up (va_up (va_up (fun _ => none) (0 : Int32).toNatClampNeg (some q50)) (1 : Int32).toNatClampNeg (some q52)) (2 : Int32).toNatClampNeg (some q54)) (3 : Int32).toNatClampNeg (some q56))))))), (q49, .inl (X.E 2, 24, .inr (.inl (fun _ => 0)))), (q50, .inr (7, [.null])), (q52, .inr (7, [.null])), (q54, .inr (7, [.null])), (q56, .inr (7, [.null]))]) h 38 43 rfl rfl rfl rfl (by decide) rfl dX0_init_179 ?_
  refine g_iinc (j := 0) (v := 4) (lv' := [(1, .int 4), (0, .ref a)]) h dX0_init_180 rfl (by decide) (hL 1 (fle rfl)) rfl ?_
  refine g_goto (tgt := 162) h dX0_init_183 rfl ?_
  refine g_iload_n h 0 dX0_init_162 rfl rfl ?_
  refine g_iconst (v := 4) h dX0_init_163 kiconst_4 ?_
  refine b_icmp_ge (tgt := 186) h dX0_init_164 rfl (fun _ => ?_) (fun c0 => absurd (by decide) c0)
  refine g_aload_n h 1 dX0_init_186 rfl rfl ?_
  refine g_get (ci := 0) (v := .ref q12) h in_X0 0 1 rfl rfl (fle rfl) rfl q1112 rfl dX0_init_187 ?_
  refine g_bipush (v := 20) h dX0_init_190 kbipush_20 ?_
  refine g_putN (ci := 6) (ty := tyX6 11) (ws' := [(a, .inr (0, [.ref q1, .ref q12, .ref q21, .ref q30, .int falls, .int tears, .ref q31, .int typed, .int place, .ref q32, .ref q33, .ref q36, .ref q45, .int isKept, .ref q48, .ref q49])), (q1, .inl (X.E 5, 5, .inr (.inr (.inr (.inr (va_up (va_up (va_up (va_up (va_up (fun _ => none) (0 : Int32).toNatClampNeg (some q2)) (1 : Int32).toNatClampNeg (some q4)) (2 : Int32).toNatClampNeg (some q6)) (3 : Int32).toNatClampNeg (some q8)) (4 : Int32).toNatClampNeg (some q10))))))), (q2, .inr (1, [])), (q4, .inr (2, [])), (q6, .inr (3, [])), (q8, .inr (4, [])), (q10, .inr (5, [])), (q12, .inr (6, [.ref q14, .ref q15, .ref q16, .ref q17, .ref q18, .ref q19, .ref q20, .int 0, .int 0, .int 0, .int 0, .int 20, .int 0, .ref a])), (q14, .inl (X.E 0, 8, .inl (fun _ => 0))), (q15, .inl (X.E 0, 8, .inl (fun _ => 0))), (q16, .inl (X.E 0, 8, .inl (fun _ => 0))), (q17, .inl (X.E 0, 8, .inl (fun _ => 0))), (q18, .inl (X.E 0, 8, .inl (fun _ => 0))), (q19, .inl (X.E 1, 8, .inl (fun _ => 0))), (q20, .inl (X.E 1, 8, .inl (fun _ => 0))), (q21, .inr (6, [.ref q23, .ref q24, .ref q25, .ref q26, .ref q27, .ref q28, .ref q29, .int 0, .int 0, .int 0, .int 0, .int 0, .int 0, .ref a])), (q23, .inl (X.E 0, 8, .inl (fun _ => 0))), (q24, .inl (X.E 0, 8, .inl (fun _ => 0))), (q25, .inl (X.E 0, 8, .inl (fun _ => 0))), (q26, .inl (X.E 0, 8, .inl (fun _ => 0))), (q27, .inl (X.E 0, 8, .inl (fun _ => 0))), (q28, .inl (X.E 1, 8, .inl (fun _ => 0))), (q29, .inl (X.E 1, 8, .inl (fun _ => 0))), (q30, .inl (X.E 1, 8, .inl (fun _ => 0))), (q31, .inl (X.E 0, 90, .inl (fun _ => 0))), (q32, .inl (X.E 1, 40, .inl (fun _ => 0))), (q33, .inr (11, [.ref q35, .int 0, .int 0])), (q35, .inl (X.E 4, 17, .inr (.inr (.inr (.inr (fun _ => none)))))), (q36, .inr (6, [.ref q38, .ref q39, .ref q40, .ref q41, .ref q42, .ref q43, .ref q44, .int 0, .int 0, .int 0, .int 0, .int 0, .int 0, .ref a])), (q38, .inl (X.E 0, 8, .inl (fun _ => 0))), (q39, .inl (X.E 0, 8, .inl (fun _ => 0))), (q40, .inl (X.E 0, 8, .inl (fun _ => 0))), (q41, .inl (X.E 0, 8, .inl (fun _ => 0))), (q42, .inl (X.E 0, 8, .inl (fun _ => 0))), (q43, .inl (X.E 1, 8, .inl (fun _ => 0))), (q44, .inl (X.E 1, 8, .inl (fun _ => 0))), (q45, .inr (11, [.ref q47, .int 0, .int 0])), (q47, .inl (X.E 4, 17, .inr (.inr (.inr (.inr (fun _ => none)))))), (q48, .inl (X.E 6, 4, .inr (.inr (.inr (.inr (va_up (va_up (va_up (va_up (fun _ => none) (0 : Int32).toNatClampNeg (some q50)) (1 : Int32).toNatClampNeg (some q52)) (2 : Int32).toNatClampNeg (some q54)) (3 : Int32).toNatClampNeg (some q56))))))), (q49, .inl (X.E 2, 24, .inr (.inl (fun _ => 0)))), (q50, .inr (7, [.null])), (q52, .inr (7, [.null])), (q54, .inr (7, [.null])), (q56, .inr (7, [.null]))]) h in_X6 tyX6 tyX6_ok nmX6 7 11 rfl rfl (fle rfl) ⟨rfl, rfl⟩ q572 rfl rfl rfl (fle rfl) rfl dX0_init_192 ?_
  refine g_aload_n h 1 dX0_init_195 rfl rfl ?_
  refine g_get (ci := 0) (v := .ref q12) h in_X0 0 1 rfl rfl (fle rfl) rfl q1112 rfl dX0_init_196 ?_
  refine g_bipush (v := 8) h dX0_init_199 kbipush_8 ?_
  refine g_putN (ci := 6) (ty := tyX6 10) (ws' := [(a, .inr (0, [.ref q1, .ref q12, .ref q21, .ref q30, .int falls, .int tears, .ref q31, .int typed, .int place, .ref q32, .ref q33, .ref q36, .ref q45, .int isKept, .ref q48, .ref q49])), (q1, .inl (X.E 5, 5, .inr (.inr (.inr (.inr (va_up (va_up (va_up (va_up (va_up (fun _ => none) (0 : Int32).toNatClampNeg (some q2)) (1 : Int32).toNatClampNeg (some q4)) (2 : Int32).toNatClampNeg (some q6)) (3 : Int32).toNatClampNeg (some q8)) (4 : Int32).toNatClampNeg (some q10))))))), (q2, .inr (1, [])), (q4, .inr (2, [])), (q6, .inr (3, [])), (q8, .inr (4, [])), (q10, .inr (5, [])), (q12, .inr (6, [.ref q14, .ref q15, .ref q16, .ref q17, .ref q18, .ref q19, .ref q20, .int 0, .int 0, .int 0, .int 8, .int 20, .int 0, .ref a])), (q14, .inl (X.E 0, 8, .inl (fun _ => 0))), (q15, .inl (X.E 0, 8, .inl (fun _ => 0))), (q16, .inl (X.E 0, 8, .inl (fun _ => 0))), (q17, .inl (X.E 0, 8, .inl (fun _ => 0))), (q18, .inl (X.E 0, 8, .inl (fun _ => 0))), (q19, .inl (X.E 1, 8, .inl (fun _ => 0))), (q20, .inl (X.E 1, 8, .inl (fun _ => 0))), (q21, .inr (6, [.ref q23, .ref q24, .ref q25, .ref q26, .ref q27, .ref q28, .ref q29, .int 0, .int 0, .int 0, .int 0, .int 0, .int 0, .ref a])), (q23, .inl (X.E 0, 8, .inl (fun _ => 0))), (q24, .inl (X.E 0, 8, .inl (fun _ => 0))), (q25, .inl (X.E 0, 8, .inl (fun _ => 0))), (q26, .inl (X.E 0, 8, .inl (fun _ => 0))), (q27, .inl (X.E 0, 8, .inl (fun _ => 0))), (q28, .inl (X.E 1, 8, .inl (fun _ => 0))), (q29, .inl (X.E 1, 8, .inl (fun _ => 0))), (q30, .inl (X.E 1, 8, .inl (fun _ => 0))), (q31, .inl (X.E 0, 90, .inl (fun _ => 0))), (q32, .inl (X.E 1, 40, .inl (fun _ => 0))), (q33, .inr (11, [.ref q35, .int 0, .int 0])), (q35, .inl (X.E 4, 17, .inr (.inr (.inr (.inr (fun _ => none)))))), (q36, .inr (6, [.ref q38, .ref q39, .ref q40, .ref q41, .ref q42, .ref q43, .ref q44, .int 0, .int 0, .int 0, .int 0, .int 0, .int 0, .ref a])), (q38, .inl (X.E 0, 8, .inl (fun _ => 0))), (q39, .inl (X.E 0, 8, .inl (fun _ => 0))), (q40, .inl (X.E 0, 8, .inl (fun _ => 0))), (q41, .inl (X.E 0, 8, .inl (fun _ => 0))), (q42, .inl (X.E 0, 8, .inl (fun _ => 0))), (q43, .inl (X.E 1, 8, .inl (fun _ => 0))), (q44, .inl (X.E 1, 8, .inl (fun _ => 0))), (q45, .inr (11, [.ref q47, .int 0, .int 0])), (q47, .inl (X.E 4, 17, .inr (.inr (.inr (.inr (fun _ => none)))))), (q48, .inl (X.E 6, 4, .inr (.inr (.inr (.inr (va_up (va_up (va_up (va_up (fun _ => none) (0 : Int32).toNatClampNeg (some q50)) (1 : Int32).toNatClampNeg (some q52)) (2 : Int32).toNatClampNeg (some q54)) (3 : Int32).toNatClampNeg (some q56))))))), (q49, .inl (X.E 2, 24, .inr (.inl (fun _ => 0)))), (q50, .inr (7, [.null])), (q52, .inr (7, [.null])), (q54, .inr (7, [.null])), (q56, .inr (7, [.null]))]) h in_X6 tyX6 tyX6_ok nmX6 7 10 rfl rfl (fle rfl) ⟨rfl, rfl⟩ q570 rfl rfl rfl (fle rfl) rfl dX0_init_201 ?_
  refine g_aload_n h 1 dX0_init_204 rfl rfl ?_
  refine g_get (ci := 0) (v := .ref q12) h in_X0 0 1 rfl rfl (fle rfl) rfl q1112 rfl dX0_init_205 ?_
  refine g_iconst (v := 1) h dX0_init_208 kiconst_1 ?_
  refine g_putN (ci := 6) (ty := tyX6 12) (ws' := [(a, .inr (0, [.ref q1, .ref q12, .ref q21, .ref q30, .int falls, .int tears, .ref q31, .int typed, .int place, .ref q32, .ref q33, .ref q36, .ref q45, .int isKept, .ref q48, .ref q49])), (q1, .inl (X.E 5, 5, .inr (.inr (.inr (.inr (va_up (va_up (va_up (va_up (va_up (fun _ => none) (0 : Int32).toNatClampNeg (some q2)) (1 : Int32).toNatClampNeg (some q4)) (2 : Int32).toNatClampNeg (some q6)) (3 : Int32).toNatClampNeg (some q8)) (4 : Int32).toNatClampNeg (some q10))))))), (q2, .inr (1, [])), (q4, .inr (2, [])), (q6, .inr (3, [])), (q8, .inr (4, [])), (q10, .inr (5, [])), (q12, .inr (6, [.ref q14, .ref q15, .ref q16, .ref q17, .ref q18, .ref q19, .ref q20, .int 0, .int 0, .int 0, .int 8, .int 20, .int 1, .ref a])), (q14, .inl (X.E 0, 8, .inl (fun _ => 0))), (q15, .inl (X.E 0, 8, .inl (fun _ => 0))), (q16, .inl (X.E 0, 8, .inl (fun _ => 0))), (q17, .inl (X.E 0, 8, .inl (fun _ => 0))), (q18, .inl (X.E 0, 8, .inl (fun _ => 0))), (q19, .inl (X.E 1, 8, .inl (fun _ => 0))), (q20, .inl (X.E 1, 8, .inl (fun _ => 0))), (q21, .inr (6, [.ref q23, .ref q24, .ref q25, .ref q26, .ref q27, .ref q28, .ref q29, .int 0, .int 0, .int 0, .int 0, .int 0, .int 0, .ref a])), (q23, .inl (X.E 0, 8, .inl (fun _ => 0))), (q24, .inl (X.E 0, 8, .inl (fun _ => 0))), (q25, .inl (X.E 0, 8, .inl (fun _ => 0))), (q26, .inl (X.E 0, 8, .inl (fun _ => 0))), (q27, .inl (X.E 0, 8, .inl (fun _ => 0))), (q28, .inl (X.E 1, 8, .inl (fun _ => 0))), (q29, .inl (X.E 1, 8, .inl (fun _ => 0))), (q30, .inl (X.E 1, 8, .inl (fun _ => 0))), (q31, .inl (X.E 0, 90, .inl (fun _ => 0))), (q32, .inl (X.E 1, 40, .inl (fun _ => 0))), (q33, .inr (11, [.ref q35, .int 0, .int 0])), (q35, .inl (X.E 4, 17, .inr (.inr (.inr (.inr (fun _ => none)))))), (q36, .inr (6, [.ref q38, .ref q39, .ref q40, .ref q41, .ref q42, .ref q43, .ref q44, .int 0, .int 0, .int 0, .int 0, .int 0, .int 0, .ref a])), (q38, .inl (X.E 0, 8, .inl (fun _ => 0))), (q39, .inl (X.E 0, 8, .inl (fun _ => 0))), (q40, .inl (X.E 0, 8, .inl (fun _ => 0))), (q41, .inl (X.E 0, 8, .inl (fun _ => 0))), (q42, .inl (X.E 0, 8, .inl (fun _ => 0))), (q43, .inl (X.E 1, 8, .inl (fun _ => 0))), (q44, .inl (X.E 1, 8, .inl (fun _ => 0))), (q45, .inr (11, [.ref q47, .int 0, .int 0])), (q47, .inl (X.E 4, 17, .inr (.inr (.inr (.inr (fun _ => none)))))), (q48, .inl (X.E 6, 4, .inr (.inr (.inr (.inr (va_up (va_up (va_up (va_up (fun _ => none) (0 : Int32).toNatClampNeg (some q50)) (1 : Int32).toNatClampNeg (some q52)) (2 : Int32).toNatClampNeg (some q54)) (3 : Int32).toNatClampNeg (some q56))))))), (q49, .inl (X.E 2, 24, .inr (.inl (fun _ => 0)))), (q50, .inr (7, [.null])), (q52, .inr (7, [.null])), (q54, .inr (7, [.null])), (q56, .inr (7, [.null]))]) h in_X6 tyX6 tyX6_ok nmX6 7 12 rfl rfl (fle rfl) ⟨rfl, rfl⟩ q574 rfl rfl rfl (fle rfl) rfl dX0_init_209 ?_
  exact g_vret h hF [0, 1, 2, 3, 4, 5, 6, 7, 8, 9, 10, 11, 12, 13, 14, 15, 16, 17, 18, 19, 20, 21, 22, 23, 24, 25, 26, 27, 28, 29, 30, 31, 32, 33, 34, 35, 36, 37, 38, 39, 40, 41, 42, 43] rfl rfl ⟨_, _, _, _, _, _, _, _, _, _, _, _, _, _, _, _, _, _, _, _, _, _, _, _, _, _, _, _, _, _, _, _, _, _, _, _, _, _, _, _, _, _, _, rfl, rfl⟩ (fle rfl) (fle rfl) dX0_init_212
