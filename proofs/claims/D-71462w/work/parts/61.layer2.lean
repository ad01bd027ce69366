/-! more rows: switches, copies; constants -/
set_option maxRecDepth 100000
section
variable {X : Cx} {cc : ByteArray} {own : String} {ws : va_W} {lv : LV} {ce sl pc : Nat} {st : List Value}
theorem g_tabIn (h : Ok X cc own) {dflt lo hi : Int} {offs : Array Int} {len : Nat} {x c : Int32} {off : Int} {tgt : Nat} (d : decode cc pc = .ok (.tableswitch dflt lo hi offs, len)) (hx : x = c) (h1 : ¬ c.toInt < lo) (h2 : ¬ hi < c.toInt) (ho : offs[(c.toInt - lo).toNat]? = some off) (ht : (pc : Int) + off = (tgt : Int)) (k : G X ws lv ce sl tgt st) : G X ws lv ce sl pc (.int x :: st) := by
  subst hx
  exact fun H locs ls hP hD hS hl => lv_tableIn h.x h.b d h1 h2 ho ht (k H locs ls hP hD hS hl)
theorem g_tabOut (h : Ok X cc own) {dflt lo hi : Int} {offs : Array Int} {len : Nat} {x : Int32} {tgt : Nat} (d : decode cc pc = .ok (.tableswitch dflt lo hi offs, len)) (hx : x.toInt < lo ∨ hi < x.toInt) (ht : (pc : Int) + dflt = (tgt : Int)) (k : G X ws lv ce sl tgt st) : G X ws lv ce sl pc (.int x :: st) :=
  fun H locs ls hP hD hS hl => lv_tableOut h.x h.b d hx ht (k H locs ls hP hD hS hl)
theorem g_aaK (h : Ok X cc own) {a n p : Nat} {f : Nat → Option Nat} {k c : Int32} (q0 : Nat) (ha : ws[q0]? = some (a, .inl (X.E 5, n, .inr (.inr (.inr (.inr f)))))) (hk : k = c) (hi : ¬ (c < 0 ∨ n ≤ c.toNatClampNeg)) (hp : f c.toNatClampNeg = some p) (d : decode cc pc = .ok (.aaload, 1)) (K : G X ws lv ce sl (pc + 1) (.ref p :: st)) : G X ws lv ce sl pc (.int k :: .ref a :: st) := by
  subst hk
  refine g_aaload h q0 ha rfl hi d ?_
  rw [hp]
  exact K
theorem g_aaN (h : Ok X cc own) {a n t0 : Nat} {C : String} {f : Nat → Option Nat} {i : Int32} (q0 : Nat) (ha : ws[q0]? = some (a, .inl (X.E t0, n, .inr (.inr (.inr (.inr f)))))) (ht : (Ty X.E)[t0]? = some (X.E t0, .object C)) (hi : ¬ (i < 0 ∨ n ≤ i.toNatClampNeg)) (hp : f i.toNatClampNeg = none) (d : decode cc pc = .ok (.aaload, 1)) (K : G X ws lv ce sl (pc + 1) (.null :: st)) : G X ws lv ce sl pc (.int i :: .ref a :: st) := by
  refine g_aaload h q0 ha ht hi d ?_
  rw [hp]
  exact K
theorem g_aaS (h : Ok X cc own) {a n t0 p : Nat} {C : String} {f : Nat → Option Nat} {i : Int32} (q0 : Nat) (ha : ws[q0]? = some (a, .inl (X.E t0, n, .inr (.inr (.inr (.inr f)))))) (ht : (Ty X.E)[t0]? = some (X.E t0, .object C)) (hi : ¬ (i < 0 ∨ n ≤ i.toNatClampNeg)) (hp : f i.toNatClampNeg = some p) (d : decode cc pc = .ok (.aaload, 1)) (K : G X ws lv ce sl (pc + 1) (.ref p :: st)) : G X ws lv ce sl pc (.int i :: .ref a :: st) := by
  refine g_aaload h q0 ha ht hi d ?_
  rw [hp]
  exact K
theorem g_aastN (h : Ok X cc own) {a n t0 : Nat} {C : String} {f : Nat → Option Nat} {i : Int32} {ws' : va_W} (q0 : Nat) (ha : ws[q0]? = some (a, .inl (X.E t0, n, .inr (.inr (.inr (.inr f)))))) (ht : (Ty X.E)[t0]? = some (X.E t0, .object C)) (hi : ¬ (i < 0 ∨ n ≤ i.toNatClampNeg)) (hws : ws.set q0 (a, .inl (X.E t0, n, .inr (.inr (.inr (.inr (va_up f i.toNatClampNeg none)))))) = ws') (d : decode cc pc = .ok (.aastore, 1)) (k : G X ws' lv ce sl (pc + 1) st) : G X ws lv ce sl pc (.null :: .int i :: .ref a :: st) :=
  fun H locs ls hP hD hS hl => va_astqN h.x h.b h.k hP hD hS q0 t0 (apL ha) ht hi d (fun H1 locs1 hP hD hS => k H1 locs1 ls (by rw [apS ha, hws] at hP; exact hP) (by rw [apS ha, hws] at hD; exact hD) hS hl)
theorem g_aastS (h : Ok X cc own) {a n t0 ci v : Nat} {r : vw_C} {vs : List Value} {f : Nat → Option Nat} {i : Int32} {ws' : va_W} (q0 qk : Nat) (ha : ws[q0]? = some (a, .inl (X.E t0, n, .inr (.inr (.inr (.inr f)))))) (ht : (Ty X.E)[t0]? = some (X.E t0, .object r.1)) (hv : ws[qk]? = some (v, .inr (ci, vs))) (hc : vwCl[ci]? = some r) (hi : ¬ (i < 0 ∨ n ≤ i.toNatClampNeg)) (hws : ws.set q0 (a, .inl (X.E t0, n, .inr (.inr (.inr (.inr (va_up f i.toNatClampNeg (some v))))))) = ws') (d : decode cc pc = .ok (.aastore, 1)) (k : G X ws' lv ce sl (pc + 1) st) : G X ws lv ce sl pc (.ref v :: .int i :: .ref a :: st) :=
  fun H locs ls hP hD hS hl => va_astq h.x h.b h.k hP hD hS q0 t0 qk ci (apL ha) ht (apL hv) hc hi d (fun H1 locs1 hP hD hS => k H1 locs1 ls (by rw [apS ha, hws] at hP; exact hP) (by rw [apS ha, hws] at hD; exact hD) hS hl)
theorem g_aastO (h : Ok X cc own) {a n t0 ci v : Nat} {r : vw_C} {E0 : String} {vs : List Value} {f : Nat → Option Nat} {i : Int32} {ws' : va_W} (q0 qk : Nat) (ha : ws[q0]? = some (a, .inl (X.E t0, n, .inr (.inr (.inr (.inr f)))))) (ht : (Ty X.E)[t0]? = some (X.E t0, .object E0)) (wc : Cond.castable r.1 E0 ∈ lw_tbl) (hv : ws[qk]? = some (v, .inr (ci, vs))) (hc : vwCl[ci]? = some r) (hi : ¬ (i < 0 ∨ n ≤ i.toNatClampNeg)) (hws : ws.set q0 (a, .inl (X.E t0, n, .inr (.inr (.inr (.inr (va_up f i.toNatClampNeg (some v))))))) = ws') (d : decode cc pc = .ok (.aastore, 1)) (k : G X ws' lv ce sl (pc + 1) st) : G X ws lv ce sl pc (.ref v :: .int i :: .ref a :: st) :=
  fun H locs ls hP hD hS hl => va_astqO h.x h.b h.k hP hD hS q0 t0 qk ci (apL ha) ht (h.nw.1 _ wc rfl) (apL hv) hc hi d (fun H1 locs1 hP hD hS => k H1 locs1 ls (by rw [apS ha, hws] at hP; exact hP) (by rw [apS ha, hws] at hD; exact hD) hS hl)
theorem g_astore_nN (h : Ok X cc own) {k0 : Fin 4} {i : Nat} {lv' : LV} (d : decode cc pc = .ok (.astore_n k0, 1)) (hi : (k0 : Nat) = i) (hn : i < X.nL) (hl2 : (i, Value.null) :: lv.filter (fun q => !(q.1 == i) && !(q.1 + 1 == i && q.2.category == 2)) = lv') (k : G X ws lv' ce sl (pc + 1) st) : G X ws lv ce sl pc (.null :: st) := fun H locs ls hP hD hS hl => lv_astore_nN h.x h.b d hi hl hn hl2 (fun ls2 hl => k H locs ls2 hP hD hS hl)
theorem pin0 {stk : List Value} (k : G X ws lv ce sl pc stk) : G X ws lv ce sl pc ((none : Option Value).toList ++ stk) := k
theorem fitB_at {f : Nat → Int32} (h : ¬ fitB f = false) : ∀ i, i < 8 → fits .byte (.int (f i)) = true := by
  have h1 : fitB f = true := by cases e : fitB f with
    | true => rfl
    | false => exact absurd e h
  intro i hi
  exact List.all_eq_true.mp h1 i (List.mem_range.mpr hi)
theorem g_copyb (h : Ok X cc own) {fr lo mc ms : Nat} (hR : Rm X fr lo mc ms) {a0 a1 idx : Nat} {f g : Nat → Int32} {ws' : va_W} (q0 q1 : Nat) (w : Cond.methodLink own idx arraycopyName ∈ lw_all) (ha0 : ws[q0]? = some (a0, .inl (X.E 0, 8, .inl f))) (ha1 : ws[q1]? = some (a1, .inl (X.E 0, 8, .inl g))) (hfit : ¬ fitB f = false) (h1 : 1 ≤ fr) (h2 : (st.map fun v => v.category).sum + 40 ≤ lo) (hws : ws.set q1 (a1, .inl (X.E 0, 8, .inl (va_cpy f g 0 0 8))) = ws') (d : decode cc pc = .ok (.invokestatic idx, 3)) (k : G X ws' lv ce sl (pc + 3) st) : G X ws lv ce sl pc (.int 8 :: .int 0 :: .ref a1 :: .int 0 :: .ref a0 :: st) :=
  fun H locs ls hP hD hS hl => by
    have hw : nativeFrameWords "java/lang/System" "arraycopy" 5 + 11 ≤ 40 := by decide
    have hlo : (st.map fun v => v.category).sum + (nativeFrameWords "java/lang/System" "arraycopy" 5 + 11) ≤ X.R.locals := Nat.le_trans (Nat.le_trans (Nat.add_le_add_left hw _) h2) hR.2.1
    have hft : ∀ i, i < (8 : Int32).toNatClampNeg → fits .byte (.int (f ((0 : Int32).toNatClampNeg + i))) = true := fun i hi => by
      have e0 : (0 : Int32).toNatClampNeg = 0 := by decide
      rw [e0, Nat.zero_add]; exact fitB_at hfit i hi
    have hws : ws.set q1 (a1, .inl (X.E 0, 8, .inl (va_cpy f g (0 : Int32).toNatClampNeg (0 : Int32).toNatClampNeg (8 : Int32).toNatClampNeg))) = ws' := hws
    exact va_copyi (sp := 0) (dp := 0) (n := 8) h.x h.b (by rw [h.ml]; exact hl.1.symm) h.own (h.ts _ w) (h.ts _ q612) (h.ts _ q611) (h.ts _ q91) h.k hP hD hS q0 q1 0 0 (apL ha0) (apL ha1) rfl rfl rfl (by decide) (by decide) (by decide) (by decide) (by decide) hft (Nat.le_trans h1 hR.1) hlo d (fun H1 locs1 hP hD hS => k H1 locs1 ls (by rw [apS ha1, hws] at hP; exact hP) (by rw [apS ha1, hws] at hD; exact hD) hS hl)
end
theorem df_X0 : ∀ j, j < 16 → defaultValue (tyX0 j) = vp_V [.null, .null, .null, .null, .int 0, .int 0, .null, .int 0, .int 0, .null, .null, .null, .null, .int 0, .null, .null] j := fun j hj => by rcases (show j = 0 ∨ j = 1 ∨ j = 2 ∨ j = 3 ∨ j = 4 ∨ j = 5 ∨ j = 6 ∨ j = 7 ∨ j = 8 ∨ j = 9 ∨ j = 10 ∨ j = 11 ∨ j = 12 ∨ j = 13 ∨ j = 14 ∨ j = 15 by omega) with rfl | rfl | rfl | rfl | rfl | rfl | rfl | rfl | rfl | rfl | rfl | rfl | rfl | rfl | rfl | rfl <;> rfl
theorem df_X6 : ∀ j, j < 14 → defaultValue (tyX6 j) = vp_V [.null, .null, .null, .null, .null, .null, .null, .int 0, .int 0, .int 0, .int 0, .int 0, .int 0, .null] j := fun j hj => by rcases (show j = 0 ∨ j = 1 ∨ j = 2 ∨ j = 3 ∨ j = 4 ∨ j = 5 ∨ j = 6 ∨ j = 7 ∨ j = 8 ∨ j = 9 ∨ j = 10 ∨ j = 11 ∨ j = 12 ∨ j = 13 by omega) with rfl | rfl | rfl | rfl | rfl | rfl | rfl | rfl | rfl | rfl | rfl | rfl | rfl | rfl <;> rfl
theorem df_X7 : ∀ j, j < 1 → defaultValue (tyX7 j) = vp_V [.null] j := fun j hj => by rcases (show j = 0 by omega) with rfl <;> rfl
theorem df_X8 : ∀ j, j < 21 → defaultValue (tyX8 j) = vp_V [.null, .int 0, .null, .int 0, .null, .null, .null, .null, .null, .int 0, .int 0, .null, .int 0, .int 0, .int 0, .int 0, .int 0, .null, .null, .null, .null] j := fun j hj => by rcases (show j = 0 ∨ j = 1 ∨ j = 2 ∨ j = 3 ∨ j = 4 ∨ j = 5 ∨ j = 6 ∨ j = 7 ∨ j = 8 ∨ j = 9 ∨ j = 10 ∨ j = 11 ∨ j = 12 ∨ j = 13 ∨ j = 14 ∨ j = 15 ∨ j = 16 ∨ j = 17 ∨ j = 18 ∨ j = 19 ∨ j = 20 by omega) with rfl | rfl | rfl | rfl | rfl | rfl | rfl | rfl | rfl | rfl | rfl | rfl | rfl | rfl | rfl | rfl | rfl | rfl | rfl | rfl | rfl <;> rfl
theorem df_X9 : ∀ j, j < 2 → defaultValue (tyX9 j) = vp_V [.long 0, .long 0] j := fun j hj => by rcases (show j = 0 ∨ j = 1 by omega) with rfl | rfl <;> rfl
theorem df_J1 : ∀ j, j < 3 → defaultValue (tyJ1 j) = vp_V [.null, .int 0, .int 0] j := fun j hj => by rcases (show j = 0 ∨ j = 1 ∨ j = 2 by omega) with rfl | rfl | rfl <;> rfl
theorem df_J14 : ∀ j, j < 4 → defaultValue (tyJ14 j) = vp_V [.int 0, .int 0, .int 0, .null] j := fun j hj => by rcases (show j = 0 ∨ j = 1 ∨ j = 2 ∨ j = 3 by omega) with rfl | rfl | rfl | rfl <;> rfl
def tyX1 : Nat → FieldType := fun _ => .int
theorem tyX1_ok : ∀ k, k < 0 → parseFieldDescriptor (TZ k).2.2.1 = some (tyX1 k) := fun k hk => absurd hk (Nat.not_lt_zero k)
theorem in_X1 : ∀ w ∈ u_ws RX1 TZ 0, w ∈ lw_all := fun w hw => absurd hw (by simp [u_ws])
theorem df_X1 : ∀ j, j < 0 → defaultValue (tyX1 j) = vp_V [] j := fun j hj => absurd hj (Nat.not_lt_zero j)
def tyX2 : Nat → FieldType := fun _ => .int
theorem tyX2_ok : ∀ k, k < 0 → parseFieldDescriptor (TZ k).2.2.1 = some (tyX2 k) := fun k hk => absurd hk (Nat.not_lt_zero k)
theorem in_X2 : ∀ w ∈ u_ws RX2 TZ 0, w ∈ lw_all := fun w hw => absurd hw (by simp [u_ws])
theorem df_X2 : ∀ j, j < 0 → defaultValue (tyX2 j) = vp_V [] j := fun j hj => absurd hj (Nat.not_lt_zero j)
def tyX3 : Nat → FieldType := fun _ => .int
theorem tyX3_ok : ∀ k, k < 0 → parseFieldDescriptor (TZ k).2.2.1 = some (tyX3 k) := fun k hk => absurd hk (Nat.not_lt_zero k)
theorem in_X3 : ∀ w ∈ u_ws RX3 TZ 0, w ∈ lw_all := fun w hw => absurd hw (by simp [u_ws])
theorem df_X3 : ∀ j, j < 0 → defaultValue (tyX3 j) = vp_V [] j := fun j hj => absurd hj (Nat.not_lt_zero j)
def tyX4 : Nat → FieldType := fun _ => .int
theorem tyX4_ok : ∀ k, k < 0 → parseFieldDescriptor (TZ k).2.2.1 = some (tyX4 k) := fun k hk => absurd hk (Nat.not_lt_zero k)
theorem in_X4 : ∀ w ∈ u_ws RX4 TZ 0, w ∈ lw_all := fun w hw => absurd hw (by simp [u_ws])
theorem df_X4 : ∀ j, j < 0 → defaultValue (tyX4 j) = vp_V [] j := fun j hj => absurd hj (Nat.not_lt_zero j)
def tyX5 : Nat → FieldType := fun _ => .int
theorem tyX5_ok : ∀ k, k < 0 → parseFieldDescriptor (TZ k).2.2.1 = some (tyX5 k) := fun k hk => absurd hk (Nat.not_lt_zero k)
theorem in_X5 : ∀ w ∈ u_ws RX5 TZ 0, w ∈ lw_all := fun w hw => absurd hw (by simp [u_ws])
theorem df_X5 : ∀ j, j < 0 → defaultValue (tyX5 j) = vp_V [] j := fun j hj => absurd hj (Nat.not_lt_zero j)
theorem kbipush_m20 : ((Int8.ofInt (-20)).toInt32) = (-20) := by decide
theorem kbipush_m14 : ((Int8.ofInt (-14)).toInt32) = (-14) := by decide
theorem kbipush_m13 : ((Int8.ofInt (-13)).toInt32) = (-13) := by decide
theorem kbipush_m12 : ((Int8.ofInt (-12)).toInt32) = (-12) := by decide
theorem kbipush_m11 : ((Int8.ofInt (-11)).toInt32) = (-11) := by decide
theorem kbipush_m4 : ((Int8.ofInt (-4)).toInt32) = (-4) := by decide
theorem kbipush_m3 : ((Int8.ofInt (-3)).toInt32) = (-3) := by decide
theorem kbipush_m2 : ((Int8.ofInt (-2)).toInt32) = (-2) := by decide
theorem kbipush_7 : ((Int8.ofInt 7).toInt32) = 7 := by decide
theorem kbipush_8 : ((Int8.ofInt 8).toInt32) = 8 := by decide
theorem kbipush_9 : ((Int8.ofInt 9).toInt32) = 9 := by decide
theorem kbipush_10 : ((Int8.ofInt 10).toInt32) = 10 := by decide
theorem kbipush_12 : ((Int8.ofInt 12).toInt32) = 12 := by decide
theorem kbipush_16 : ((Int8.ofInt 16).toInt32) = 16 := by decide
theorem kbipush_17 : ((Int8.ofInt 17).toInt32) = 17 := by decide
theorem kbipush_20 : ((Int8.ofInt 20).toInt32) = 20 := by decide
theorem kbipush_24 : ((Int8.ofInt 24).toInt32) = 24 := by decide
theorem kbipush_28 : ((Int8.ofInt 28).toInt32) = 28 := by decide
theorem kbipush_30 : ((Int8.ofInt 30).toInt32) = 30 := by decide
theorem kbipush_31 : ((Int8.ofInt 31).toInt32) = 31 := by decide
theorem kbipush_32 : ((Int8.ofInt 32).toInt32) = 32 := by decide
theorem kbipush_36 : ((Int8.ofInt 36).toInt32) = 36 := by decide
theorem kbipush_40 : ((Int8.ofInt 40).toInt32) = 40 := by decide
theorem kbipush_44 : ((Int8.ofInt 44).toInt32) = 44 := by decide
theorem kbipush_45 : ((Int8.ofInt 45).toInt32) = 45 := by decide
theorem kbipush_48 : ((Int8.ofInt 48).toInt32) = 48 := by decide
theorem kbipush_52 : ((Int8.ofInt 52).toInt32) = 52 := by decide
theorem kbipush_58 : ((Int8.ofInt 58).toInt32) = 58 := by decide
theorem kbipush_60 : ((Int8.ofInt 60).toInt32) = 60 := by decide
theorem kbipush_61 : ((Int8.ofInt 61).toInt32) = 61 := by decide
theorem kbipush_63 : ((Int8.ofInt 63).toInt32) = 63 := by decide
theorem kbipush_64 : ((Int8.ofInt 64).toInt32) = 64 := by decide
theorem kbipush_90 : ((Int8.ofInt 90).toInt32) = 90 := by decide
theorem kbipush_96 : ((Int8.ofInt 96).toInt32) = 96 := by decide
theorem kbipush_99 : ((Int8.ofInt 99).toInt32) = 99 := by decide
theorem kbipush_112 : ((Int8.ofInt 112).toInt32) = 112 := by decide
theorem kbipush_114 : ((Int8.ofInt 114).toInt32) = 114 := by decide
theorem kbipush_115 : ((Int8.ofInt 115).toInt32) = 115 := by decide
theorem kbipush_116 : ((Int8.ofInt 116).toInt32) = 116 := by decide
theorem kbipush_120 : ((Int8.ofInt 120).toInt32) = 120 := by decide
theorem kbipush_121 : ((Int8.ofInt 121).toInt32) = 121 := by decide
theorem kbipush_126 : ((Int8.ofInt 126).toInt32) = 126 := by decide
theorem kiconst_m1 : (Int32.ofInt (-1)) = (-1) := by decide
theorem kiconst_0 : (Int32.ofInt 0) = 0 := by decide
theorem kiconst_1 : (Int32.ofInt 1) = 1 := by decide
theorem kiconst_2 : (Int32.ofInt 2) = 2 := by decide
theorem kiconst_3 : (Int32.ofInt 3) = 3 := by decide
theorem kiconst_4 : (Int32.ofInt 4) = 4 := by decide
theorem kiconst_5 : (Int32.ofInt 5) = 5 := by decide
theorem kinc_m16 (x : Int32) : x + Int32.ofInt (-16) = x + (-16) := congrArg (x + ·) (by decide)
theorem kinc_m8 (x : Int32) : x + Int32.ofInt (-8) = x + (-8) := congrArg (x + ·) (by decide)
theorem kinc_m4 (x : Int32) : x + Int32.ofInt (-4) = x + (-4) := congrArg (x + ·) (by decide)
theorem kinc_m2 (x : Int32) : x + Int32.ofInt (-2) = x + (-2) := congrArg (x + ·) (by decide)
theorem kinc_m1 (x : Int32) : x + Int32.ofInt (-1) = x + (-1) := congrArg (x + ·) (by decide)
theorem kinc_1 (x : Int32) : x + Int32.ofInt 1 = x + 1 := congrArg (x + ·) (by decide)
theorem kinc_2 (x : Int32) : x + Int32.ofInt 2 = x + 2 := congrArg (x + ·) (by decide)
theorem kinc_4 (x : Int32) : x + Int32.ofInt 4 = x + 4 := congrArg (x + ·) (by decide)
theorem kinc_8 (x : Int32) : x + Int32.ofInt 8 = x + 8 := congrArg (x + ·) (by decide)
theorem kinc_16 (x : Int32) : x + Int32.ofInt 16 = x + 16 := congrArg (x + ·) (by decide)
theorem ksipush_243 : ((Int16.ofInt 243).toInt32) = 243 := by decide
theorem ksipush_256 : ((Int16.ofInt 256).toInt32) = 256 := by decide
theorem ksipush_420 : ((Int16.ofInt 420).toInt32) = 420 := by decide
theorem ksipush_541 : ((Int16.ofInt 541).toInt32) = 541 := by decide
theorem ksipush_1082 : ((Int16.ofInt 1082).toInt32) = 1082 := by decide
theorem ksipush_1102 : ((Int16.ofInt 1102).toInt32) = 1102 := by decide
theorem ksipush_1110 : ((Int16.ofInt 1110).toInt32) = 1110 := by decide
theorem ksipush_1142 : ((Int16.ofInt 1142).toInt32) = 1142 := by decide
theorem ksipush_12345 : ((Int16.ofInt 12345).toInt32) = 12345 := by decide
