/-! THE DEQUE OF TOWNS: its picture, its pure laws, moving cells between the world and the frame -/
set_option maxRecDepth 100000
abbrev TV : Type := (Nat → Int32) × (Nat → Int32) × (Nat → Int32) × (Nat → Int32) × (Nat → Int32) × Int32 × Int32 × Int32 × Int32 × Int32 × Int32
abbrev TA : Type := Nat × Nat × Nat × Nat × Nat × Nat × Nat × Nat
abbrev TU : Type := TA × TV × (Nat → Int32) × (Nat → Int32)
def tc (E : Ety) (x : Nat) : TU → va_W
  | ((a, a1, a2, a3, a4, a5, a6, a7), (k, s, p, l, g, n, h, c, r, b, d), o, u) =>
    [(a, .inr (6, [.ref a1, .ref a2, .ref a3, .ref a4, .ref a5, .ref a6, .ref a7, .int n, .int h, .int c, .int r, .int b, .int d, .ref x])), (a1, .inl (E 0, 8, .inl k)), (a2, .inl (E 0, 8, .inl s)), (a3, .inl (E 0, 8, .inl p)), (a4, .inl (E 0, 8, .inl l)), (a5, .inl (E 0, 8, .inl g)), (a6, .inl (E 1, 8, .inl o)), (a7, .inl (E 1, 8, .inl u))]
def pool (E : Ety) (x : Nat) (U : List TU) : va_W := U.flatMap (tc E x)
def eq8 (f g : Nat → Int32) : Prop := ∀ i, i < 8 → f i = g i
def tveq : TV → TV → Prop
  | (k, s, p, l, g, n, h, c, r, b, d), (k', s', p', l', g', n', h', c', r', b', d') => eq8 k k' ∧ eq8 s s' ∧ eq8 p p' ∧ eq8 l l' ∧ eq8 g g' ∧ n = n' ∧ h = h' ∧ c = c' ∧ r = r' ∧ b = b' ∧ d = d'
/-- a deque at ad of towns (whose owner is x): Us, oldest first, held by the cells F -/
def DQ (E : Ety) (x ad : Nat) (Us : List TV) (F : va_W) : Prop := ∃ (ae : Nat) (el : Nat → Option Nat) (hd : Nat) (U : List TU),
  F.Perm ((ad, .inr (11, [.ref ae, .int (nI hd), .int (nI ((hd + U.length) % 17))])) :: (ae, .inl (E 4, 17, .inr (.inr (.inr (.inr el))))) :: pool E x U) ∧ hd < 17 ∧ U.length ≤ 8 ∧
  (∀ (i : Nat) (t : TU), U[i]? = some t → el ((hd + i) % 17) = some t.1.1) ∧ U.length = Us.length ∧ ∀ (i : Nat) (t : TU) (v : TV), U[i]? = some t → Us[i]? = some v → tveq t.2.1 v
theorem eq8_rf (f : Nat → Int32) : eq8 f f := fun _ _ => rfl
theorem eq8_cpy (f g : Nat → Int32) : eq8 (va_cpy f g 0 0 8) f := fun i hi => by
  rw [pk_cpy_in (Nat.zero_le i) (by omega)]; congr 1; omega
theorem cpy_eq8 {f f' : Nat → Int32} (h : eq8 f f') (g : Nat → Int32) : va_cpy f g 0 0 8 = va_cpy f' g 0 0 8 := by
  funext i
  by_cases hi : i < 8
  · rw [pk_cpy_in (Nat.zero_le i) (by omega), pk_cpy_in (Nat.zero_le i) (by omega)]; exact h _ (by omega)
  · rw [pk_cpy_out (by omega), pk_cpy_out (by omega)]
theorem fitB_eq8 {f f' : Nat → Int32} (h : eq8 f f') : fitB f = fitB f' := by
  simp only [fitB, List.range, List.range.loop, List.all_cons, List.all_nil]
  rw [h 0 (by decide), h 1 (by decide), h 2 (by decide), h 3 (by decide), h 4 (by decide), h 5 (by decide), h 6 (by decide), h 7 (by decide)]
theorem tveq_rf (v : TV) : tveq v v := ⟨eq8_rf _, eq8_rf _, eq8_rf _, eq8_rf _, eq8_rf _, rfl, rfl, rfl, rfl, rfl, rfl⟩
/-! pure laws of the deque's functions -/
theorem j1_inc {t : Nat} (h : t < 17) : f_J1_inc (nI t) 17 = some (nI ((t + 1) % 17)) := by
  unfold f_J1_inc
  rw [show (nI t + 1) = nI (t + 1) from nI_1 t, show (17 : Int32) = nI 17 from rfl]
  by_cases h1 : t + 1 < 17
  · rw [if_pos (nI_lt h1 (by decide)), Nat.mod_eq_of_lt h1]
  · rw [if_neg (nI_nlt (by omega) (by omega)), show (t + 1) % 17 = 0 by omega]; rfl
theorem j1_dec {t : Nat} (h : t < 17) : f_J1_dec (nI t) 17 = some (nI ((t + 16) % 17)) := by
  unfold f_J1_dec
  rcases Nat.eq_zero_or_pos t with e | e
  · subst e; rw [if_neg (by decide)]; rfl
  · have h1 : nI t + (-1) = nI (t - 1) := by
      have := pk_m1 (t - 1); rw [show t - 1 + 1 = t by omega] at this; exact this
    rw [h1, if_pos (nI_pos' (by omega)), show (t + 16) % 17 = t - 1 by omega]
theorem j1_size {hd n : Nat} (h : hd < 17) (hn : n ≤ 16) : f_J1_size (nI hd) (nI ((hd + n) % 17)) = some (nI n) := by
  unfold f_J1_size f_J1_sub
  by_cases h1 : hd + n < 17
  · rw [Nat.mod_eq_of_lt h1, pk_sub (Nat.le_add_right hd n), if_pos (nI_pos' (by omega)), show hd + n - hd = n by omega]; rfl
  · have e17 : (17 : Int32).toInt = 17 := by decide
    have e1 := pk_sub_toInt (a := hd + n - 17) (b := hd) (by omega) (by omega)
    have hneg : ¬ 0 ≤ nI (hd + n - 17) - nI hd := by
      rw [Int32.not_le]; exact pk_sneg (by omega) (by omega)
    have e2 : nI (hd + n - 17) - nI hd + 17 = nI n := by
      apply Int32.toInt_inj.mp
      rw [Kit.i32_add (by rw [e1, e17]; omega) (by rw [e1, e17]; omega), e1, e17, nI_toInt (by omega)]
      omega
    rw [show (hd + n) % 17 = hd + n - 17 by omega, if_neg hneg, b1_s, e2]
theorem j1_elementAt {t p : Nat} {el : Nat → Option Nat} (h : t < 17) (he : el t = some p) : f_J1_elementAt (nI t) el = some p := by
  unfold f_J1_elementAt
  rw [if_neg (nI_in h (by decide)), nI_clamp (by omega), he]; rfl
theorem j1_removeFirst {hd p : Nat} {el : Nat → Option Nat} (h : hd < 17) (he : el hd = some p) : f_J1_removeFirst (nI hd) el = some (p, nI ((hd + 1) % 17), va_up el hd none) := by
  unfold f_J1_removeFirst f_J1_pollFirst
  rw [j1_elementAt h he, b1_s, if_neg (nI_in h (by decide)), j1_inc h, b1_s, b3_s, nI_clamp (by omega)]
theorem j1_removeLast {tl p : Nat} {el : Nat → Option Nat} (h : tl < 17) (he : el ((tl + 16) % 17) = some p) : f_J1_removeLast (nI tl) el = some (p, nI ((tl + 16) % 17), va_up el ((tl + 16) % 17) none) := by
  unfold f_J1_removeLast f_J1_pollLast
  have h1 : (tl + 16) % 17 < 17 := Nat.mod_lt _ (by decide)
  rw [j1_dec h, b1_s, j1_elementAt h1 he, b1_s, if_neg (nI_in h1 (by decide)), b3_s, nI_clamp (by omega)]
theorem j1_addLast {hd tl p : Nat} {el : Nat → Option Nat} (h : tl < 17) (hh : hd < 17) (hne : hd ≠ (tl + 1) % 17) : f_J1_addLast p (nI hd) (nI tl) el = some (nI ((tl + 1) % 17), va_up el tl (some p)) := by
  unfold f_J1_addLast
  rw [if_neg (nI_in h (by decide)), j1_inc h, b1_s, if_neg ?_, nI_clamp (by omega)]
  intro e
  exact hne ((nI_eq (by omega) (by omega)).mp e)
theorem j1_isEmpty {hd n : Nat} (h : hd < 17) (hn : n ≤ 16) : f_J1_isEmpty (nI hd) (nI ((hd + n) % 17)) = some (if n = 0 then 1 else 0) := by
  unfold f_J1_isEmpty
  by_cases e : n = 0
  · subst e; rw [Nat.add_zero, Nat.mod_eq_of_lt h]; simp
  · rw [if_neg e, if_neg ?_]
    intro z
    have := (nI_eq (by omega) (by omega)).mp z
    omega
/-! moving cells -/
theorem Ok.wF {X : Cx} {cc : ByteArray} {own : String} (h : Ok X cc own) (F : va_W) : Ok (X.wF F) cc own := h
theorem Rm.wF {X : Cx} {fr lo ce sl : Nat} (h : Rm X fr lo ce sl) (F : va_W) : Rm (X.wF F) fr lo ce sl := h
theorem FinQ.wF {X : Cx} {ret : Option FieldType} {mc ms : Nat} {Po : Option Value → va_W → Prop} (h : FinQ X ret mc ms Po) (F : va_W) : FinQ (X.wF F) ret mc ms Po := h
theorem Rm.less {X : Cx} {fr lo ce sl fr' lo' ce' sl' : Nat} (h : Rm X fr lo ce sl) (h1 : fr' ≤ fr) (h2 : lo' ≤ lo) (h3 : ce' ≤ ce) (h4 : sl' ≤ sl) : Rm X fr' lo' ce' sl' := ⟨Nat.le_trans h1 h.1, Nat.le_trans h2 h.2.1, Nat.le_trans h3 h.2.2.1, Nat.le_trans h4 h.2.2.2⟩
section
variable {X : Cx} {ws : va_W} {lv : LV} {ce sl pc : Nat} {st : List Value}
theorem G.pm {ws' F' : va_W} (hp : (ws ++ X.F).Perm (ws' ++ F')) (k : G (X.wF F') ws' lv ce sl pc st) : G X ws lv ce sl pc st :=
  fun H locs ls hP hD hS hl => k H locs ls (pPp hp hP) (pD hp hD) hS hl
/-- cells b go from the world into the frame -/
theorem G.sp {a b : va_W} (k : G (X.wF (b ++ X.F)) a lv ce sl pc st) : G X (a ++ b) lv ce sl pc st :=
  G.pm (by rw [List.append_assoc]) k
/-- cells b come out of the frame -/
theorem G.mg {a b F : va_W} (hF : X.F = b ++ F) (k : G (X.wF F) (a ++ b) lv ce sl pc st) : G X a lv ce sl pc st :=
  G.pm (by rw [hF, List.append_assoc]) k
theorem g_castT {cc : ByteArray} {own : String} (h : Ok X cc own) {a idx : Nat} {fs : List Value} (q0 : Nat) (he : ws[q0]? = some (a, .inr (6, fs))) (w : Cond.classLink own idx RX6 ∈ lw_all) (d : decode cc pc = .ok (.checkcast idx, 3)) (k : G X ws lv ce sl (pc + 3) (.ref a :: st)) : G X ws lv ce sl pc (.ref a :: st) :=
  fun H locs ls hP hD hS hl => va_castS h.x h.b h.own (h.ts _ w) (h.k.1 6 _ rfl).2 (va_recv h.k hP (ci := 6) rfl (apL he)) d (k H locs ls hP hD hS hl)
end
theorem va_A_perm {a b : va_W} (h : a.Perm b) (sz : Nat) : va_A a sz = va_A b sz := by
  funext q
  apply propext
  constructor
  · rintro (⟨k, e, hk⟩ | hq)
    · obtain ⟨i, hi⟩ := List.getElem?_of_mem (h.mem_iff.mp (List.mem_of_getElem? hk))
      exact Or.inl ⟨i, e, hi⟩
    · exact Or.inr hq
  · rintro (⟨k, e, hk⟩ | hq)
    · obtain ⟨i, hi⟩ := List.getElem?_of_mem (h.mem_iff.mpr (List.mem_of_getElem? hk))
      exact Or.inl ⟨i, e, hi⟩
    · exact Or.inr hq
theorem MetFree_pre {l : Launch} {y : MethodName} {S : Spec} {P P' : Array Value → State → Prop} {K : Program → Env → List Frame → State → Array Value → Prop} {Q : Array Value → State → Outcome → State → Prop} (h : MetFree l y S P K Q) (hp : ∀ a s, P' a s → P a s) : MetFree l y S P' K Q :=
  fun p e ha hc hk s m args below hf happ hP hK => h p e ha hc hk s m args below hf happ (hp _ _ hP) hK
theorem Ct.perm {l : Launch} {y : MethodName} {cc : ByteArray} {nL : Nat} {ret : Option FieldType} {fr lo mc ms : Nat} {D : va_G} {E : Ety} {av : List Value} {ws ws' : va_W} {Po : Option Value → va_W → Prop} (hp : ws.Perm ws') (h : Ct l y cc nL ret fr lo mc ms D E av ws' Po) : Ct l y cc nL ret fr lo mc ms D E av ws Po := by
  intro sz
  have h1 := h sz
  rw [← va_A_perm hp sz] at h1
  refine MetFree_pre h1 ?_
  rintro a s ⟨e, hsz, hP, hK, hD, hH⟩
  exact ⟨e, hsz, pPp hp hP, hK, pD hp hD, by first | exact hH | (rw [← va_A_perm hp sz]; exact hH)⟩
theorem pool_app (E : Ety) (x : Nat) (U V : List TU) : pool E x (U ++ V) = pool E x U ++ pool E x V := List.flatMap_append
theorem pool_cons (E : Ety) (x : Nat) (t : TU) (U : List TU) : pool E x (t :: U) = tc E x t ++ pool E x U := rfl
