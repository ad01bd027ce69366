set_option maxRecDepth 100000
def kcls : Nat → String
  | 0 => "java/lang/NullPointerException"
  | 1 => "java/lang/ClassCastException"
  | 2 => "java/lang/ArrayIndexOutOfBoundsException"
  | _ => "java/lang/NegativeArraySizeException"
section
variable {X : Cx} {cc : ByteArray} {own : String} {ws : va_W} {lv : LV} {ce sl pc : Nat} {st : List Value}
theorem g_castN (h : Ok X cc own) {idx : Nat} (d : decode cc pc = .ok (.checkcast idx, 3)) (k : G X ws lv ce sl (pc + 3) (.null :: st)) : G X ws lv ce sl pc (.null :: st) := by
  intro H locs ls hP hD hS hl T hT Z
  obtain ⟨t, a1, b1⟩ := k H locs ls hP hD hS hl T hT Z
  exact ⟨t, Z.checkcastNull h.x (g := F0 X.m pc ls (.null :: st)) rfl (rest := st) rfl (by rw [h.b]; exact d) t a1, b1⟩
theorem g_castL (h : Ok X cc own) {a idx t : Nat} {x : vp_A} (q0 : Nat) (he : ws[q0]? = some (a, .inl (X.E (lE t), x))) (w : Cond.classLink own idx (lnm t) ∈ lw_all) (d : decode cc pc = .ok (.checkcast idx, 3)) (k : G X ws lv ce sl (pc + 3) (.ref a :: st)) : G X ws lv ce sl pc (.ref a :: st) :=
  fun H locs ls hP hD hS hl => va_castA h.x h.b h.own (h.ts _ w) hP q0 (apL he) (lane_fc h t) d (k H locs ls hP hD hS hl)
theorem lane_cell (h : Ok X cc own) {a t : Nat} {x : vp_A} {q0 : Nat} (he : ws[q0]? = some (a, .inl (X.E (lE t), x))) {H : Heap} (hP : va_P X.D vwCl (ws ++ X.F) H) : ∃ cell : Cell, H[a]? = some cell ∧ cell.vm.isStatics = false ∧ X.s.vm.findClass (lnm t) = some cell.cls := by
  have hvm0 : (vp_cell (X.E (lE t)) x).vm = .none := by
    obtain ⟨n, f | f | f | f | f⟩ := x <;> rfl
  have hcl0 : (vp_cell (X.E (lE t)) x).cls = X.E (lE t) := by
    obtain ⟨n, f | f | f | f | f⟩ := x <;> rfl
  exact ⟨_, hP q0 _ (apL he), by rw [hvm0]; rfl, by rw [hcl0]; exact lane_fc h t⟩
theorem g_instL (h : Ok X cc own) {a idx t : Nat} {x : vp_A} (q0 : Nat) (he : ws[q0]? = some (a, .inl (X.E (lE t), x))) (w : Cond.classLink own idx (lnm t) ∈ lw_all) (d : decode cc pc = .ok (.instanceof idx, 3)) (k : G X ws lv ce sl (pc + 3) (.int 1 :: st)) : G X ws lv ce sl pc (.ref a :: st) :=
  fun H locs ls hP hD hS hl => va_instE h.x h.b h.own (h.ts _ w) (lane_cell h he hP) d (k H locs ls hP hD hS hl)
theorem g_instN (h : Ok X cc own) {a idx t t2 : Nat} {x : vp_A} (q0 : Nat) (he : ws[q0]? = some (a, .inl (X.E (lE t), x))) (w : Cond.classLink own idx (lnm t2) ∈ lw_all) (hnc : va_Nc (lnm t) (lnm t2) X.s) (d : decode cc pc = .ok (.instanceof idx, 3)) (k : G X ws lv ce sl (pc + 3) (.int 0 :: st)) : G X ws lv ce sl pc (.ref a :: st) :=
  fun H locs ls hP hD hS hl => va_instNo h.x h.b h.own (h.ts _ w) hnc (lane_cell h he hP) d (k H locs ls hP hD hS hl)
end

def e_X0_sizeIn_hN (x1 : Int32) : Option Nat :=
  if x1 = 0 then
    some 0
  else
    if x1 = 1 then
      some 0
    else
      if x1 = 2 then
        some 0
      else
        some 0
def e_X0_puts_hN (x1 : Int32) : Option Nat :=
  if x1 = 0 then
    some 0
  else
    if x1 = 1 then
      some 0
    else
      if x1 = 2 then
        some 0
      else
        some 0
def f_X0_sizeIn_h0 (nn : Nat) (x1 : Int32) : Option (Int32) :=
  if x1 = 0 then
    some (Int32.ofNat nn)
  else
    if x1 = 1 then
      none
    else
      if x1 = 2 then
        none
      else
        none
def e_X0_sizeIn_h0 (x1 : Int32) : Option Nat :=
  if x1 = 0 then
    none
  else
    if x1 = 1 then
      some 1
    else
      if x1 = 2 then
        some 1
      else
        some 1
def f_X0_itemOf_h0 (nn : Nat) (x1 : Int32) (x2 : Int32) (held : Nat → Int32) : Option (Int64) :=
  if x1 = 0 then
    if x2 < 0 ∨ nn ≤ x2.toNatClampNeg then none else
    some ((held x2.toNatClampNeg).toInt64)
  else
    if x1 = 1 then
      none
    else
      if x1 = 2 then
        none
      else
        none
def f_X0_puts_h0 (nn : Nat) (x1 : Int32) (x2 : Int32) (x3 : Int64) (held : Nat → Int32) : Option ((Nat → Int32)) :=
  if x1 = 0 then
    if x2 < 0 ∨ nn ≤ x2.toNatClampNeg then none else
    some (upd held x2.toNatClampNeg (vp_nar .byte x3.toInt32.toInt8.toInt32))
  else
    if x1 = 1 then
      none
    else
      if x1 = 2 then
        none
      else
        none
def e_X0_puts_h0 (nn : Nat) (x1 : Int32) (x2 : Int32) : Option Nat :=
  if x1 = 0 then
    if x2 < 0 ∨ nn ≤ x2.toNatClampNeg then
      some 2
    else none
  else
    if x1 = 1 then
      some 1
    else
      if x1 = 2 then
        some 1
      else
        some 1
def f_X0_sizeOf_h0 (nn : Nat) : Option (Int32) :=
  some (Int32.ofNat nn)
def f_X0_sizeIn_h1 (nn : Nat) (x1 : Int32) : Option (Int32) :=
  if x1 = 0 then
    none
  else
    if x1 = 1 then
      some (Int32.ofNat nn)
    else
      if x1 = 2 then
        none
      else
        none
def e_X0_sizeIn_h1 (x1 : Int32) : Option Nat :=
  if x1 = 0 then
    some 1
  else
    if x1 = 1 then
      none
    else
      if x1 = 2 then
        some 1
      else
        some 1
def f_X0_itemOf_h1 (nn : Nat) (x1 : Int32) (x2 : Int32) (held : Nat → Int32) : Option (Int64) :=
  if x1 = 0 then
    none
  else
    if x1 = 1 then
      if x2 < 0 ∨ nn ≤ x2.toNatClampNeg then none else
      some ((held x2.toNatClampNeg).toInt64)
    else
      if x1 = 2 then
        none
      else
        none
def f_X0_puts_h1 (nn : Nat) (x1 : Int32) (x2 : Int32) (x3 : Int64) (held : Nat → Int32) : Option ((Nat → Int32)) :=
  if x1 = 0 then
    none
  else
    if x1 = 1 then
      if x2 < 0 ∨ nn ≤ x2.toNatClampNeg then none else
      some (upd held x2.toNatClampNeg (vp_nar .short x3.toInt32.toInt16.toInt32))
    else
      if x1 = 2 then
        none
      else
        none
def e_X0_puts_h1 (nn : Nat) (x1 : Int32) (x2 : Int32) : Option Nat :=
  if x1 = 0 then
    some 1
  else
    if x1 = 1 then
      if x2 < 0 ∨ nn ≤ x2.toNatClampNeg then
        some 2
      else none
    else
      if x1 = 2 then
        some 1
      else
        some 1
def f_X0_sizeOf_h1 (nn : Nat) : Option (Int32) :=
  some (Int32.ofNat nn)
def f_X0_sizeIn_h2 (nn : Nat) (x1 : Int32) : Option (Int32) :=
  if x1 = 0 then
    none
  else
    if x1 = 1 then
      none
    else
      if x1 = 2 then
        some (Int32.ofNat nn)
      else
        none
def e_X0_sizeIn_h2 (x1 : Int32) : Option Nat :=
  if x1 = 0 then
    some 1
  else
    if x1 = 1 then
      some 1
    else
      if x1 = 2 then
        none
      else
        some 1
def f_X0_itemOf_h2 (nn : Nat) (x1 : Int32) (x2 : Int32) (held : Nat → Int32) : Option (Int64) :=
  if x1 = 0 then
    none
  else
    if x1 = 1 then
      none
    else
      if x1 = 2 then
        if x2 < 0 ∨ nn ≤ x2.toNatClampNeg then none else
        some ((held x2.toNatClampNeg).toInt64)
      else
        none
def f_X0_puts_h2 (nn : Nat) (x1 : Int32) (x2 : Int32) (x3 : Int64) (held : Nat → Int32) : Option ((Nat → Int32)) :=
  if x1 = 0 then
    none
  else
    if x1 = 1 then
      none
    else
      if x1 = 2 then
        if x2 < 0 ∨ nn ≤ x2.toNatClampNeg then none else
        some (upd held x2.toNatClampNeg x3.toInt32)
      else
        none
def e_X0_puts_h2 (nn : Nat) (x1 : Int32) (x2 : Int32) : Option Nat :=
  if x1 = 0 then
    some 1
  else
    if x1 = 1 then
      some 1
    else
      if x1 = 2 then
        if x2 < 0 ∨ nn ≤ x2.toNatClampNeg then
          some 2
        else none
      else
        some 1
def f_X0_sizeOf_h2 (nn : Nat) : Option (Int32) :=
  some (Int32.ofNat nn)
def f_X0_sizeIn_h3 (nn : Nat) (x1 : Int32) : Option (Int32) :=
  if x1 = 0 then
    none
  else
    if x1 = 1 then
      none
    else
      if x1 = 2 then
        none
      else
        some (Int32.ofNat nn)
def e_X0_sizeIn_h3 (x1 : Int32) : Option Nat :=
  if x1 = 0 then
    some 1
  else
    if x1 = 1 then
      some 1
    else
      if x1 = 2 then
        some 1
      else
        none
def f_X0_itemOf_h3 (nn : Nat) (x1 : Int32) (x2 : Int32) (held : Nat → Int64) : Option (Int64) :=
  if x1 = 0 then
    none
  else
    if x1 = 1 then
      none
    else
      if x1 = 2 then
        none
      else
        if x2 < 0 ∨ nn ≤ x2.toNatClampNeg then none else
        some (held x2.toNatClampNeg)
def f_X0_puts_h3 (nn : Nat) (x1 : Int32) (x2 : Int32) (x3 : Int64) (held : Nat → Int64) : Option ((Nat → Int64)) :=
  if x1 = 0 then
    none
  else
    if x1 = 1 then
      none
    else
      if x1 = 2 then
        none
      else
        if x2 < 0 ∨ nn ≤ x2.toNatClampNeg then none else
        some (vp_updL held x2.toNatClampNeg x3)
def e_X0_puts_h3 (nn : Nat) (x1 : Int32) (x2 : Int32) : Option Nat :=
  if x1 = 0 then
    some 1
  else
    if x1 = 1 then
      some 1
    else
      if x1 = 2 then
        some 1
      else
        if x2 < 0 ∨ nn ≤ x2.toNatClampNeg then
          some 2
        else none
def f_X0_sizeOf_h3 (nn : Nat) : Option (Int32) :=
  some (Int32.ofNat nn)
set_option maxHeartbeats 4000000 in
set_option maxRecDepth 100000 in
theorem ctT_X0_sizeIn_hN {l : Launch} {D : va_G} {E : Ety}  {x1 : Int32} {k_ : Nat} (hfl : l.flags = flags0) (hf : e_X0_sizeIn_hN x1 = some k_) : CtT l yX0_sizeIn cX0_sizeIn 2 (some .int) 8 10300 1 8 D E [.null, .int x1] [] (fun C x w => C = kcls k_ ∧ w = []) := by
  refine ct_ofT (own := RX0) (plainFor_of_name (by decide)) rfl (fle rfl) rfl ?_
  intro X hl hD hE hnL hXF h hR hF hx
  subst hl; subst hD; subst hE
  have hL : ∀ i, i < 2 → i < X.nL := fun i hi => by rw [hnL]; exact hi
  unfold e_X0_sizeIn_hN at hf
  refine g_iload_n h 1 dX0_sizeIn_0 rfl rfl ?_
  refine hf_if hf (fun c1 hf => ?_) (fun c1 hf => ?_)
  · refine g_tabIn (c := 0) (tgt := 28) h dX0_sizeIn_1 c1 (by decide) (by decide) rfl rfl ?_
    refine g_aload_nN h 0 dX0_sizeIn_28 rfl rfl ?_
    refine g_castN h dX0_sizeIn_29 ?_
    obtain rfl := sj1 hf
    exact t_alenN h hR hfl hx hF (fle rfl) (fle rfl) (fle rfl) (fle rfl) [] rfl rfl (fun x => ⟨rfl, rfl⟩) dX0_sizeIn_32
  · refine hf_if hf (fun c2 hf => ?_) (fun c2 hf => ?_)
    · refine g_tabIn (c := 1) (tgt := 34) h dX0_sizeIn_1 c2 (by decide) (by decide) rfl rfl ?_
      refine g_aload_nN h 0 dX0_sizeIn_34 rfl rfl ?_
      refine g_castN h dX0_sizeIn_35 ?_
      obtain rfl := sj1 hf
      exact t_alenN h hR hfl hx hF (fle rfl) (fle rfl) (fle rfl) (fle rfl) [] rfl rfl (fun x => ⟨rfl, rfl⟩) dX0_sizeIn_38
    · refine hf_if hf (fun c3 hf => ?_) (fun c3 hf => ?_)
      · refine g_tabIn (c := 2) (tgt := 40) h dX0_sizeIn_1 c3 (by decide) (by decide) rfl rfl ?_
        refine g_aload_nN h 0 dX0_sizeIn_40 rfl rfl ?_
        refine g_castN h dX0_sizeIn_41 ?_
        obtain rfl := sj1 hf
        exact t_alenN h hR hfl hx hF (fle rfl) (fle rfl) (fle rfl) (fle rfl) [] rfl rfl (fun x => ⟨rfl, rfl⟩) dX0_sizeIn_44
      · refine g_tabOut (tgt := 46) h dX0_sizeIn_1 (tab_out 0 2 (by decide) (by intro c z1 z2; rcases (show c = 0 ∨ c = 1 ∨ c = 2 by omega) with rfl | rfl | rfl <;> assumption)) rfl ?_
        refine g_aload_nN h 0 dX0_sizeIn_46 rfl rfl ?_
        refine g_castN h dX0_sizeIn_47 ?_
        obtain rfl := sj1 hf
        exact t_alenN h hR hfl hx hF (fle rfl) (fle rfl) (fle rfl) (fle rfl) [] rfl rfl (fun x => ⟨rfl, rfl⟩) dX0_sizeIn_50
set_option maxHeartbeats 4000000 in
set_option maxRecDepth 100000 in
theorem ctT_X0_puts_hN {l : Launch} {D : va_G} {E : Ety}  {x1 : Int32} {x2 : Int32} {x3 : Int64} {k_ : Nat} (hfl : l.flags = flags0) (hf : e_X0_puts_hN x1 = some k_) : CtT l yX0_puts cX0_puts 5 none 8 10300 1 8 D E [.null, .int x1, .int x2, .long x3] [] (fun C x w => C = kcls k_ ∧ w = []) := by
  refine ct_ofT (own := RX0) (plainFor_of_name (by decide)) rfl (fle rfl) rfl ?_
  intro X hl hD hE hnL hXF h hR hF hx
  subst hl; subst hD; subst hE
  have hL : ∀ i, i < 5 → i < X.nL := fun i hi => by rw [hnL]; exact hi
  unfold e_X0_puts_hN at hf
  refine g_iload_n h 1 dX0_puts_0 rfl rfl ?_
  refine g_if_ne (tgt := 16) h dX0_puts_1 rfl hf (fun c1 hf => ?_) (fun c1 hf => ?_)
  · refine g_aload_nN h 0 dX0_puts_4 rfl rfl ?_
    refine g_castN h dX0_puts_5 ?_
    refine g_iload_n h 2 dX0_puts_8 rfl rfl ?_
    refine g_lload_n h 3 dX0_puts_9 rfl rfl ?_
    refine g_l2i h dX0_puts_10 ?_
    refine g_i2b h dX0_puts_11 ?_
    obtain rfl := sj1 hf
    exact t_nulb h hR hfl hx hF (fle rfl) (fle rfl) (fle rfl) (fle rfl) [] rfl rfl (fun x => ⟨rfl, rfl⟩) dX0_puts_12
  · refine g_iload_n h 1 dX0_puts_16 rfl rfl ?_
    refine g_iconst (v := 1) h dX0_puts_17 kiconst_1 ?_
    refine g_icmp_ne (tgt := 33) h dX0_puts_18 rfl hf (fun c2 hf => ?_) (fun c2 hf => ?_)
    · refine g_aload_nN h 0 dX0_puts_21 rfl rfl ?_
      refine g_castN h dX0_puts_22 ?_
      refine g_iload_n h 2 dX0_puts_25 rfl rfl ?_
      refine g_lload_n h 3 dX0_puts_26 rfl rfl ?_
      refine g_l2i h dX0_puts_27 ?_
      refine g_i2s h dX0_puts_28 ?_
      obtain rfl := sj1 hf
      exact t_nuls h hR hfl hx hF (fle rfl) (fle rfl) (fle rfl) (fle rfl) [] rfl rfl (fun x => ⟨rfl, rfl⟩) dX0_puts_29
    · refine g_iload_n h 1 dX0_puts_33 rfl rfl ?_
      refine g_iconst (v := 2) h dX0_puts_34 kiconst_2 ?_
      refine g_icmp_ne (tgt := 49) h dX0_puts_35 rfl hf (fun c3 hf => ?_) (fun c3 hf => ?_)
      · refine g_aload_nN h 0 dX0_puts_38 rfl rfl ?_
        refine g_castN h dX0_puts_39 ?_
        refine g_iload_n h 2 dX0_puts_42 rfl rfl ?_
        refine g_lload_n h 3 dX0_puts_43 rfl rfl ?_
        refine g_l2i h dX0_puts_44 ?_
        obtain rfl := sj1 hf
        exact t_nuli h hR hfl hx hF (fle rfl) (fle rfl) (fle rfl) (fle rfl) [] rfl rfl (fun x => ⟨rfl, rfl⟩) dX0_puts_45
      · refine g_aload_nN h 0 dX0_puts_49 rfl rfl ?_
        refine g_castN h dX0_puts_50 ?_
        refine g_iload_n h 2 dX0_puts_53 rfl rfl ?_
        refine g_lload_n h 3 dX0_puts_54 rfl rfl ?_
        obtain rfl := sj1 hf
        exact t_null h hR hfl hx hF (fle rfl) (fle rfl) (fle rfl) (fle rfl) [] rfl rfl (fun x => ⟨rfl, rfl⟩) dX0_puts_55
set_option maxHeartbeats 4000000 in
set_option maxRecDepth 100000 in
theorem ct_X0_sizeIn_h0 {l : Launch} {D : va_G} {E : Ety} {a_t0 nn : Nat} {x1 : Int32} {held : Nat → Int32} {r_ : Int32} (hn0 : nn ≤ 24) (hf : f_X0_sizeIn_h0 nn x1 = some r_) : Ct l yX0_sizeIn cX0_sizeIn 2 (some .int) 0 0 0 0 D E [.ref a_t0, .int x1] [(a_t0, .inl (E 0, nn, .inl held))] (Pn (some (.int r_)) [(a_t0, .inl (E 0, nn, .inl held))]) := by
  refine ct_of (own := RX0) (plainFor_of_name (by decide)) rfl (fle rfl) rfl ?_
  intro X hl hD hE hnL hXF h hR hF hnm
  subst hl; subst hD; subst hE
  have hL : ∀ i, i < 2 → i < X.nL := fun i hi => by rw [hnL]; exact hi
  unfold f_X0_sizeIn_h0 at hf
  refine g_iload_n h 1 dX0_sizeIn_0 rfl rfl ?_
  refine hf_if hf (fun c1 hf => ?_) (fun c1 hf => ?_)
  · refine g_tabIn (c := 0) (tgt := 28) h dX0_sizeIn_1 c1 (by decide) (by decide) rfl rfl ?_
    refine g_aload_n h 0 dX0_sizeIn_28 rfl rfl ?_
    refine g_castL (t := 0) h 0 rfl q933 dX0_sizeIn_29 ?_
    refine g_alen (t0 := 0) (v := Int32.ofNat nn) h 0 rfl rfl rfl dX0_sizeIn_32 ?_
    obtain rfl := sj1 hf
    exact g_iret h hF [0] rfl rfl ⟨rfl, rfl⟩ (fle rfl) (fle rfl) dX0_sizeIn_33
  · refine hf_if hf (fun c2 hf => ?_) (fun c2 hf => ?_)
    · refine g_tabIn (c := 1) (tgt := 34) h dX0_sizeIn_1 c2 (by decide) (by decide) rfl rfl ?_
      refine g_aload_n h 0 dX0_sizeIn_34 rfl rfl ?_
      exact nomatch hf
    · refine hf_if hf (fun c3 hf => ?_) (fun c3 hf => ?_)
      · refine g_tabIn (c := 2) (tgt := 40) h dX0_sizeIn_1 c3 (by decide) (by decide) rfl rfl ?_
        refine g_aload_n h 0 dX0_sizeIn_40 rfl rfl ?_
        exact nomatch hf
      · refine g_tabOut (tgt := 46) h dX0_sizeIn_1 (tab_out 0 2 (by decide) (by intro c z1 z2; rcases (show c = 0 ∨ c = 1 ∨ c = 2 by omega) with rfl | rfl | rfl <;> assumption)) rfl ?_
        refine g_aload_n h 0 dX0_sizeIn_46 rfl rfl ?_
        exact nomatch hf
set_option maxHeartbeats 4000000 in
set_option maxRecDepth 100000 in
theorem ctT_X0_sizeIn_h0 {l : Launch} {D : va_G} {E : Ety} {a_t0 nn : Nat} {x1 : Int32} {held : Nat → Int32} {k_ : Nat} (hn0 : nn ≤ 24) (hfl : l.flags = flags0) (hf : e_X0_sizeIn_h0 x1 = some k_) : CtT l yX0_sizeIn cX0_sizeIn 2 (some .int) 7 10300 3 650 D E [.ref a_t0, .int x1] [(a_t0, .inl (E 0, nn, .inl held))] (fun C x w => C = kcls k_ ∧ w = [(a_t0, .inl (E 0, nn, .inl held))]) := by
  refine ct_ofT (own := RX0) (plainFor_of_name (by decide)) rfl (fle rfl) rfl ?_
  intro X hl hD hE hnL hXF h hR hF hx
  subst hl; subst hD; subst hE
  have hL : ∀ i, i < 2 → i < X.nL := fun i hi => by rw [hnL]; exact hi
  unfold e_X0_sizeIn_h0 at hf
  refine g_iload_n h 1 dX0_sizeIn_0 rfl rfl ?_
  refine hf_if hf (fun c1 hf => ?_) (fun c1 hf => ?_)
  · refine g_tabIn (c := 0) (tgt := 28) h dX0_sizeIn_1 c1 (by decide) (by decide) rfl rfl ?_
    refine g_aload_n h 0 dX0_sizeIn_28 rfl rfl ?_
    refine g_castL (t := 0) h 0 rfl q933 dX0_sizeIn_29 ?_
    refine g_alen (t0 := 0) (v := Int32.ofNat nn) h 0 rfl rfl rfl dX0_sizeIn_32 ?_
    exact nomatch hf
  · refine hf_if hf (fun c2 hf => ?_) (fun c2 hf => ?_)
    · refine g_tabIn (c := 1) (tgt := 34) h dX0_sizeIn_1 c2 (by decide) (by decide) rfl rfl ?_
      refine g_aload_n h 0 dX0_sizeIn_34 rfl rfl ?_
      obtain rfl := sj1 hf
      exact t_cce (t := 0) (t2 := 1) (q0 := 0) h hR hfl hx hF rfl q934 (h.nw.2.2.2.2.1 ("[B", "[S") (by decide)) (fle rfl) (fle rfl) (fle rfl) (fle rfl) [0] rfl rfl (fun x => ⟨rfl, rfl⟩) dX0_sizeIn_35
    · refine hf_if hf (fun c3 hf => ?_) (fun c3 hf => ?_)
      · refine g_tabIn (c := 2) (tgt := 40) h dX0_sizeIn_1 c3 (by decide) (by decide) rfl rfl ?_
        refine g_aload_n h 0 dX0_sizeIn_40 rfl rfl ?_
        obtain rfl := sj1 hf
        exact t_cce (t := 0) (t2 := 2) (q0 := 0) h hR hfl hx hF rfl q935 (h.nw.2.2.2.2.1 ("[B", "[I") (by decide)) (fle rfl) (fle rfl) (fle rfl) (fle rfl) [0] rfl rfl (fun x => ⟨rfl, rfl⟩) dX0_sizeIn_41
      · refine g_tabOut (tgt := 46) h dX0_sizeIn_1 (tab_out 0 2 (by decide) (by intro c z1 z2; rcases (show c = 0 ∨ c = 1 ∨ c = 2 by omega) with rfl | rfl | rfl <;> assumption)) rfl ?_
        refine g_aload_n h 0 dX0_sizeIn_46 rfl rfl ?_
        obtain rfl := sj1 hf
        exact t_cce (t := 0) (t2 := 3) (q0 := 0) h hR hfl hx hF rfl q936 (h.nw.2.2.2.2.1 ("[B", "[J") (by decide)) (fle rfl) (fle rfl) (fle rfl) (fle rfl) [0] rfl rfl (fun x => ⟨rfl, rfl⟩) dX0_sizeIn_47
set_option maxHeartbeats 4000000 in
set_option maxRecDepth 100000 in
theorem ct_X0_itemOf_h0 {l : Launch} {D : va_G} {E : Ety} {a_t0 nn : Nat} {x1 : Int32} {x2 : Int32} {held : Nat → Int32} {r_ : Int64} (hn0 : nn ≤ 24) (hf : f_X0_itemOf_h0 nn x1 x2 held = some r_) : Ct l yX0_itemOf cX0_itemOf 3 (some .long) 0 0 0 0 D E [.ref a_t0, .int x1, .int x2] [(a_t0, .inl (E 0, nn, .inl held))] (Pn (some (.long r_)) [(a_t0, .inl (E 0, nn, .inl held))]) := by
  refine ct_of (own := RX0) (plainFor_of_name (by decide)) rfl (fle rfl) rfl ?_
  intro X hl hD hE hnL hXF h hR hF hnm
  subst hl; subst hD; subst hE
  have hL : ∀ i, i < 3 → i < X.nL := fun i hi => by rw [hnL]; exact hi
  unfold f_X0_itemOf_h0 at hf
  refine g_iload_n h 1 dX0_itemOf_0 rfl rfl ?_
  refine hf_if hf (fun c1 hf => ?_) (fun c1 hf => ?_)
  · refine g_tabIn (c := 0) (tgt := 28) h dX0_itemOf_1 c1 (by decide) (by decide) rfl rfl ?_
    refine g_aload_n h 0 dX0_itemOf_28 rfl rfl ?_
    refine g_castL (t := 0) h 0 rfl q933 dX0_itemOf_29 ?_
    refine g_iload_n h 2 dX0_itemOf_32 rfl rfl ?_
    obtain ⟨g2, hf⟩ := gn hf
    refine g_baload h 0 rfl g2 dX0_itemOf_33 ?_
    refine g_i2l h dX0_itemOf_34 ?_
    obtain rfl := sj1 hf
    exact g_lret h hF [0] rfl rfl ⟨rfl, rfl⟩ (fle rfl) (fle rfl) dX0_itemOf_35
  · refine hf_if hf (fun c3 hf => ?_) (fun c3 hf => ?_)
    · refine g_tabIn (c := 1) (tgt := 36) h dX0_itemOf_1 c3 (by decide) (by decide) rfl rfl ?_
      refine g_aload_n h 0 dX0_itemOf_36 rfl rfl ?_
      exact nomatch hf
    · refine hf_if hf (fun c4 hf => ?_) (fun c4 hf => ?_)
      · refine g_tabIn (c := 2) (tgt := 44) h dX0_itemOf_1 c4 (by decide) (by decide) rfl rfl ?_
        refine g_aload_n h 0 dX0_itemOf_44 rfl rfl ?_
        exact nomatch hf
      · refine g_tabOut (tgt := 52) h dX0_itemOf_1 (tab_out 0 2 (by decide) (by intro c z1 z2; rcases (show c = 0 ∨ c = 1 ∨ c = 2 by omega) with rfl | rfl | rfl <;> assumption)) rfl ?_
        refine g_aload_n h 0 dX0_itemOf_52 rfl rfl ?_
        exact nomatch hf
set_option maxHeartbeats 4000000 in
set_option maxRecDepth 100000 in
theorem ct_X0_puts_h0 {l : Launch} {D : va_G} {E : Ety} {a_t0 nn : Nat} {x1 : Int32} {x2 : Int32} {x3 : Int64} {held : Nat → Int32} {o_held : Nat → Int32} (hn0 : nn ≤ 24) (hf : f_X0_puts_h0 nn x1 x2 x3 held = some o_held) : Ct l yX0_puts cX0_puts 5 none 0 0 0 0 D E [.ref a_t0, .int x1, .int x2, .long x3] [(a_t0, .inl (E 0, nn, .inl held))] (Pn none [(a_t0, .inl (E 0, nn, .inl o_held))]) := by
  refine ct_of (own := RX0) (plainFor_of_name (by decide)) rfl (fle rfl) rfl ?_
  intro X hl hD hE hnL hXF h hR hF hnm
  subst hl; subst hD; subst hE
  have hL : ∀ i, i < 5 → i < X.nL := fun i hi => by rw [hnL]; exact hi
  unfold f_X0_puts_h0 at hf
  refine g_iload_n h 1 dX0_puts_0 rfl rfl ?_
  refine g_if_ne (tgt := 16) h dX0_puts_1 rfl hf (fun c1 hf => ?_) (fun c1 hf => ?_)
  · refine g_aload_n h 0 dX0_puts_4 rfl rfl ?_
    refine g_castL (t := 0) h 0 rfl q933 dX0_puts_5 ?_
    refine g_iload_n h 2 dX0_puts_8 rfl rfl ?_
    refine g_lload_n h 3 dX0_puts_9 rfl rfl ?_
    refine g_l2i h dX0_puts_10 ?_
    refine g_i2b h dX0_puts_11 ?_
    obtain ⟨g2, hf⟩ := gn hf
    refine g_bastore (ws' := [(a_t0, .inl (X.E 0, nn, .inl (upd held x2.toNatClampNeg (vp_nar .byte x3.toInt32.toInt8.toInt32))))]) h 0 rfl g2 rfl dX0_puts_12 ?_
    refine g_goto (tgt := 56) h dX0_puts_13 rfl ?_
    obtain rfl := sj1 hf
    exact g_vret h hF [0] rfl rfl ⟨rfl, rfl⟩ (fle rfl) (fle rfl) dX0_puts_56
  · refine g_iload_n h 1 dX0_puts_16 rfl rfl ?_
    refine g_iconst (v := 1) h dX0_puts_17 kiconst_1 ?_
    refine g_icmp_ne (tgt := 33) h dX0_puts_18 rfl hf (fun c3 hf => ?_) (fun c3 hf => ?_)
    · refine g_aload_n h 0 dX0_puts_21 rfl rfl ?_
      exact nomatch hf
    · refine g_iload_n h 1 dX0_puts_33 rfl rfl ?_
      refine g_iconst (v := 2) h dX0_puts_34 kiconst_2 ?_
      refine g_icmp_ne (tgt := 49) h dX0_puts_35 rfl hf (fun c4 hf => ?_) (fun c4 hf => ?_)
      · refine g_aload_n h 0 dX0_puts_38 rfl rfl ?_
        exact nomatch hf
      · refine g_aload_n h 0 dX0_puts_49 rfl rfl ?_
        exact nomatch hf
set_option maxHeartbeats 4000000 in
set_option maxRecDepth 100000 in
theorem ctT_X0_puts_h0 {l : Launch} {D : va_G} {E : Ety} {a_t0 nn : Nat} {x1 : Int32} {x2 : Int32} {x3 : Int64} {held : Nat → Int32} {k_ : Nat} (hn0 : nn ≤ 24) (hfl : l.flags = flags0) (hf : e_X0_puts_h0 nn x1 x2 = some k_) : CtT l yX0_puts cX0_puts 5 none 8 10300 3 650 D E [.ref a_t0, .int x1, .int x2, .long x3] [(a_t0, .inl (E 0, nn, .inl held))] (fun C x w => C = kcls k_ ∧ w = [(a_t0, .inl (E 0, nn, .inl held))]) := by
  refine ct_ofT (own := RX0) (plainFor_of_name (by decide)) rfl (fle rfl) rfl ?_
  intro X hl hD hE hnL hXF h hR hF hx
  subst hl; subst hD; subst hE
  have hL : ∀ i, i < 5 → i < X.nL := fun i hi => by rw [hnL]; exact hi
  unfold e_X0_puts_h0 at hf
  refine g_iload_n h 1 dX0_puts_0 rfl rfl ?_
  refine g_if_ne (tgt := 16) h dX0_puts_1 rfl hf (fun c1 hf => ?_) (fun c1 hf => ?_)
  · refine g_aload_n h 0 dX0_puts_4 rfl rfl ?_
    refine g_castL (t := 0) h 0 rfl q933 dX0_puts_5 ?_
    refine g_iload_n h 2 dX0_puts_8 rfl rfl ?_
    refine g_lload_n h 3 dX0_puts_9 rfl rfl ?_
    refine g_l2i h dX0_puts_10 ?_
    refine g_i2b h dX0_puts_11 ?_
    obtain ⟨g2, hf⟩ := gy hf
    obtain rfl := sj1 hf
    exact t_idxb (q0 := 0) h hR hfl hx hF rfl (by omega) g2 (fle rfl) (fle rfl) (fle rfl) (fle rfl) [0] rfl rfl (fun x => ⟨rfl, rfl⟩) dX0_puts_12
  · refine g_iload_n h 1 dX0_puts_16 rfl rfl ?_
    refine g_iconst (v := 1) h dX0_puts_17 kiconst_1 ?_
    refine g_icmp_ne (tgt := 33) h dX0_puts_18 rfl hf (fun c3 hf => ?_) (fun c3 hf => ?_)
    · refine g_aload_n h 0 dX0_puts_21 rfl rfl ?_
      obtain rfl := sj1 hf
      exact t_cce (t := 0) (t2 := 1) (q0 := 0) h hR hfl hx hF rfl q934 (h.nw.2.2.2.2.1 ("[B", "[S") (by decide)) (fle rfl) (fle rfl) (fle rfl) (fle rfl) [0] rfl rfl (fun x => ⟨rfl, rfl⟩) dX0_puts_22
    · refine g_iload_n h 1 dX0_puts_33 rfl rfl ?_
      refine g_iconst (v := 2) h dX0_puts_34 kiconst_2 ?_
      refine g_icmp_ne (tgt := 49) h dX0_puts_35 rfl hf (fun c4 hf => ?_) (fun c4 hf => ?_)
      · refine g_aload_n h 0 dX0_puts_38 rfl rfl ?_
        obtain rfl := sj1 hf
        exact t_cce (t := 0) (t2 := 2) (q0 := 0) h hR hfl hx hF rfl q935 (h.nw.2.2.2.2.1 ("[B", "[I") (by decide)) (fle rfl) (fle rfl) (fle rfl) (fle rfl) [0] rfl rfl (fun x => ⟨rfl, rfl⟩) dX0_puts_39
      · refine g_aload_n h 0 dX0_puts_49 rfl rfl ?_
        obtain rfl := sj1 hf
        exact t_cce (t := 0) (t2 := 3) (q0 := 0) h hR hfl hx hF rfl q936 (h.nw.2.2.2.2.1 ("[B", "[J") (by decide)) (fle rfl) (fle rfl) (fle rfl) (fle rfl) [0] rfl rfl (fun x => ⟨rfl, rfl⟩) dX0_puts_50
set_option maxHeartbeats 4000000 in
set_option maxRecDepth 100000 in
theorem ct_X0_sizeOf_h0 {l : Launch} {D : va_G} {E : Ety} {a_t0 nn : Nat} {held : Nat → Int32} {r_ : Int32} (hn0 : nn ≤ 24) (hf : f_X0_sizeOf_h0 nn = some r_) : Ct l yX0_sizeOf cX0_sizeOf 1 (some .int) 0 0 0 0 D E [.ref a_t0] [(a_t0, .inl (E 0, nn, .inl held))] (Pn (some (.int r_)) [(a_t0, .inl (E 0, nn, .inl held))]) := by
  refine ct_of (own := RX0) (plainFor_of_name (by decide)) rfl (fle rfl) rfl ?_
  intro X hl hD hE hnL hXF h hR hF hnm
  subst hl; subst hD; subst hE
  have hL : ∀ i, i < 1 → i < X.nL := fun i hi => by rw [hnL]; exact hi
  unfold f_X0_sizeOf_h0 at hf
  refine g_aload_n h 0 dX0_sizeOf_0 rfl rfl ?_
  refine g_instL (t := 0) h 0 rfl q933 dX0_sizeOf_1 ?_
  refine b_if_eq (tgt := 13) h dX0_sizeOf_4 rfl (fun c0 => absurd c0 (by decide)) (fun _ => ?_)
  refine g_aload_n h 0 dX0_sizeOf_7 rfl rfl ?_
  refine g_castL (t := 0) h 0 rfl q933 dX0_sizeOf_8 ?_
  refine g_alen (t0 := 0) (v := Int32.ofNat nn) h 0 rfl rfl rfl dX0_sizeOf_11 ?_
  obtain rfl := sj1 hf
  exact g_iret h hF [0] rfl rfl ⟨rfl, rfl⟩ (fle rfl) (fle rfl) dX0_sizeOf_12
set_option maxHeartbeats 4000000 in
set_option maxRecDepth 100000 in
theorem ct_X0_sizeIn_h1 {l : Launch} {D : va_G} {E : Ety} {a_t0 nn : Nat} {x1 : Int32} {held : Nat → Int32} {r_ : Int32} (hn0 : nn ≤ 24) (hf : f_X0_sizeIn_h1 nn x1 = some r_) : Ct l yX0_sizeIn cX0_sizeIn 2 (some .int) 0 0 0 0 D E [.ref a_t0, .int x1] [(a_t0, .inl (E 3, nn, .inl held))] (Pn (some (.int r_)) [(a_t0, .inl (E 3, nn, .inl held))]) := by
  refine ct_of (own := RX0) (plainFor_of_name (by decide)) rfl (fle rfl) rfl ?_
  intro X hl hD hE hnL hXF h hR hF hnm
  subst hl; subst hD; subst hE
  have hL : ∀ i, i < 2 → i < X.nL := fun i hi => by rw [hnL]; exact hi
  unfold f_X0_sizeIn_h1 at hf
  refine g_iload_n h 1 dX0_sizeIn_0 rfl rfl ?_
  refine hf_if hf (fun c1 hf => ?_) (fun c1 hf => ?_)
  · refine g_tabIn (c := 0) (tgt := 28) h dX0_sizeIn_1 c1 (by decide) (by decide) rfl rfl ?_
    refine g_aload_n h 0 dX0_sizeIn_28 rfl rfl ?_
    exact nomatch hf
  · refine hf_if hf (fun c2 hf => ?_) (fun c2 hf => ?_)
    · refine g_tabIn (c := 1) (tgt := 34) h dX0_sizeIn_1 c2 (by decide) (by decide) rfl rfl ?_
      refine g_aload_n h 0 dX0_sizeIn_34 rfl rfl ?_
      refine g_castL (t := 1) h 0 rfl q934 dX0_sizeIn_35 ?_
      refine g_alen (t0 := 3) (v := Int32.ofNat nn) h 0 rfl rfl rfl dX0_sizeIn_38 ?_
      obtain rfl := sj1 hf
      exact g_iret h hF [0] rfl rfl ⟨rfl, rfl⟩ (fle rfl) (fle rfl) dX0_sizeIn_39
    · refine hf_if hf (fun c3 hf => ?_) (fun c3 hf => ?_)
      · refine g_tabIn (c := 2) (tgt := 40) h dX0_sizeIn_1 c3 (by decide) (by decide) rfl rfl ?_
        refine g_aload_n h 0 dX0_sizeIn_40 rfl rfl ?_
        exact nomatch hf
      · refine g_tabOut (tgt := 46) h dX0_sizeIn_1 (tab_out 0 2 (by decide) (by intro c z1 z2; rcases (show c = 0 ∨ c = 1 ∨ c = 2 by omega) with rfl | rfl | rfl <;> assumption)) rfl ?_
        refine g_aload_n h 0 dX0_sizeIn_46 rfl rfl ?_
        exact nomatch hf
set_option maxHeartbeats 4000000 in
set_option maxRecDepth 100000 in
theorem ctT_X0_sizeIn_h1 {l : Launch} {D : va_G} {E : Ety} {a_t0 nn : Nat} {x1 : Int32} {held : Nat → Int32} {k_ : Nat} (hn0 : nn ≤ 24) (hfl : l.flags = flags0) (hf : e_X0_sizeIn_h1 x1 = some k_) : CtT l yX0_sizeIn cX0_sizeIn 2 (some .int) 7 10300 3 650 D E [.ref a_t0, .int x1] [(a_t0, .inl (E 3, nn, .inl held))] (fun C x w => C = kcls k_ ∧ w = [(a_t0, .inl (E 3, nn, .inl held))]) := by
  refine ct_ofT (own := RX0) (plainFor_of_name (by decide)) rfl (fle rfl) rfl ?_
  intro X hl hD hE hnL hXF h hR hF hx
  subst hl; subst hD; subst hE
  have hL : ∀ i, i < 2 → i < X.nL := fun i hi => by rw [hnL]; exact hi
  unfold e_X0_sizeIn_h1 at hf
  refine g_iload_n h 1 dX0_sizeIn_0 rfl rfl ?_
  refine hf_if hf (fun c1 hf => ?_) (fun c1 hf => ?_)
  · refine g_tabIn (c := 0) (tgt := 28) h dX0_sizeIn_1 c1 (by decide) (by decide) rfl rfl ?_
    refine g_aload_n h 0 dX0_sizeIn_28 rfl rfl ?_
    obtain rfl := sj1 hf
    exact t_cce (t := 1) (t2 := 0) (q0 := 0) h hR hfl hx hF rfl q933 (h.nw.2.2.2.2.1 ("[S", "[B") (by decide)) (fle rfl) (fle rfl) (fle rfl) (fle rfl) [0] rfl rfl (fun x => ⟨rfl, rfl⟩) dX0_sizeIn_29
  · refine hf_if hf (fun c2 hf => ?_) (fun c2 hf => ?_)
    · refine g_tabIn (c := 1) (tgt := 34) h dX0_sizeIn_1 c2 (by decide) (by decide) rfl rfl ?_
      refine g_aload_n h 0 dX0_sizeIn_34 rfl rfl ?_
      refine g_castL (t := 1) h 0 rfl q934 dX0_sizeIn_35 ?_
      refine g_alen (t0 := 3) (v := Int32.ofNat nn) h 0 rfl rfl rfl dX0_sizeIn_38 ?_
      exact nomatch hf
    · refine hf_if hf (fun c3 hf => ?_) (fun c3 hf => ?_)
      · refine g_tabIn (c := 2) (tgt := 40) h dX0_sizeIn_1 c3 (by decide) (by decide) rfl rfl ?_
        refine g_aload_n h 0 dX0_sizeIn_40 rfl rfl ?_
        obtain rfl := sj1 hf
        exact t_cce (t := 1) (t2 := 2) (q0 := 0) h hR hfl hx hF rfl q935 (h.nw.2.2.2.2.1 ("[S", "[I") (by decide)) (fle rfl) (fle rfl) (fle rfl) (fle rfl) [0] rfl rfl (fun x => ⟨rfl, rfl⟩) dX0_sizeIn_41
      · refine g_tabOut (tgt := 46) h dX0_sizeIn_1 (tab_out 0 2 (by decide) (by intro c z1 z2; rcases (show c = 0 ∨ c = 1 ∨ c = 2 by omega) with rfl | rfl | rfl <;> assumption)) rfl ?_
        refine g_aload_n h 0 dX0_sizeIn_46 rfl rfl ?_
        obtain rfl := sj1 hf
        exact t_cce (t := 1) (t2 := 3) (q0 := 0) h hR hfl hx hF rfl q936 (h.nw.2.2.2.2.1 ("[S", "[J") (by decide)) (fle rfl) (fle rfl) (fle rfl) (fle rfl) [0] rfl rfl (fun x => ⟨rfl, rfl⟩) dX0_sizeIn_47
set_option maxHeartbeats 4000000 in
set_option maxRecDepth 100000 in
theorem ct_X0_itemOf_h1 {l : Launch} {D : va_G} {E : Ety} {a_t0 nn : Nat} {x1 : Int32} {x2 : Int32} {held : Nat → Int32} {r_ : Int64} (hn0 : nn ≤ 24) (hf : f_X0_itemOf_h1 nn x1 x2 held = some r_) : Ct l yX0_itemOf cX0_itemOf 3 (some .long) 0 0 0 0 D E [.ref a_t0, .int x1, .int x2] [(a_t0, .inl (E 3, nn, .inl held))] (Pn (some (.long r_)) [(a_t0, .inl (E 3, nn, .inl held))]) := by
  refine ct_of (own := RX0) (plainFor_of_name (by decide)) rfl (fle rfl) rfl ?_
  intro X hl hD hE hnL hXF h hR hF hnm
  subst hl; subst hD; subst hE
  have hL : ∀ i, i < 3 → i < X.nL := fun i hi => by rw [hnL]; exact hi
  unfold f_X0_itemOf_h1 at hf
  refine g_iload_n h 1 dX0_itemOf_0 rfl rfl ?_
  refine hf_if hf (fun c1 hf => ?_) (fun c1 hf => ?_)
  · refine g_tabIn (c := 0) (tgt := 28) h dX0_itemOf_1 c1 (by decide) (by decide) rfl rfl ?_
    refine g_aload_n h 0 dX0_itemOf_28 rfl rfl ?_
    exact nomatch hf
  · refine hf_if hf (fun c2 hf => ?_) (fun c2 hf => ?_)
    · refine g_tabIn (c := 1) (tgt := 36) h dX0_itemOf_1 c2 (by decide) (by decide) rfl rfl ?_
      refine g_aload_n h 0 dX0_itemOf_36 rfl rfl ?_
      refine g_castL (t := 1) h 0 rfl q934 dX0_itemOf_37 ?_
      refine g_iload_n h 2 dX0_itemOf_40 rfl rfl ?_
      obtain ⟨g3, hf⟩ := gn hf
      refine g_saload h 0 rfl g3 dX0_itemOf_41 ?_
      refine g_i2l h dX0_itemOf_42 ?_
      obtain rfl := sj1 hf
      exact g_lret h hF [0] rfl rfl ⟨rfl, rfl⟩ (fle rfl) (fle rfl) dX0_itemOf_43
    · refine hf_if hf (fun c4 hf => ?_) (fun c4 hf => ?_)
      · refine g_tabIn (c := 2) (tgt := 44) h dX0_itemOf_1 c4 (by decide) (by decide) rfl rfl ?_
        refine g_aload_n h 0 dX0_itemOf_44 rfl rfl ?_
        exact nomatch hf
      · refine g_tabOut (tgt := 52) h dX0_itemOf_1 (tab_out 0 2 (by decide) (by intro c z1 z2; rcases (show c = 0 ∨ c = 1 ∨ c = 2 by omega) with rfl | rfl | rfl <;> assumption)) rfl ?_
        refine g_aload_n h 0 dX0_itemOf_52 rfl rfl ?_
        exact nomatch hf
set_option maxHeartbeats 4000000 in
set_option maxRecDepth 100000 in
theorem ct_X0_puts_h1 {l : Launch} {D : va_G} {E : Ety} {a_t0 nn : Nat} {x1 : Int32} {x2 : Int32} {x3 : Int64} {held : Nat → Int32} {o_held : Nat → Int32} (hn0 : nn ≤ 24) (hf : f_X0_puts_h1 nn x1 x2 x3 held = some o_held) : Ct l yX0_puts cX0_puts 5 none 0 0 0 0 D E [.ref a_t0, .int x1, .int x2, .long x3] [(a_t0, .inl (E 3, nn, .inl held))] (Pn none [(a_t0, .inl (E 3, nn, .inl o_held))]) := by
  refine ct_of (own := RX0) (plainFor_of_name (by decide)) rfl (fle rfl) rfl ?_
  intro X hl hD hE hnL hXF h hR hF hnm
  subst hl; subst hD; subst hE
  have hL : ∀ i, i < 5 → i < X.nL := fun i hi => by rw [hnL]; exact hi
  unfold f_X0_puts_h1 at hf
  refine g_iload_n h 1 dX0_puts_0 rfl rfl ?_
  refine g_if_ne (tgt := 16) h dX0_puts_1 rfl hf (fun c1 hf => ?_) (fun c1 hf => ?_)
  · refine g_aload_n h 0 dX0_puts_4 rfl rfl ?_
    exact nomatch hf
  · refine g_iload_n h 1 dX0_puts_16 rfl rfl ?_
    refine g_iconst (v := 1) h dX0_puts_17 kiconst_1 ?_
    refine g_icmp_ne (tgt := 33) h dX0_puts_18 rfl hf (fun c2 hf => ?_) (fun c2 hf => ?_)
    · refine g_aload_n h 0 dX0_puts_21 rfl rfl ?_
      refine g_castL (t := 1) h 0 rfl q934 dX0_puts_22 ?_
      refine g_iload_n h 2 dX0_puts_25 rfl rfl ?_
      refine g_lload_n h 3 dX0_puts_26 rfl rfl ?_
      refine g_l2i h dX0_puts_27 ?_
      refine g_i2s h dX0_puts_28 ?_
      obtain ⟨g3, hf⟩ := gn hf
      refine g_sastore (ws' := [(a_t0, .inl (X.E 3, nn, .inl (upd held x2.toNatClampNeg (vp_nar .short x3.toInt32.toInt16.toInt32))))]) h 0 rfl g3 rfl dX0_puts_29 ?_
      refine g_goto (tgt := 56) h dX0_puts_30 rfl ?_
      obtain rfl := sj1 hf
      exact g_vret h hF [0] rfl rfl ⟨rfl, rfl⟩ (fle rfl) (fle rfl) dX0_puts_56
    · refine g_iload_n h 1 dX0_puts_33 rfl rfl ?_
      refine g_iconst (v := 2) h dX0_puts_34 kiconst_2 ?_
      refine g_icmp_ne (tgt := 49) h dX0_puts_35 rfl hf (fun c4 hf => ?_) (fun c4 hf => ?_)
      · refine g_aload_n h 0 dX0_puts_38 rfl rfl ?_
        exact nomatch hf
      · refine g_aload_n h 0 dX0_puts_49 rfl rfl ?_
        exact nomatch hf
set_option maxHeartbeats 4000000 in
set_option maxRecDepth 100000 in
theorem ctT_X0_puts_h1 {l : Launch} {D : va_G} {E : Ety} {a_t0 nn : Nat} {x1 : Int32} {x2 : Int32} {x3 : Int64} {held : Nat → Int32} {k_ : Nat} (hn0 : nn ≤ 24) (hfl : l.flags = flags0) (hf : e_X0_puts_h1 nn x1 x2 = some k_) : CtT l yX0_puts cX0_puts 5 none 8 10300 3 650 D E [.ref a_t0, .int x1, .int x2, .long x3] [(a_t0, .inl (E 3, nn, .inl held))] (fun C x w => C = kcls k_ ∧ w = [(a_t0, .inl (E 3, nn, .inl held))]) := by
  refine ct_ofT (own := RX0) (plainFor_of_name (by decide)) rfl (fle rfl) rfl ?_
  intro X hl hD hE hnL hXF h hR hF hx
  subst hl; subst hD; subst hE
  have hL : ∀ i, i < 5 → i < X.nL := fun i hi => by rw [hnL]; exact hi
  unfold e_X0_puts_h1 at hf
  refine g_iload_n h 1 dX0_puts_0 rfl rfl ?_
  refine g_if_ne (tgt := 16) h dX0_puts_1 rfl hf (fun c1 hf => ?_) (fun c1 hf => ?_)
  · refine g_aload_n h 0 dX0_puts_4 rfl rfl ?_
    obtain rfl := sj1 hf
    exact t_cce (t := 1) (t2 := 0) (q0 := 0) h hR hfl hx hF rfl q933 (h.nw.2.2.2.2.1 ("[S", "[B") (by decide)) (fle rfl) (fle rfl) (fle rfl) (fle rfl) [0] rfl rfl (fun x => ⟨rfl, rfl⟩) dX0_puts_5
  · refine g_iload_n h 1 dX0_puts_16 rfl rfl ?_
    refine g_iconst (v := 1) h dX0_puts_17 kiconst_1 ?_
    refine g_icmp_ne (tgt := 33) h dX0_puts_18 rfl hf (fun c2 hf => ?_) (fun c2 hf => ?_)
    · refine g_aload_n h 0 dX0_puts_21 rfl rfl ?_
      refine g_castL (t := 1) h 0 rfl q934 dX0_puts_22 ?_
      refine g_iload_n h 2 dX0_puts_25 rfl rfl ?_
      refine g_lload_n h 3 dX0_puts_26 rfl rfl ?_
      refine g_l2i h dX0_puts_27 ?_
      refine g_i2s h dX0_puts_28 ?_
      obtain ⟨g3, hf⟩ := gy hf
      obtain rfl := sj1 hf
      exact t_idxs (q0 := 0) h hR hfl hx hF rfl (by omega) g3 (fle rfl) (fle rfl) (fle rfl) (fle rfl) [0] rfl rfl (fun x => ⟨rfl, rfl⟩) dX0_puts_29
    · refine g_iload_n h 1 dX0_puts_33 rfl rfl ?_
      refine g_iconst (v := 2) h dX0_puts_34 kiconst_2 ?_
      refine g_icmp_ne (tgt := 49) h dX0_puts_35 rfl hf (fun c4 hf => ?_) (fun c4 hf => ?_)
      · refine g_aload_n h 0 dX0_puts_38 rfl rfl ?_
        obtain rfl := sj1 hf
        exact t_cce (t := 1) (t2 := 2) (q0 := 0) h hR hfl hx hF rfl q935 (h.nw.2.2.2.2.1 ("[S", "[I") (by decide)) (fle rfl) (fle rfl) (fle rfl) (fle rfl) [0] rfl rfl (fun x => ⟨rfl, rfl⟩) dX0_puts_39
      · refine g_aload_n h 0 dX0_puts_49 rfl rfl ?_
        obtain rfl := sj1 hf
        exact t_cce (t := 1) (t2 := 3) (q0 := 0) h hR hfl hx hF rfl q936 (h.nw.2.2.2.2.1 ("[S", "[J") (by decide)) (fle rfl) (fle rfl) (fle rfl) (fle rfl) [0] rfl rfl (fun x => ⟨rfl, rfl⟩) dX0_puts_50
set_option maxHeartbeats 4000000 in
set_option maxRecDepth 100000 in
theorem ct_X0_sizeOf_h1 {l : Launch} {D : va_G} {E : Ety} {a_t0 nn : Nat} {held : Nat → Int32} {r_ : Int32} (hn0 : nn ≤ 24) (hf : f_X0_sizeOf_h1 nn = some r_) : Ct l yX0_sizeOf cX0_sizeOf 1 (some .int) 0 0 0 0 D E [.ref a_t0] [(a_t0, .inl (E 3, nn, .inl held))] (Pn (some (.int r_)) [(a_t0, .inl (E 3, nn, .inl held))]) := by
  refine ct_of (own := RX0) (plainFor_of_name (by decide)) rfl (fle rfl) rfl ?_
  intro X hl hD hE hnL hXF h hR hF hnm
  subst hl; subst hD; subst hE
  have hL : ∀ i, i < 1 → i < X.nL := fun i hi => by rw [hnL]; exact hi
  unfold f_X0_sizeOf_h1 at hf
  refine g_aload_n h 0 dX0_sizeOf_0 rfl rfl ?_
  refine g_instN (t := 1) (t2 := 0) h 0 rfl q933 (h.nw.2.2.2.2.1 ("[S", "[B") (by decide)) dX0_sizeOf_1 ?_
  refine b_if_eq (tgt := 13) h dX0_sizeOf_4 rfl (fun _ => ?_) (fun c0 => absurd (by decide) c0)
  refine g_aload_n h 0 dX0_sizeOf_13 rfl rfl ?_
  refine g_instL (t := 1) h 0 rfl q934 dX0_sizeOf_14 ?_
  refine b_if_eq (tgt := 26) h dX0_sizeOf_17 rfl (fun c0 => absurd c0 (by decide)) (fun _ => ?_)
  refine g_aload_n h 0 dX0_sizeOf_20 rfl rfl ?_
  refine g_castL (t := 1) h 0 rfl q934 dX0_sizeOf_21 ?_
  refine g_alen (t0 := 3) (v := Int32.ofNat nn) h 0 rfl rfl rfl dX0_sizeOf_24 ?_
  obtain rfl := sj1 hf
  exact g_iret h hF [0] rfl rfl ⟨rfl, rfl⟩ (fle rfl) (fle rfl) dX0_sizeOf_25
set_option maxHeartbeats 4000000 in
set_option maxRecDepth 100000 in
theorem ct_X0_sizeIn_h2 {l : Launch} {D : va_G} {E : Ety} {a_t0 nn : Nat} {x1 : Int32} {held : Nat → Int32} {r_ : Int32} (hn0 : nn ≤ 24) (hf : f_X0_sizeIn_h2 nn x1 = some r_) : Ct l yX0_sizeIn cX0_sizeIn 2 (some .int) 0 0 0 0 D E [.ref a_t0, .int x1] [(a_t0, .inl (E 1, nn, .inl held))] (Pn (some (.int r_)) [(a_t0, .inl (E 1, nn, .inl held))]) := by
  refine ct_of (own := RX0) (plainFor_of_name (by decide)) rfl (fle rfl) rfl ?_
  intro X hl hD hE hnL hXF h hR hF hnm
  subst hl; subst hD; subst hE
  have hL : ∀ i, i < 2 → i < X.nL := fun i hi => by rw [hnL]; exact hi
  unfold f_X0_sizeIn_h2 at hf
  refine g_iload_n h 1 dX0_sizeIn_0 rfl rfl ?_
  refine hf_if hf (fun c1 hf => ?_) (fun c1 hf => ?_)
  · refine g_tabIn (c := 0) (tgt := 28) h dX0_sizeIn_1 c1 (by decide) (by decide) rfl rfl ?_
    refine g_aload_n h 0 dX0_sizeIn_28 rfl rfl ?_
    exact nomatch hf
  · refine hf_if hf (fun c2 hf => ?_) (fun c2 hf => ?_)
    · refine g_tabIn (c := 1) (tgt := 34) h dX0_sizeIn_1 c2 (by decide) (by decide) rfl rfl ?_
      refine g_aload_n h 0 dX0_sizeIn_34 rfl rfl ?_
      exact nomatch hf
    · refine hf_if hf (fun c3 hf => ?_) (fun c3 hf => ?_)
      · refine g_tabIn (c := 2) (tgt := 40) h dX0_sizeIn_1 c3 (by decide) (by decide) rfl rfl ?_
        refine g_aload_n h 0 dX0_sizeIn_40 rfl rfl ?_
        refine g_castL (t := 2) h 0 rfl q935 dX0_sizeIn_41 ?_
        refine g_alen (t0 := 1) (v := Int32.ofNat nn) h 0 rfl rfl rfl dX0_sizeIn_44 ?_
        obtain rfl := sj1 hf
        exact g_iret h hF [0] rfl rfl ⟨rfl, rfl⟩ (fle rfl) (fle rfl) dX0_sizeIn_45
      · refine g_tabOut (tgt := 46) h dX0_sizeIn_1 (tab_out 0 2 (by decide) (by intro c z1 z2; rcases (show c = 0 ∨ c = 1 ∨ c = 2 by omega) with rfl | rfl | rfl <;> assumption)) rfl ?_
        refine g_aload_n h 0 dX0_sizeIn_46 rfl rfl ?_
        exact nomatch hf
set_option maxHeartbeats 4000000 in
set_option maxRecDepth 100000 in
theorem ctT_X0_sizeIn_h2 {l : Launch} {D : va_G} {E : Ety} {a_t0 nn : Nat} {x1 : Int32} {held : Nat → Int32} {k_ : Nat} (hn0 : nn ≤ 24) (hfl : l.flags = flags0) (hf : e_X0_sizeIn_h2 x1 = some k_) : CtT l yX0_sizeIn cX0_sizeIn 2 (some .int) 7 10300 3 650 D E [.ref a_t0, .int x1] [(a_t0, .inl (E 1, nn, .inl held))] (fun C x w => C = kcls k_ ∧ w = [(a_t0, .inl (E 1, nn, .inl held))]) := by
  refine ct_ofT (own := RX0) (plainFor_of_name (by decide)) rfl (fle rfl) rfl ?_
  intro X hl hD hE hnL hXF h hR hF hx
  subst hl; subst hD; subst hE
  have hL : ∀ i, i < 2 → i < X.nL := fun i hi => by rw [hnL]; exact hi
  unfold e_X0_sizeIn_h2 at hf
  refine g_iload_n h 1 dX0_sizeIn_0 rfl rfl ?_
  refine hf_if hf (fun c1 hf => ?_) (fun c1 hf => ?_)
  · refine g_tabIn (c := 0) (tgt := 28) h dX0_sizeIn_1 c1 (by decide) (by decide) rfl rfl ?_
    refine g_aload_n h 0 dX0_sizeIn_28 rfl rfl ?_
    obtain rfl := sj1 hf
    exact t_cce (t := 2) (t2 := 0) (q0 := 0) h hR hfl hx hF rfl q933 (h.nw.2.2.2.2.1 ("[I", "[B") (by decide)) (fle rfl) (fle rfl) (fle rfl) (fle rfl) [0] rfl rfl (fun x => ⟨rfl, rfl⟩) dX0_sizeIn_29
  · refine hf_if hf (fun c2 hf => ?_) (fun c2 hf => ?_)
    · refine g_tabIn (c := 1) (tgt := 34) h dX0_sizeIn_1 c2 (by decide) (by decide) rfl rfl ?_
      refine g_aload_n h 0 dX0_sizeIn_34 rfl rfl ?_
      obtain rfl := sj1 hf
      exact t_cce (t := 2) (t2 := 1) (q0 := 0) h hR hfl hx hF rfl q934 (h.nw.2.2.2.2.1 ("[I", "[S") (by decide)) (fle rfl) (fle rfl) (fle rfl) (fle rfl) [0] rfl rfl (fun x => ⟨rfl, rfl⟩) dX0_sizeIn_35
    · refine hf_if hf (fun c3 hf => ?_) (fun c3 hf => ?_)
      · refine g_tabIn (c := 2) (tgt := 40) h dX0_sizeIn_1 c3 (by decide) (by decide) rfl rfl ?_
        refine g_aload_n h 0 dX0_sizeIn_40 rfl rfl ?_
        refine g_castL (t := 2) h 0 rfl q935 dX0_sizeIn_41 ?_
        refine g_alen (t0 := 1) (v := Int32.ofNat nn) h 0 rfl rfl rfl dX0_sizeIn_44 ?_
        exact nomatch hf
      · refine g_tabOut (tgt := 46) h dX0_sizeIn_1 (tab_out 0 2 (by decide) (by intro c z1 z2; rcases (show c = 0 ∨ c = 1 ∨ c = 2 by omega) with rfl | rfl | rfl <;> assumption)) rfl ?_
        refine g_aload_n h 0 dX0_sizeIn_46 rfl rfl ?_
        obtain rfl := sj1 hf
        exact t_cce (t := 2) (t2 := 3) (q0 := 0) h hR hfl hx hF rfl q936 (h.nw.2.2.2.2.1 ("[I", "[J") (by decide)) (fle rfl) (fle rfl) (fle rfl) (fle rfl) [0] rfl rfl (fun x => ⟨rfl, rfl⟩) dX0_sizeIn_47
set_option maxHeartbeats 4000000 in
set_option maxRecDepth 100000 in
theorem ct_X0_itemOf_h2 {l : Launch} {D : va_G} {E : Ety} {a_t0 nn : Nat} {x1 : Int32} {x2 : Int32} {held : Nat → Int32} {r_ : Int64} (hn0 : nn ≤ 24) (hf : f_X0_itemOf_h2 nn x1 x2 held = some r_) : Ct l yX0_itemOf cX0_itemOf 3 (some .long) 0 0 0 0 D E [.ref a_t0, .int x1, .int x2] [(a_t0, .inl (E 1, nn, .inl held))] (Pn (some (.long r_)) [(a_t0, .inl (E 1, nn, .inl held))]) := by
  refine ct_of (own := RX0) (plainFor_of_name (by decide)) rfl (fle rfl) rfl ?_
  intro X hl hD hE hnL hXF h hR hF hnm
  subst hl; subst hD; subst hE
  have hL : ∀ i, i < 3 → i < X.nL := fun i hi => by rw [hnL]; exact hi
  unfold f_X0_itemOf_h2 at hf
  refine g_iload_n h 1 dX0_itemOf_0 rfl rfl ?_
  refine hf_if hf (fun c1 hf => ?_) (fun c1 hf => ?_)
  · refine g_tabIn (c := 0) (tgt := 28) h dX0_itemOf_1 c1 (by decide) (by decide) rfl rfl ?_
    refine g_aload_n h 0 dX0_itemOf_28 rfl rfl ?_
    exact nomatch hf
  · refine hf_if hf (fun c2 hf => ?_) (fun c2 hf => ?_)
    · refine g_tabIn (c := 1) (tgt := 36) h dX0_itemOf_1 c2 (by decide) (by decide) rfl rfl ?_
      refine g_aload_n h 0 dX0_itemOf_36 rfl rfl ?_
      exact nomatch hf
    · refine hf_if hf (fun c3 hf => ?_) (fun c3 hf => ?_)
      · refine g_tabIn (c := 2) (tgt := 44) h dX0_itemOf_1 c3 (by decide) (by decide) rfl rfl ?_
        refine g_aload_n h 0 dX0_itemOf_44 rfl rfl ?_
        refine g_castL (t := 2) h 0 rfl q935 dX0_itemOf_45 ?_
        refine g_iload_n h 2 dX0_itemOf_48 rfl rfl ?_
        obtain ⟨g4, hf⟩ := gn hf
        refine g_iaload h 0 rfl g4 dX0_itemOf_49 ?_
        refine g_i2l h dX0_itemOf_50 ?_
        obtain rfl := sj1 hf
        exact g_lret h hF [0] rfl rfl ⟨rfl, rfl⟩ (fle rfl) (fle rfl) dX0_itemOf_51
      · refine g_tabOut (tgt := 52) h dX0_itemOf_1 (tab_out 0 2 (by decide) (by intro c z1 z2; rcases (show c = 0 ∨ c = 1 ∨ c = 2 by omega) with rfl | rfl | rfl <;> assumption)) rfl ?_
        refine g_aload_n h 0 dX0_itemOf_52 rfl rfl ?_
        exact nomatch hf
set_option maxHeartbeats 4000000 in
set_option maxRecDepth 100000 in
theorem ct_X0_puts_h2 {l : Launch} {D : va_G} {E : Ety} {a_t0 nn : Nat} {x1 : Int32} {x2 : Int32} {x3 : Int64} {held : Nat → Int32} {o_held : Nat → Int32} (hn0 : nn ≤ 24) (hf : f_X0_puts_h2 nn x1 x2 x3 held = some o_held) : Ct l yX0_puts cX0_puts 5 none 0 0 0 0 D E [.ref a_t0, .int x1, .int x2, .long x3] [(a_t0, .inl (E 1, nn, .inl held))] (Pn none [(a_t0, .inl (E 1, nn, .inl o_held))]) := by
  refine ct_of (own := RX0) (plainFor_of_name (by decide)) rfl (fle rfl) rfl ?_
  intro X hl hD hE hnL hXF h hR hF hnm
  subst hl; subst hD; subst hE
  have hL : ∀ i, i < 5 → i < X.nL := fun i hi => by rw [hnL]; exact hi
  unfold f_X0_puts_h2 at hf
  refine g_iload_n h 1 dX0_puts_0 rfl rfl ?_
  refine g_if_ne (tgt := 16) h dX0_puts_1 rfl hf (fun c1 hf => ?_) (fun c1 hf => ?_)
  · refine g_aload_n h 0 dX0_puts_4 rfl rfl ?_
    exact nomatch hf
  · refine g_iload_n h 1 dX0_puts_16 rfl rfl ?_
    refine g_iconst (v := 1) h dX0_puts_17 kiconst_1 ?_
    refine g_icmp_ne (tgt := 33) h dX0_puts_18 rfl hf (fun c2 hf => ?_) (fun c2 hf => ?_)
    · refine g_aload_n h 0 dX0_puts_21 rfl rfl ?_
      exact nomatch hf
    · refine g_iload_n h 1 dX0_puts_33 rfl rfl ?_
      refine g_iconst (v := 2) h dX0_puts_34 kiconst_2 ?_
      refine g_icmp_ne (tgt := 49) h dX0_puts_35 rfl hf (fun c3 hf => ?_) (fun c3 hf => ?_)
      · refine g_aload_n h 0 dX0_puts_38 rfl rfl ?_
        refine g_castL (t := 2) h 0 rfl q935 dX0_puts_39 ?_
        refine g_iload_n h 2 dX0_puts_42 rfl rfl ?_
        refine g_lload_n h 3 dX0_puts_43 rfl rfl ?_
        refine g_l2i h dX0_puts_44 ?_
        obtain ⟨g4, hf⟩ := gn hf
        refine g_iastore (ws' := [(a_t0, .inl (X.E 1, nn, .inl (upd held x2.toNatClampNeg x3.toInt32)))]) h 0 rfl g4 rfl dX0_puts_45 ?_
        refine g_goto (tgt := 56) h dX0_puts_46 rfl ?_
        obtain rfl := sj1 hf
        exact g_vret h hF [0] rfl rfl ⟨rfl, rfl⟩ (fle rfl) (fle rfl) dX0_puts_56
      · refine g_aload_n h 0 dX0_puts_49 rfl rfl ?_
        exact nomatch hf
set_option maxHeartbeats 4000000 in
set_option maxRecDepth 100000 in
theorem ctT_X0_puts_h2 {l : Launch} {D : va_G} {E : Ety} {a_t0 nn : Nat} {x1 : Int32} {x2 : Int32} {x3 : Int64} {held : Nat → Int32} {k_ : Nat} (hn0 : nn ≤ 24) (hfl : l.flags = flags0) (hf : e_X0_puts_h2 nn x1 x2 = some k_) : CtT l yX0_puts cX0_puts 5 none 8 10300 3 650 D E [.ref a_t0, .int x1, .int x2, .long x3] [(a_t0, .inl (E 1, nn, .inl held))] (fun C x w => C = kcls k_ ∧ w = [(a_t0, .inl (E 1, nn, .inl held))]) := by
  refine ct_ofT (own := RX0) (plainFor_of_name (by decide)) rfl (fle rfl) rfl ?_
  intro X hl hD hE hnL hXF h hR hF hx
  subst hl; subst hD; subst hE
  have hL : ∀ i, i < 5 → i < X.nL := fun i hi => by rw [hnL]; exact hi
  unfold e_X0_puts_h2 at hf
  refine g_iload_n h 1 dX0_puts_0 rfl rfl ?_
  refine g_if_ne (tgt := 16) h dX0_puts_1 rfl hf (fun c1 hf => ?_) (fun c1 hf => ?_)
  · refine g_aload_n h 0 dX0_puts_4 rfl rfl ?_
    obtain rfl := sj1 hf
    exact t_cce (t := 2) (t2 := 0) (q0 := 0) h hR hfl hx hF rfl q933 (h.nw.2.2.2.2.1 ("[I", "[B") (by decide)) (fle rfl) (fle rfl) (fle rfl) (fle rfl) [0] rfl rfl (fun x => ⟨rfl, rfl⟩) dX0_puts_5
  · refine g_iload_n h 1 dX0_puts_16 rfl rfl ?_
    refine g_iconst (v := 1) h dX0_puts_17 kiconst_1 ?_
    refine g_icmp_ne (tgt := 33) h dX0_puts_18 rfl hf (fun c2 hf => ?_) (fun c2 hf => ?_)
    · refine g_aload_n h 0 dX0_puts_21 rfl rfl ?_
      obtain rfl := sj1 hf
      exact t_cce (t := 2) (t2 := 1) (q0 := 0) h hR hfl hx hF rfl q934 (h.nw.2.2.2.2.1 ("[I", "[S") (by decide)) (fle rfl) (fle rfl) (fle rfl) (fle rfl) [0] rfl rfl (fun x => ⟨rfl, rfl⟩) dX0_puts_22
    · refine g_iload_n h 1 dX0_puts_33 rfl rfl ?_
      refine g_iconst (v := 2) h dX0_puts_34 kiconst_2 ?_
      refine g_icmp_ne (tgt := 49) h dX0_puts_35 rfl hf (fun c3 hf => ?_) (fun c3 hf => ?_)
      · refine g_aload_n h 0 dX0_puts_38 rfl rfl ?_
        refine g_castL (t := 2) h 0 rfl q935 dX0_puts_39 ?_
        refine g_iload_n h 2 dX0_puts_42 rfl rfl ?_
        refine g_lload_n h 3 dX0_puts_43 rfl rfl ?_
        refine g_l2i h dX0_puts_44 ?_
        obtain ⟨g4, hf⟩ := gy hf
        obtain rfl := sj1 hf
        exact t_idxi (q0 := 0) h hR hfl hx hF rfl (by omega) g4 (fle rfl) (fle rfl) (fle rfl) (fle rfl) [0] rfl rfl (fun x => ⟨rfl, rfl⟩) dX0_puts_45
      · refine g_aload_n h 0 dX0_puts_49 rfl rfl ?_
        obtain rfl := sj1 hf
        exact t_cce (t := 2) (t2 := 3) (q0 := 0) h hR hfl hx hF rfl q936 (h.nw.2.2.2.2.1 ("[I", "[J") (by decide)) (fle rfl) (fle rfl) (fle rfl) (fle rfl) [0] rfl rfl (fun x => ⟨rfl, rfl⟩) dX0_puts_50
set_option maxHeartbeats 4000000 in
set_option maxRecDepth 100000 in
theorem ct_X0_sizeOf_h2 {l : Launch} {D : va_G} {E : Ety} {a_t0 nn : Nat} {held : Nat → Int32} {r_ : Int32} (hn0 : nn ≤ 24) (hf : f_X0_sizeOf_h2 nn = some r_) : Ct l yX0_sizeOf cX0_sizeOf 1 (some .int) 0 0 0 0 D E [.ref a_t0] [(a_t0, .inl (E 1, nn, .inl held))] (Pn (some (.int r_)) [(a_t0, .inl (E 1, nn, .inl held))]) := by
  refine ct_of (own := RX0) (plainFor_of_name (by decide)) rfl (fle rfl) rfl ?_
  intro X hl hD hE hnL hXF h hR hF hnm
  subst hl; subst hD; subst hE
  have hL : ∀ i, i < 1 → i < X.nL := fun i hi => by rw [hnL]; exact hi
  unfold f_X0_sizeOf_h2 at hf
  refine g_aload_n h 0 dX0_sizeOf_0 rfl rfl ?_
  refine g_instN (t := 2) (t2 := 0) h 0 rfl q933 (h.nw.2.2.2.2.1 ("[I", "[B") (by decide)) dX0_sizeOf_1 ?_
  refine b_if_eq (tgt := 13) h dX0_sizeOf_4 rfl (fun _ => ?_) (fun c0 => absurd (by decide) c0)
  refine g_aload_n h 0 dX0_sizeOf_13 rfl rfl ?_
  refine g_instN (t := 2) (t2 := 1) h 0 rfl q934 (h.nw.2.2.2.2.1 ("[I", "[S") (by decide)) dX0_sizeOf_14 ?_
  refine b_if_eq (tgt := 26) h dX0_sizeOf_17 rfl (fun _ => ?_) (fun c0 => absurd (by decide) c0)
  refine g_aload_n h 0 dX0_sizeOf_26 rfl rfl ?_
  refine g_instL (t := 2) h 0 rfl q935 dX0_sizeOf_27 ?_
  refine b_if_eq (tgt := 39) h dX0_sizeOf_30 rfl (fun c0 => absurd c0 (by decide)) (fun _ => ?_)
  refine g_aload_n h 0 dX0_sizeOf_33 rfl rfl ?_
  refine g_castL (t := 2) h 0 rfl q935 dX0_sizeOf_34 ?_
  refine g_alen (t0 := 1) (v := Int32.ofNat nn) h 0 rfl rfl rfl dX0_sizeOf_37 ?_
  obtain rfl := sj1 hf
  exact g_iret h hF [0] rfl rfl ⟨rfl, rfl⟩ (fle rfl) (fle rfl) dX0_sizeOf_38
set_option maxHeartbeats 4000000 in
set_option maxRecDepth 100000 in
theorem ct_X0_sizeIn_h3 {l : Launch} {D : va_G} {E : Ety} {a_t0 nn : Nat} {x1 : Int32} {held : Nat → Int64} {r_ : Int32} (hn0 : nn ≤ 24) (hf : f_X0_sizeIn_h3 nn x1 = some r_) : Ct l yX0_sizeIn cX0_sizeIn 2 (some .int) 0 0 0 0 D E [.ref a_t0, .int x1] [(a_t0, .inl (E 2, nn, .inr (.inl held)))] (Pn (some (.int r_)) [(a_t0, .inl (E 2, nn, .inr (.inl held)))]) := by
  refine ct_of (own := RX0) (plainFor_of_name (by decide)) rfl (fle rfl) rfl ?_
  intro X hl hD hE hnL hXF h hR hF hnm
  subst hl; subst hD; subst hE
  have hL : ∀ i, i < 2 → i < X.nL := fun i hi => by rw [hnL]; exact hi
  unfold f_X0_sizeIn_h3 at hf
  refine g_iload_n h 1 dX0_sizeIn_0 rfl rfl ?_
  refine hf_if hf (fun c1 hf => ?_) (fun c1 hf => ?_)
  · refine g_tabIn (c := 0) (tgt := 28) h dX0_sizeIn_1 c1 (by decide) (by decide) rfl rfl ?_
    refine g_aload_n h 0 dX0_sizeIn_28 rfl rfl ?_
    exact nomatch hf
  · refine hf_if hf (fun c2 hf => ?_) (fun c2 hf => ?_)
    · refine g_tabIn (c := 1) (tgt := 34) h dX0_sizeIn_1 c2 (by decide) (by decide) rfl rfl ?_
      refine g_aload_n h 0 dX0_sizeIn_34 rfl rfl ?_
      exact nomatch hf
    · refine hf_if hf (fun c3 hf => ?_) (fun c3 hf => ?_)
      · refine g_tabIn (c := 2) (tgt := 40) h dX0_sizeIn_1 c3 (by decide) (by decide) rfl rfl ?_
        refine g_aload_n h 0 dX0_sizeIn_40 rfl rfl ?_
        exact nomatch hf
      · refine g_tabOut (tgt := 46) h dX0_sizeIn_1 (tab_out 0 2 (by decide) (by intro c z1 z2; rcases (show c = 0 ∨ c = 1 ∨ c = 2 by omega) with rfl | rfl | rfl <;> assumption)) rfl ?_
        refine g_aload_n h 0 dX0_sizeIn_46 rfl rfl ?_
        refine g_castL (t := 3) h 0 rfl q936 dX0_sizeIn_47 ?_
        refine g_alen (t0 := 2) (v := Int32.ofNat nn) h 0 rfl rfl rfl dX0_sizeIn_50 ?_
        obtain rfl := sj1 hf
        exact g_iret h hF [0] rfl rfl ⟨rfl, rfl⟩ (fle rfl) (fle rfl) dX0_sizeIn_51
set_option maxHeartbeats 4000000 in
set_option maxRecDepth 100000 in
theorem ctT_X0_sizeIn_h3 {l : Launch} {D : va_G} {E : Ety} {a_t0 nn : Nat} {x1 : Int32} {held : Nat → Int64} {k_ : Nat} (hn0 : nn ≤ 24) (hfl : l.flags = flags0) (hf : e_X0_sizeIn_h3 x1 = some k_) : CtT l yX0_sizeIn cX0_sizeIn 2 (some .int) 7 10300 3 650 D E [.ref a_t0, .int x1] [(a_t0, .inl (E 2, nn, .inr (.inl held)))] (fun C x w => C = kcls k_ ∧ w = [(a_t0, .inl (E 2, nn, .inr (.inl held)))]) := by
  refine ct_ofT (own := RX0) (plainFor_of_name (by decide)) rfl (fle rfl) rfl ?_
  intro X hl hD hE hnL hXF h hR hF hx
  subst hl; subst hD; subst hE
  have hL : ∀ i, i < 2 → i < X.nL := fun i hi => by rw [hnL]; exact hi
  unfold e_X0_sizeIn_h3 at hf
  refine g_iload_n h 1 dX0_sizeIn_0 rfl rfl ?_
  refine hf_if hf (fun c1 hf => ?_) (fun c1 hf => ?_)
  · refine g_tabIn (c := 0) (tgt := 28) h dX0_sizeIn_1 c1 (by decide) (by decide) rfl rfl ?_
    refine g_aload_n h 0 dX0_sizeIn_28 rfl rfl ?_
    obtain rfl := sj1 hf
    exact t_cce (t := 3) (t2 := 0) (q0 := 0) h hR hfl hx hF rfl q933 (h.nw.2.2.2.2.1 ("[J", "[B") (by decide)) (fle rfl) (fle rfl) (fle rfl) (fle rfl) [0] rfl rfl (fun x => ⟨rfl, rfl⟩) dX0_sizeIn_29
  · refine hf_if hf (fun c2 hf => ?_) (fun c2 hf => ?_)
    · refine g_tabIn (c := 1) (tgt := 34) h dX0_sizeIn_1 c2 (by decide) (by decide) rfl rfl ?_
      refine g_aload_n h 0 dX0_sizeIn_34 rfl rfl ?_
      obtain rfl := sj1 hf
      exact t_cce (t := 3) (t2 := 1) (q0 := 0) h hR hfl hx hF rfl q934 (h.nw.2.2.2.2.1 ("[J", "[S") (by decide)) (fle rfl) (fle rfl) (fle rfl) (fle rfl) [0] rfl rfl (fun x => ⟨rfl, rfl⟩) dX0_sizeIn_35
    · refine hf_if hf (fun c3 hf => ?_) (fun c3 hf => ?_)
      · refine g_tabIn (c := 2) (tgt := 40) h dX0_sizeIn_1 c3 (by decide) (by decide) rfl rfl ?_
        refine g_aload_n h 0 dX0_sizeIn_40 rfl rfl ?_
        obtain rfl := sj1 hf
        exact t_cce (t := 3) (t2 := 2) (q0 := 0) h hR hfl hx hF rfl q935 (h.nw.2.2.2.2.1 ("[J", "[I") (by decide)) (fle rfl) (fle rfl) (fle rfl) (fle rfl) [0] rfl rfl (fun x => ⟨rfl, rfl⟩) dX0_sizeIn_41
      · refine g_tabOut (tgt := 46) h dX0_sizeIn_1 (tab_out 0 2 (by decide) (by intro c z1 z2; rcases (show c = 0 ∨ c = 1 ∨ c = 2 by omega) with rfl | rfl | rfl <;> assumption)) rfl ?_
        refine g_aload_n h 0 dX0_sizeIn_46 rfl rfl ?_
        refine g_castL (t := 3) h 0 rfl q936 dX0_sizeIn_47 ?_
        refine g_alen (t0 := 2) (v := Int32.ofNat nn) h 0 rfl rfl rfl dX0_sizeIn_50 ?_
        exact nomatch hf
set_option maxHeartbeats 4000000 in
set_option maxRecDepth 100000 in
theorem ct_X0_itemOf_h3 {l : Launch} {D : va_G} {E : Ety} {a_t0 nn : Nat} {x1 : Int32} {x2 : Int32} {held : Nat → Int64} {r_ : Int64} (hn0 : nn ≤ 24) (hf : f_X0_itemOf_h3 nn x1 x2 held = some r_) : Ct l yX0_itemOf cX0_itemOf 3 (some .long) 0 0 0 0 D E [.ref a_t0, .int x1, .int x2] [(a_t0, .inl (E 2, nn, .inr (.inl held)))] (Pn (some (.long r_)) [(a_t0, .inl (E 2, nn, .inr (.inl held)))]) := by
  refine ct_of (own := RX0) (plainFor_of_name (by decide)) rfl (fle rfl) rfl ?_
  intro X hl hD hE hnL hXF h hR hF hnm
  subst hl; subst hD; subst hE
  have hL : ∀ i, i < 3 → i < X.nL := fun i hi => by rw [hnL]; exact hi
  unfold f_X0_itemOf_h3 at hf
  refine g_iload_n h 1 dX0_itemOf_0 rfl rfl ?_
  refine hf_if hf (fun c1 hf => ?_) (fun c1 hf => ?_)
  · refine g_tabIn (c := 0) (tgt := 28) h dX0_itemOf_1 c1 (by decide) (by decide) rfl rfl ?_
    refine g_aload_n h 0 dX0_itemOf_28 rfl rfl ?_
    exact nomatch hf
  · refine hf_if hf (fun c2 hf => ?_) (fun c2 hf => ?_)
    · refine g_tabIn (c := 1) (tgt := 36) h dX0_itemOf_1 c2 (by decide) (by decide) rfl rfl ?_
      refine g_aload_n h 0 dX0_itemOf_36 rfl rfl ?_
      exact nomatch hf
    · refine hf_if hf (fun c3 hf => ?_) (fun c3 hf => ?_)
      · refine g_tabIn (c := 2) (tgt := 44) h dX0_itemOf_1 c3 (by decide) (by decide) rfl rfl ?_
        refine g_aload_n h 0 dX0_itemOf_44 rfl rfl ?_
        exact nomatch hf
      · refine g_tabOut (tgt := 52) h dX0_itemOf_1 (tab_out 0 2 (by decide) (by intro c z1 z2; rcases (show c = 0 ∨ c = 1 ∨ c = 2 by omega) with rfl | rfl | rfl <;> assumption)) rfl ?_
        refine g_aload_n h 0 dX0_itemOf_52 rfl rfl ?_
        refine g_castL (t := 3) h 0 rfl q936 dX0_itemOf_53 ?_
        refine g_iload_n h 2 dX0_itemOf_56 rfl rfl ?_
        obtain ⟨g4, hf⟩ := gn hf
        refine g_laload h 0 rfl g4 dX0_itemOf_57 ?_
        obtain rfl := sj1 hf
        exact g_lret h hF [0] rfl rfl ⟨rfl, rfl⟩ (fle rfl) (fle rfl) dX0_itemOf_58
set_option maxHeartbeats 4000000 in
set_option maxRecDepth 100000 in
theorem ct_X0_puts_h3 {l : Launch} {D : va_G} {E : Ety} {a_t0 nn : Nat} {x1 : Int32} {x2 : Int32} {x3 : Int64} {held : Nat → Int64} {o_held : Nat → Int64} (hn0 : nn ≤ 24) (hf : f_X0_puts_h3 nn x1 x2 x3 held = some o_held) : Ct l yX0_puts cX0_puts 5 none 0 0 0 0 D E [.ref a_t0, .int x1, .int x2, .long x3] [(a_t0, .inl (E 2, nn, .inr (.inl held)))] (Pn none [(a_t0, .inl (E 2, nn, .inr (.inl o_held)))]) := by
  refine ct_of (own := RX0) (plainFor_of_name (by decide)) rfl (fle rfl) rfl ?_
  intro X hl hD hE hnL hXF h hR hF hnm
  subst hl; subst hD; subst hE
  have hL : ∀ i, i < 5 → i < X.nL := fun i hi => by rw [hnL]; exact hi
  unfold f_X0_puts_h3 at hf
  refine g_iload_n h 1 dX0_puts_0 rfl rfl ?_
  refine g_if_ne (tgt := 16) h dX0_puts_1 rfl hf (fun c1 hf => ?_) (fun c1 hf => ?_)
  · refine g_aload_n h 0 dX0_puts_4 rfl rfl ?_
    exact nomatch hf
  · refine g_iload_n h 1 dX0_puts_16 rfl rfl ?_
    refine g_iconst (v := 1) h dX0_puts_17 kiconst_1 ?_
    refine g_icmp_ne (tgt := 33) h dX0_puts_18 rfl hf (fun c2 hf => ?_) (fun c2 hf => ?_)
    · refine g_aload_n h 0 dX0_puts_21 rfl rfl ?_
      exact nomatch hf
    · refine g_iload_n h 1 dX0_puts_33 rfl rfl ?_
      refine g_iconst (v := 2) h dX0_puts_34 kiconst_2 ?_
      refine g_icmp_ne (tgt := 49) h dX0_puts_35 rfl hf (fun c3 hf => ?_) (fun c3 hf => ?_)
      · refine g_aload_n h 0 dX0_puts_38 rfl rfl ?_
        exact nomatch hf
      · refine g_aload_n h 0 dX0_puts_49 rfl rfl ?_
        refine g_castL (t := 3) h 0 rfl q936 dX0_puts_50 ?_
        refine g_iload_n h 2 dX0_puts_53 rfl rfl ?_
        refine g_lload_n h 3 dX0_puts_54 rfl rfl ?_
        obtain ⟨g4, hf⟩ := gn hf
        refine g_lastore (ws' := [(a_t0, .inl (X.E 2, nn, .inr (.inl (vp_updL held x2.toNatClampNeg x3))))]) h 0 rfl g4 rfl dX0_puts_55 ?_
        obtain rfl := sj1 hf
        exact g_vret h hF [0] rfl rfl ⟨rfl, rfl⟩ (fle rfl) (fle rfl) dX0_puts_56
set_option maxHeartbeats 4000000 in
set_option maxRecDepth 100000 in
theorem ctT_X0_puts_h3 {l : Launch} {D : va_G} {E : Ety} {a_t0 nn : Nat} {x1 : Int32} {x2 : Int32} {x3 : Int64} {held : Nat → Int64} {k_ : Nat} (hn0 : nn ≤ 24) (hfl : l.flags = flags0) (hf : e_X0_puts_h3 nn x1 x2 = some k_) : CtT l yX0_puts cX0_puts 5 none 8 10300 3 650 D E [.ref a_t0, .int x1, .int x2, .long x3] [(a_t0, .inl (E 2, nn, .inr (.inl held)))] (fun C x w => C = kcls k_ ∧ w = [(a_t0, .inl (E 2, nn, .inr (.inl held)))]) := by
  refine ct_ofT (own := RX0) (plainFor_of_name (by decide)) rfl (fle rfl) rfl ?_
  intro X hl hD hE hnL hXF h hR hF hx
  subst hl; subst hD; subst hE
  have hL : ∀ i, i < 5 → i < X.nL := fun i hi => by rw [hnL]; exact hi
  unfold e_X0_puts_h3 at hf
  refine g_iload_n h 1 dX0_puts_0 rfl rfl ?_
  refine g_if_ne (tgt := 16) h dX0_puts_1 rfl hf (fun c1 hf => ?_) (fun c1 hf => ?_)
  · refine g_aload_n h 0 dX0_puts_4 rfl rfl ?_
    obtain rfl := sj1 hf
    exact t_cce (t := 3) (t2 := 0) (q0 := 0) h hR hfl hx hF rfl q933 (h.nw.2.2.2.2.1 ("[J", "[B") (by decide)) (fle rfl) (fle rfl) (fle rfl) (fle rfl) [0] rfl rfl (fun x => ⟨rfl, rfl⟩) dX0_puts_5
  · refine g_iload_n h 1 dX0_puts_16 rfl rfl ?_
    refine g_iconst (v := 1) h dX0_puts_17 kiconst_1 ?_
    refine g_icmp_ne (tgt := 33) h dX0_puts_18 rfl hf (fun c2 hf => ?_) (fun c2 hf => ?_)
    · refine g_aload_n h 0 dX0_puts_21 rfl rfl ?_
      obtain rfl := sj1 hf
      exact t_cce (t := 3) (t2 := 1) (q0 := 0) h hR hfl hx hF rfl q934 (h.nw.2.2.2.2.1 ("[J", "[S") (by decide)) (fle rfl) (fle rfl) (fle rfl) (fle rfl) [0] rfl rfl (fun x => ⟨rfl, rfl⟩) dX0_puts_22
    · refine g_iload_n h 1 dX0_puts_33 rfl rfl ?_
      refine g_iconst (v := 2) h dX0_puts_34 kiconst_2 ?_
      refine g_icmp_ne (tgt := 49) h dX0_puts_35 rfl hf (fun c3 hf => ?_) (fun c3 hf => ?_)
      · refine g_aload_n h 0 dX0_puts_38 rfl rfl ?_
        obtain rfl := sj1 hf
        exact t_cce (t := 3) (t2 := 2) (q0 := 0) h hR hfl hx hF rfl q935 (h.nw.2.2.2.2.1 ("[J", "[I") (by decide)) (fle rfl) (fle rfl) (fle rfl) (fle rfl) [0] rfl rfl (fun x => ⟨rfl, rfl⟩) dX0_puts_39
      · refine g_aload_n h 0 dX0_puts_49 rfl rfl ?_
        refine g_castL (t := 3) h 0 rfl q936 dX0_puts_50 ?_
        refine g_iload_n h 2 dX0_puts_53 rfl rfl ?_
        refine g_lload_n h 3 dX0_puts_54 rfl rfl ?_
        obtain ⟨g4, hf⟩ := gy hf
        obtain rfl := sj1 hf
        exact t_idxl (q0 := 0) h hR hfl hx hF rfl (by omega) g4 (fle rfl) (fle rfl) (fle rfl) (fle rfl) [0] rfl rfl (fun x => ⟨rfl, rfl⟩) dX0_puts_55
set_option maxHeartbeats 4000000 in
set_option maxRecDepth 100000 in
theorem ct_X0_sizeOf_h3 {l : Launch} {D : va_G} {E : Ety} {a_t0 nn : Nat} {held : Nat → Int64} {r_ : Int32} (hn0 : nn ≤ 24) (hf : f_X0_sizeOf_h3 nn = some r_) : Ct l yX0_sizeOf cX0_sizeOf 1 (some .int) 0 0 0 0 D E [.ref a_t0] [(a_t0, .inl (E 2, nn, .inr (.inl held)))] (Pn (some (.int r_)) [(a_t0, .inl (E 2, nn, .inr (.inl held)))]) := by
  refine ct_of (own := RX0) (plainFor_of_name (by decide)) rfl (fle rfl) rfl ?_
  intro X hl hD hE hnL hXF h hR hF hnm
  subst hl; subst hD; subst hE
  have hL : ∀ i, i < 1 → i < X.nL := fun i hi => by rw [hnL]; exact hi
  unfold f_X0_sizeOf_h3 at hf
  refine g_aload_n h 0 dX0_sizeOf_0 rfl rfl ?_
  refine g_instN (t := 3) (t2 := 0) h 0 rfl q933 (h.nw.2.2.2.2.1 ("[J", "[B") (by decide)) dX0_sizeOf_1 ?_
  refine b_if_eq (tgt := 13) h dX0_sizeOf_4 rfl (fun _ => ?_) (fun c0 => absurd (by decide) c0)
  refine g_aload_n h 0 dX0_sizeOf_13 rfl rfl ?_
  refine g_instN (t := 3) (t2 := 1) h 0 rfl q934 (h.nw.2.2.2.2.1 ("[J", "[S") (by decide)) dX0_sizeOf_14 ?_
  refine b_if_eq (tgt := 26) h dX0_sizeOf_17 rfl (fun _ => ?_) (fun c0 => absurd (by decide) c0)
  refine g_aload_n h 0 dX0_sizeOf_26 rfl rfl ?_
  refine g_instN (t := 3) (t2 := 2) h 0 rfl q935 (h.nw.2.2.2.2.1 ("[J", "[I") (by decide)) dX0_sizeOf_27 ?_
  refine b_if_eq (tgt := 39) h dX0_sizeOf_30 rfl (fun _ => ?_) (fun c0 => absurd (by decide) c0)
  refine g_aload_n h 0 dX0_sizeOf_39 rfl rfl ?_
  refine g_castL (t := 3) h 0 rfl q936 dX0_sizeOf_40 ?_
  refine g_alen (t0 := 2) (v := Int32.ofNat nn) h 0 rfl rfl rfl dX0_sizeOf_43 ?_
  obtain rfl := sj1 hf
  exact g_iret h hF [0] rfl rfl ⟨rfl, rfl⟩ (fle rfl) (fle rfl) dX0_sizeOf_44
