set_option maxRecDepth 100000

def f_X0_laid_l0 (x1 : Int32) : Option (Unit) :=
  if x1 < 0 ∨ 25 ≤ x1.toNatClampNeg then none else
  some ()
def e_X0_laid_l0 (x1 : Int32) : Option Nat :=
  if x1 < 0 then
    some 3
  else none
def f_X0_laid_l1 (x1 : Int32) : Option (Unit) :=
  if x1 < 0 ∨ 25 ≤ x1.toNatClampNeg then none else
  some ()
def e_X0_laid_l1 (x1 : Int32) : Option Nat :=
  if x1 < 0 then
    some 3
  else none
def f_X0_laid_l2 (x1 : Int32) : Option (Unit) :=
  if x1 < 0 ∨ 25 ≤ x1.toNatClampNeg then none else
  some ()
def e_X0_laid_l2 (x1 : Int32) : Option Nat :=
  if x1 < 0 then
    some 3
  else none
def f_X0_laid_l3 (x1 : Int32) : Option (Unit) :=
  if x1 < 0 ∨ 25 ≤ x1.toNatClampNeg then none else
  some ()
def e_X0_laid_l3 (x1 : Int32) : Option Nat :=
  if x1 < 0 then
    some 3
  else none
def f_X0_sheet_l0 (x1 : Int32) (x3 : Int32) : Option (Int32) :=
  b1 (f_X0_isSheet x1) fun r_1 =>
  if r_1 = 0 then
    none
  else
    b1 (f_X0_isLane 0) fun r_3 =>
    if r_3 = 0 then
      none
    else
      if x3 ≤ 24 then
        if x1 < 0 ∨ 4 ≤ x1.toNatClampNeg then none else
        ox (f_X0_laid_l0 x3) (e_X0_laid_l0 x3) (fun z =>
        b1 (some z) fun u_7 =>
        some x3) (fun z =>
        b1 (some z) fun v_8 =>
        if v_8 = 3 then
          none
        else
          none)
      else
        none
def f_X0_sheet_b0 (x1 : Int32) (x3 : Int32) : Option (Int32) :=
  b1 (f_X0_isSheet x1) fun r_1 =>
  if r_1 = 0 then
    some (-1)
  else
    b1 (f_X0_isLane 0) fun r_3 =>
    if r_3 = 0 then
      some (-1)
    else
      if x3 ≤ 24 then
        if x1 < 0 ∨ 4 ≤ x1.toNatClampNeg then none else
        ox (f_X0_laid_l0 x3) (e_X0_laid_l0 x3) (fun z =>
        b1 (some z) fun u_7 =>
        none) (fun z =>
        b1 (some z) fun v_8 =>
        if v_8 = 3 then
          some (-14)
        else
          none)
      else
        some (-1)
def f_X0_sheet_l1 (x1 : Int32) (x3 : Int32) : Option (Int32) :=
  b1 (f_X0_isSheet x1) fun r_1 =>
  if r_1 = 0 then
    none
  else
    b1 (f_X0_isLane 1) fun r_3 =>
    if r_3 = 0 then
      none
    else
      if x3 ≤ 24 then
        if x1 < 0 ∨ 4 ≤ x1.toNatClampNeg then none else
        ox (f_X0_laid_l1 x3) (e_X0_laid_l1 x3) (fun z =>
        b1 (some z) fun u_7 =>
        some x3) (fun z =>
        b1 (some z) fun v_8 =>
        if v_8 = 3 then
          none
        else
          none)
      else
        none
def f_X0_sheet_b1 (x1 : Int32) (x3 : Int32) : Option (Int32) :=
  b1 (f_X0_isSheet x1) fun r_1 =>
  if r_1 = 0 then
    some (-1)
  else
    b1 (f_X0_isLane 1) fun r_3 =>
    if r_3 = 0 then
      some (-1)
    else
      if x3 ≤ 24 then
        if x1 < 0 ∨ 4 ≤ x1.toNatClampNeg then none else
        ox (f_X0_laid_l1 x3) (e_X0_laid_l1 x3) (fun z =>
        b1 (some z) fun u_7 =>
        none) (fun z =>
        b1 (some z) fun v_8 =>
        if v_8 = 3 then
          some (-14)
        else
          none)
      else
        some (-1)
def f_X0_sheet_l2 (x1 : Int32) (x3 : Int32) : Option (Int32) :=
  b1 (f_X0_isSheet x1) fun r_1 =>
  if r_1 = 0 then
    none
  else
    b1 (f_X0_isLane 2) fun r_3 =>
    if r_3 = 0 then
      none
    else
      if x3 ≤ 24 then
        if x1 < 0 ∨ 4 ≤ x1.toNatClampNeg then none else
        ox (f_X0_laid_l2 x3) (e_X0_laid_l2 x3) (fun z =>
        b1 (some z) fun u_7 =>
        some x3) (fun z =>
        b1 (some z) fun v_8 =>
        if v_8 = 3 then
          none
        else
          none)
      else
        none
def f_X0_sheet_b2 (x1 : Int32) (x3 : Int32) : Option (Int32) :=
  b1 (f_X0_isSheet x1) fun r_1 =>
  if r_1 = 0 then
    some (-1)
  else
    b1 (f_X0_isLane 2) fun r_3 =>
    if r_3 = 0 then
      some (-1)
    else
      if x3 ≤ 24 then
        if x1 < 0 ∨ 4 ≤ x1.toNatClampNeg then none else
        ox (f_X0_laid_l2 x3) (e_X0_laid_l2 x3) (fun z =>
        b1 (some z) fun u_7 =>
        none) (fun z =>
        b1 (some z) fun v_8 =>
        if v_8 = 3 then
          some (-14)
        else
          none)
      else
        some (-1)
def f_X0_sheet_l3 (x1 : Int32) (x3 : Int32) : Option (Int32) :=
  b1 (f_X0_isSheet x1) fun r_1 =>
  if r_1 = 0 then
    none
  else
    b1 (f_X0_isLane 3) fun r_3 =>
    if r_3 = 0 then
      none
    else
      if x3 ≤ 24 then
        if x1 < 0 ∨ 4 ≤ x1.toNatClampNeg then none else
        ox (f_X0_laid_l3 x3) (e_X0_laid_l3 x3) (fun z =>
        b1 (some z) fun u_7 =>
        some x3) (fun z =>
        b1 (some z) fun v_8 =>
        if v_8 = 3 then
          none
        else
          none)
      else
        none
def f_X0_sheet_b3 (x1 : Int32) (x3 : Int32) : Option (Int32) :=
  b1 (f_X0_isSheet x1) fun r_1 =>
  if r_1 = 0 then
    some (-1)
  else
    b1 (f_X0_isLane 3) fun r_3 =>
    if r_3 = 0 then
      some (-1)
    else
      if x3 ≤ 24 then
        if x1 < 0 ∨ 4 ≤ x1.toNatClampNeg then none else
        ox (f_X0_laid_l3 x3) (e_X0_laid_l3 x3) (fun z =>
        b1 (some z) fun u_7 =>
        none) (fun z =>
        b1 (some z) fun v_8 =>
        if v_8 = 3 then
          some (-14)
        else
          none)
      else
        some (-1)
def f_X0_sheet_bad (x1 : Int32) (x2 : Int32) (x3 : Int32) : Option (Int32) :=
  b1 (f_X0_isSheet x1) fun r_1 =>
  if r_1 = 0 then
    some (-1)
  else
    b1 (f_X0_isLane x2) fun r_3 =>
    if r_3 = 0 then
      some (-1)
    else
      if x3 ≤ 24 then
        none
      else
        some (-1)
set_option maxHeartbeats 4000000 in
set_option maxRecDepth 100000 in
theorem ct_X0_laid_l0 {l : Launch} {D : va_G} {E : Ety}  {x1 : Int32}  (hf : f_X0_laid_l0 x1 = some ()) : Ct l yX0_laid cX0_laid 2 (some (.object "java/lang/Object")) 0 0 1 24 D E [.int 0, .int x1] [] (Pr (fun q => [(q, .inl (E 0, x1.toNatClampNeg, .inl (fun _ => 0)))])) := by
  refine ct_of (own := RX0) (plainFor_of_name (by decide)) rfl (fle rfl) rfl ?_
  intro X hl hD hE hnL hXF h hR hF hnm
  subst hl; subst hD; subst hE
  have hL : ∀ i, i < 2 → i < X.nL := fun i hi => by rw [hnL]; exact hi
  unfold f_X0_laid_l0 at hf
  refine g_iload_n h 0 dX0_laid_0 rfl rfl ?_
  refine g_tabIn (c := 0) (tgt := 28) h dX0_laid_1 rfl (by decide) (by decide) rfl rfl ?_
  refine g_iload_n h 1 dX0_laid_28 rfl rfl ?_
  obtain ⟨g1, hf⟩ := gn hf
  refine g_newa (at0 := .byte) (ty := .byte) (n := x1) (N := x1.toNatClampNeg) (t0 := 0) (a0 := (x1.toNatClampNeg, .inl (fun _ => 0))) h hR q520 rfl rfl rfl (fun _ => rfl) (fun z => g1 (Or.inl z)) rfl (by have := not_or.mp g1; show _ * 1 ≤ _; omega) (fle rfl) (by have := not_or.mp g1; omega) dX0_laid_29 (fun q2 => ?_)
  refine G.wk (ce' := 1) (sl' := 24) (fle rfl) (by have := not_or.mp g1; omega) ?_
  refine G.sub (ws' := [(q2, .inl (X.E 0, x1.toNatClampNeg, .inl (fun _ => 0)))]) [0] rfl rfl ?_
  exact g_aret h hF (Or.inl ⟨_, rfl⟩) (Or.inr ⟨_, rfl⟩) [0] rfl rfl ⟨_, rfl, rfl⟩ (fle rfl) (fle rfl) dX0_laid_31
set_option maxHeartbeats 4000000 in
set_option maxRecDepth 100000 in
theorem ctT_X0_laid_l0 {l : Launch} {D : va_G} {E : Ety}  {x1 : Int32} {k_ : Nat} (hfl : l.flags = flags0) (hf : e_X0_laid_l0 x1 = some k_) : CtT l yX0_laid cX0_laid 2 (some (.object "java/lang/Object")) 7 10300 3 54 D E [.int 0, .int x1] [] (fun C x w => C = kcls k_ ∧ w = []) := by
  refine ct_ofT (own := RX0) (plainFor_of_name (by decide)) rfl (fle rfl) rfl ?_
  intro X hl hD hE hnL hXF h hR hF hx
  subst hl; subst hD; subst hE
  have hL : ∀ i, i < 2 → i < X.nL := fun i hi => by rw [hnL]; exact hi
  unfold e_X0_laid_l0 at hf
  refine g_iload_n h 0 dX0_laid_0 rfl rfl ?_
  refine g_tabIn (c := 0) (tgt := 28) h dX0_laid_1 rfl (by decide) (by decide) rfl rfl ?_
  refine g_iload_n h 1 dX0_laid_28 rfl rfl ?_
  obtain ⟨g1, hf⟩ := gy hf
  obtain rfl := sj1 hf
  exact t_neg h hR hfl hx hF g1 (fle rfl) (fle rfl) (fle rfl) (fle rfl) [] rfl rfl (fun x => ⟨rfl, rfl⟩) dX0_laid_29
set_option maxHeartbeats 4000000 in
set_option maxRecDepth 100000 in
theorem ct_X0_laid_l1 {l : Launch} {D : va_G} {E : Ety}  {x1 : Int32}  (hf : f_X0_laid_l1 x1 = some ()) : Ct l yX0_laid cX0_laid 2 (some (.object "java/lang/Object")) 0 0 1 24 D E [.int 1, .int x1] [] (Pr (fun q => [(q, .inl (E 3, x1.toNatClampNeg, .inl (fun _ => 0)))])) := by
  refine ct_of (own := RX0) (plainFor_of_name (by decide)) rfl (fle rfl) rfl ?_
  intro X hl hD hE hnL hXF h hR hF hnm
  subst hl; subst hD; subst hE
  have hL : ∀ i, i < 2 → i < X.nL := fun i hi => by rw [hnL]; exact hi
  unfold f_X0_laid_l1 at hf
  refine g_iload_n h 0 dX0_laid_0 rfl rfl ?_
  refine g_tabIn (c := 1) (tgt := 32) h dX0_laid_1 rfl (by decide) (by decide) rfl rfl ?_
  refine g_iload_n h 1 dX0_laid_32 rfl rfl ?_
  obtain ⟨g1, hf⟩ := gn hf
  refine g_newa (at0 := .short) (ty := .short) (n := x1) (N := x1.toNatClampNeg) (t0 := 3) (a0 := (x1.toNatClampNeg, .inl (fun _ => 0))) h hR q924 rfl rfl rfl (fun _ => rfl) (fun z => g1 (Or.inl z)) rfl (by have := not_or.mp g1; show _ * 2 ≤ _; omega) (fle rfl) (by have := not_or.mp g1; omega) dX0_laid_33 (fun q2 => ?_)
  refine G.wk (ce' := 1) (sl' := 24) (fle rfl) (by have := not_or.mp g1; omega) ?_
  refine G.sub (ws' := [(q2, .inl (X.E 3, x1.toNatClampNeg, .inl (fun _ => 0)))]) [0] rfl rfl ?_
  exact g_aret h hF (Or.inl ⟨_, rfl⟩) (Or.inr ⟨_, rfl⟩) [0] rfl rfl ⟨_, rfl, rfl⟩ (fle rfl) (fle rfl) dX0_laid_35
set_option maxHeartbeats 4000000 in
set_option maxRecDepth 100000 in
theorem ctT_X0_laid_l1 {l : Launch} {D : va_G} {E : Ety}  {x1 : Int32} {k_ : Nat} (hfl : l.flags = flags0) (hf : e_X0_laid_l1 x1 = some k_) : CtT l yX0_laid cX0_laid 2 (some (.object "java/lang/Object")) 7 10300 3 54 D E [.int 1, .int x1] [] (fun C x w => C = kcls k_ ∧ w = []) := by
  refine ct_ofT (own := RX0) (plainFor_of_name (by decide)) rfl (fle rfl) rfl ?_
  intro X hl hD hE hnL hXF h hR hF hx
  subst hl; subst hD; subst hE
  have hL : ∀ i, i < 2 → i < X.nL := fun i hi => by rw [hnL]; exact hi
  unfold e_X0_laid_l1 at hf
  refine g_iload_n h 0 dX0_laid_0 rfl rfl ?_
  refine g_tabIn (c := 1) (tgt := 32) h dX0_laid_1 rfl (by decide) (by decide) rfl rfl ?_
  refine g_iload_n h 1 dX0_laid_32 rfl rfl ?_
  obtain ⟨g1, hf⟩ := gy hf
  obtain rfl := sj1 hf
  exact t_neg h hR hfl hx hF g1 (fle rfl) (fle rfl) (fle rfl) (fle rfl) [] rfl rfl (fun x => ⟨rfl, rfl⟩) dX0_laid_33
set_option maxHeartbeats 4000000 in
set_option maxRecDepth 100000 in
theorem ct_X0_laid_l2 {l : Launch} {D : va_G} {E : Ety}  {x1 : Int32}  (hf : f_X0_laid_l2 x1 = some ()) : Ct l yX0_laid cX0_laid 2 (some (.object "java/lang/Object")) 0 0 1 24 D E [.int 2, .int x1] [] (Pr (fun q => [(q, .inl (E 1, x1.toNatClampNeg, .inl (fun _ => 0)))])) := by
  refine ct_of (own := RX0) (plainFor_of_name (by decide)) rfl (fle rfl) rfl ?_
  intro X hl hD hE hnL hXF h hR hF hnm
  subst hl; subst hD; subst hE
  have hL : ∀ i, i < 2 → i < X.nL := fun i hi => by rw [hnL]; exact hi
  unfold f_X0_laid_l2 at hf
  refine g_iload_n h 0 dX0_laid_0 rfl rfl ?_
  refine g_tabIn (c := 2) (tgt := 36) h dX0_laid_1 rfl (by decide) (by decide) rfl rfl ?_
  refine g_iload_n h 1 dX0_laid_36 rfl rfl ?_
  obtain ⟨g1, hf⟩ := gn hf
  refine g_newa (at0 := .int) (ty := .int) (n := x1) (N := x1.toNatClampNeg) (t0 := 1) (a0 := (x1.toNatClampNeg, .inl (fun _ => 0))) h hR q605 rfl rfl rfl (fun _ => rfl) (fun z => g1 (Or.inl z)) rfl (by have := not_or.mp g1; show _ * 4 ≤ _; omega) (fle rfl) (by have := not_or.mp g1; omega) dX0_laid_37 (fun q2 => ?_)
  refine G.wk (ce' := 1) (sl' := 24) (fle rfl) (by have := not_or.mp g1; omega) ?_
  refine G.sub (ws' := [(q2, .inl (X.E 1, x1.toNatClampNeg, .inl (fun _ => 0)))]) [0] rfl rfl ?_
  exact g_aret h hF (Or.inl ⟨_, rfl⟩) (Or.inr ⟨_, rfl⟩) [0] rfl rfl ⟨_, rfl, rfl⟩ (fle rfl) (fle rfl) dX0_laid_39
set_option maxHeartbeats 4000000 in
set_option maxRecDepth 100000 in
theorem ctT_X0_laid_l2 {l : Launch} {D : va_G} {E : Ety}  {x1 : Int32} {k_ : Nat} (hfl : l.flags = flags0) (hf : e_X0_laid_l2 x1 = some k_) : CtT l yX0_laid cX0_laid 2 (some (.object "java/lang/Object")) 7 10300 3 54 D E [.int 2, .int x1] [] (fun C x w => C = kcls k_ ∧ w = []) := by
  refine ct_ofT (own := RX0) (plainFor_of_name (by decide)) rfl (fle rfl) rfl ?_
  intro X hl hD hE hnL hXF h hR hF hx
  subst hl; subst hD; subst hE
  have hL : ∀ i, i < 2 → i < X.nL := fun i hi => by rw [hnL]; exact hi
  unfold e_X0_laid_l2 at hf
  refine g_iload_n h 0 dX0_laid_0 rfl rfl ?_
  refine g_tabIn (c := 2) (tgt := 36) h dX0_laid_1 rfl (by decide) (by decide) rfl rfl ?_
  refine g_iload_n h 1 dX0_laid_36 rfl rfl ?_
  obtain ⟨g1, hf⟩ := gy hf
  obtain rfl := sj1 hf
  exact t_neg h hR hfl hx hF g1 (fle rfl) (fle rfl) (fle rfl) (fle rfl) [] rfl rfl (fun x => ⟨rfl, rfl⟩) dX0_laid_37
set_option maxHeartbeats 4000000 in
set_option maxRecDepth 100000 in
theorem ct_X0_laid_l3 {l : Launch} {D : va_G} {E : Ety}  {x1 : Int32}  (hf : f_X0_laid_l3 x1 = some ()) : Ct l yX0_laid cX0_laid 2 (some (.object "java/lang/Object")) 0 0 1 24 D E [.int 3, .int x1] [] (Pr (fun q => [(q, .inl (E 2, x1.toNatClampNeg, .inr (.inl (fun _ => 0))))])) := by
  refine ct_of (own := RX0) (plainFor_of_name (by decide)) rfl (fle rfl) rfl ?_
  intro X hl hD hE hnL hXF h hR hF hnm
  subst hl; subst hD; subst hE
  have hL : ∀ i, i < 2 → i < X.nL := fun i hi => by rw [hnL]; exact hi
  unfold f_X0_laid_l3 at hf
  refine g_iload_n h 0 dX0_laid_0 rfl rfl ?_
  refine g_tabOut (tgt := 40) h dX0_laid_1 (Or.inr (by decide)) rfl ?_
  refine g_iload_n h 1 dX0_laid_40 rfl rfl ?_
  obtain ⟨g1, hf⟩ := gn hf
  refine g_newa (at0 := .long) (ty := .long) (n := x1) (N := x1.toNatClampNeg) (t0 := 2) (a0 := (x1.toNatClampNeg, .inr (.inl (fun _ => 0)))) h hR q925 rfl rfl rfl (fun _ => rfl) (fun z => g1 (Or.inl z)) rfl (by have := not_or.mp g1; show _ * 8 ≤ _; omega) (fle rfl) (by have := not_or.mp g1; omega) dX0_laid_41 (fun q2 => ?_)
  refine G.wk (ce' := 1) (sl' := 24) (fle rfl) (by have := not_or.mp g1; omega) ?_
  refine G.sub (ws' := [(q2, .inl (X.E 2, x1.toNatClampNeg, .inr (.inl (fun _ => 0))))]) [0] rfl rfl ?_
  exact g_aret h hF (Or.inl ⟨_, rfl⟩) (Or.inr ⟨_, rfl⟩) [0] rfl rfl ⟨_, rfl, rfl⟩ (fle rfl) (fle rfl) dX0_laid_43
set_option maxHeartbeats 4000000 in
set_option maxRecDepth 100000 in
theorem ctT_X0_laid_l3 {l : Launch} {D : va_G} {E : Ety}  {x1 : Int32} {k_ : Nat} (hfl : l.flags = flags0) (hf : e_X0_laid_l3 x1 = some k_) : CtT l yX0_laid cX0_laid 2 (some (.object "java/lang/Object")) 7 10300 3 54 D E [.int 3, .int x1] [] (fun C x w => C = kcls k_ ∧ w = []) := by
  refine ct_ofT (own := RX0) (plainFor_of_name (by decide)) rfl (fle rfl) rfl ?_
  intro X hl hD hE hnL hXF h hR hF hx
  subst hl; subst hD; subst hE
  have hL : ∀ i, i < 2 → i < X.nL := fun i hi => by rw [hnL]; exact hi
  unfold e_X0_laid_l3 at hf
  refine g_iload_n h 0 dX0_laid_0 rfl rfl ?_
  refine g_tabOut (tgt := 40) h dX0_laid_1 (Or.inr (by decide)) rfl ?_
  refine g_iload_n h 1 dX0_laid_40 rfl rfl ?_
  obtain ⟨g1, hf⟩ := gy hf
  obtain rfl := sj1 hf
  exact t_neg h hR hfl hx hF g1 (fle rfl) (fle rfl) (fle rfl) (fle rfl) [] rfl rfl (fun x => ⟨rfl, rfl⟩) dX0_laid_41
set_option maxHeartbeats 4000000 in
set_option maxRecDepth 100000 in
theorem ct_X0_sheet_l0 {l : Launch} {D : va_G} {E : Ety} {a a_kinds a_town a_tried a_fell a_tape a_read a_undos a_kept a_keptUndos a_sheets a_taken a_held : Nat} {x1 : Int32} {x3 : Int32} {falls : Int32} {tears : Int32} {typed : Int32} {place : Int32} {isKept : Int32} {sh : Nat → Option Nat} {wv : Value} {r_ : Int32} (hsh : sh x1.toNatClampNeg = some a_held) (hfl : l.flags = flags0) (hf : f_X0_sheet_l0 x1 x3 = some r_) : CtW l yX0_sheet cX0_sheet 5 (some .int) [(22, 37, 38, 365)] 8 10321 3 54 D E [.ref a, .int x1, .int 0, .int x3] [(a, .inr (0, [.ref a_kinds, .ref a_town, .ref a_tried, .ref a_fell, .int falls, .int tears, .ref a_tape, .int typed, .int place, .ref a_read, .ref a_undos, .ref a_kept, .ref a_keptUndos, .int isKept, .ref a_sheets, .ref a_taken])), (a_sheets, .inl (E 6, 4, .inr (.inr (.inr (.inr sh))))), (a_held, .inr (7, [wv]))] (fun v w => ∃ q11 : Nat, v = some (.int r_) ∧ w = [(a, .inr (0, [.ref a_kinds, .ref a_town, .ref a_tried, .ref a_fell, .int falls, .int tears, .ref a_tape, .int typed, .int place, .ref a_read, .ref a_undos, .ref a_kept, .ref a_keptUndos, .int isKept, .ref a_sheets, .ref a_taken])), (a_sheets, .inl (E 6, 4, .inr (.inr (.inr (.inr sh))))), (a_held, .inr (7, [.ref q11])), (q11, .inl (E 0, x3.toNatClampNeg, .inl (fun _ => 0)))]) := by
  refine ct_ofW (own := RX0) (F := []) (List.append_nil _) (by decide) rfl (fle rfl) rfl ?_
  intro X hl hD hE hnL hXF h hR hF htb
  subst hl; subst hD; subst hE
  have hL : ∀ i, i < 5 → i < X.nL := fun i hi => by rw [hnL]; exact hi
  unfold f_X0_sheet_l0 at hf
  refine g_iload_n h 1 dX0_sheet_0 rfl rfl ?_
  obtain ⟨r_1, hv, hf⟩ := ob1 hf
  refine g_callS (n := 1) (As := [.int x1]) (st := []) (wr := [(a, .inr (0, [.ref a_kinds, .ref a_town, .ref a_tried, .ref a_fell, .int falls, .int tears, .ref a_tape, .int typed, .int place, .ref a_read, .ref a_undos, .ref a_kept, .ref a_keptUndos, .int isKept, .ref a_sheets, .ref a_taken])), (a_sheets, .inl (X.E 6, 4, .inr (.inr (.inr (.inr sh))))), (a_held, .inr (7, [wv]))]) (isC := []) (isR := [0, 1, 2]) h hR (ct_X0_isSheet (x0 := x1) hv) (lw_S q914 q915 q70 q916) (by decide +kernel) rfl ⟨rfl, rfl, rfl, rfl, by decide⟩ ⟨fle rfl, fle rfl, fle rfl, fle rfl, fle rfl⟩ rfl dX0_sheet_1 (pin (perm := [0, 1, 2]) (ws' := [(a, .inr (0, [.ref a_kinds, .ref a_town, .ref a_tried, .ref a_fell, .int falls, .int tears, .ref a_tape, .int typed, .int place, .ref a_read, .ref a_undos, .ref a_kept, .ref a_keptUndos, .int isKept, .ref a_sheets, .ref a_taken])), (a_sheets, .inl (X.E 6, 4, .inr (.inr (.inr (.inr sh))))), (a_held, .inr (7, [wv]))]) (stk := [.int r_1]) rfl rfl rfl ?_)
  clear hv
  refine g_if_eq (tgt := 20) h dX0_sheet_4 rfl hf (fun c2 hf => ?_) (fun c2 hf => ?_)
  · exact nomatch hf
  · refine g_iload_n h 2 dX0_sheet_7 rfl rfl ?_
    obtain ⟨r_3, hv, hf⟩ := ob1 hf
    refine g_callS (n := 1) (As := [.int 0]) (st := []) (wr := [(a, .inr (0, [.ref a_kinds, .ref a_town, .ref a_tried, .ref a_fell, .int falls, .int tears, .ref a_tape, .int typed, .int place, .ref a_read, .ref a_undos, .ref a_kept, .ref a_keptUndos, .int isKept, .ref a_sheets, .ref a_taken])), (a_sheets, .inl (X.E 6, 4, .inr (.inr (.inr (.inr sh))))), (a_held, .inr (7, [wv]))]) (isC := []) (isR := [0, 1, 2]) h hR (ct_X0_isLane (x0 := 0) hv) (lw_S q918 q919 q70 q920) (by decide +kernel) rfl ⟨rfl, rfl, rfl, rfl, by decide⟩ ⟨fle rfl, fle rfl, fle rfl, fle rfl, fle rfl⟩ rfl dX0_sheet_8 (pin (perm := [0, 1, 2]) (ws' := [(a, .inr (0, [.ref a_kinds, .ref a_town, .ref a_tried, .ref a_fell, .int falls, .int tears, .ref a_tape, .int typed, .int place, .ref a_read, .ref a_undos, .ref a_kept, .ref a_keptUndos, .int isKept, .ref a_sheets, .ref a_taken])), (a_sheets, .inl (X.E 6, 4, .inr (.inr (.inr (.inr sh))))), (a_held, .inr (7, [wv]))]) (stk := [.int r_3]) rfl rfl rfl ?_)
    clear hv
    refine g_if_eq (tgt := 20) h dX0_sheet_11 rfl hf (fun c4 hf => ?_) (fun c4 hf => ?_)
    · exact nomatch hf
    · refine g_iload_n h 3 dX0_sheet_14 rfl rfl ?_
      refine g_bipush (v := 24) h dX0_sheet_15 kbipush_24 ?_
      refine g_icmp_le (tgt := 22) h dX0_sheet_17 rfl hf (fun c5 hf => ?_) (fun c5 hf => ?_)
      · refine g_aload_n h 0 dX0_sheet_22 rfl rfl ?_
        refine g_get (ci := 0) (v := .ref a_sheets) h in_X0 0 14 rfl rfl (fle rfl) rfl q1125 rfl dX0_sheet_23 ?_
        refine g_iload_n h 1 dX0_sheet_26 rfl rfl ?_
        obtain ⟨g6, hf⟩ := gn hf
        refine g_aaS (t0 := 6) (p := a_held) h 1 rfl rfl g6 hsh dX0_sheet_27 ?_
        refine g_iload_n h 2 dX0_sheet_28 rfl rfl ?_
        refine g_iload_n h 3 dX0_sheet_29 rfl rfl ?_
        refine ox_at hf (fun z hv hf => ?_) (fun z hv hf => ?_)
        · obtain ⟨u_7, hz, hf⟩ := ob1 hf
          replace hv := hv.trans hz
          clear hz
          refine g_callS (n := 2) (As := [.int 0, .int x3]) (st := [.ref a_held]) (wr := [(a, .inr (0, [.ref a_kinds, .ref a_town, .ref a_tried, .ref a_fell, .int falls, .int tears, .ref a_tape, .int typed, .int place, .ref a_read, .ref a_undos, .ref a_kept, .ref a_keptUndos, .int isKept, .ref a_sheets, .ref a_taken])), (a_sheets, .inl (X.E 6, 4, .inr (.inr (.inr (.inr sh))))), (a_held, .inr (7, [wv]))]) (isC := []) (isR := [0, 1, 2]) h hR (ct_X0_laid_l0 (x1 := x3) hv) (lw_S q921 q922 q70 q923) (by decide +kernel) rfl ⟨rfl, rfl, rfl, rfl, by decide⟩ ⟨fle rfl, fle rfl, fle rfl, fle rfl, fle rfl⟩ rfl dX0_sheet_30 (pinr (fun q11 => G.sub (ws' := [(a, .inr (0, [.ref a_kinds, .ref a_town, .ref a_tried, .ref a_fell, .int falls, .int tears, .ref a_tape, .int typed, .int place, .ref a_read, .ref a_undos, .ref a_kept, .ref a_keptUndos, .int isKept, .ref a_sheets, .ref a_taken])), (a_sheets, .inl (X.E 6, 4, .inr (.inr (.inr (.inr sh))))), (a_held, .inr (7, [wv])), (q11, .inl (X.E 0, x3.toNatClampNeg, .inl (fun _ => 0)))]) [0, 1, 2, 3] rfl rfl ?_))
          clear hv
          refine g_putN (ci := 7) (ty := tyX7 0) (ws' := [(a, .inr (0, [.ref a_kinds, .ref a_town, .ref a_tried, .ref a_fell, .int falls, .int tears, .ref a_tape, .int typed, .int place, .ref a_read, .ref a_undos, .ref a_kept, .ref a_keptUndos, .int isKept, .ref a_sheets, .ref a_taken])), (a_sheets, .inl (X.E 6, 4, .inr (.inr (.inr (.inr sh))))), (a_held, .inr (7, [.ref q11])), (q11, .inl (X.E 0, x3.toNatClampNeg, .inl (fun _ => 0)))]) h in_X7 tyX7 tyX7_ok nmX7 2 0 rfl rfl (fle rfl) ⟨rfl, rfl⟩ q1106 rfl rfl rfl (fle rfl) rfl dX0_sheet_33 ?_
          refine g_iload_n h 3 dX0_sheet_36 rfl rfl ?_
          obtain rfl := sj1 hf
          exact g_iret h hF [0, 1, 2, 3] rfl rfl ⟨_, rfl, rfl⟩ (fle rfl) (fle rfl) dX0_sheet_37
        · obtain ⟨v_8, hz, hf⟩ := ob1 hf
          replace hv := hv.trans hz
          clear hz
          refine g_callSC (n := 2) (As := [.int 0, .int x3]) (st := [.ref a_held]) (wr := [(a, .inr (0, [.ref a_kinds, .ref a_town, .ref a_tried, .ref a_fell, .int falls, .int tears, .ref a_tape, .int typed, .int place, .ref a_read, .ref a_undos, .ref a_kept, .ref a_keptUndos, .int isKept, .ref a_sheets, .ref a_taken])), (a_sheets, .inl (X.E 6, 4, .inr (.inr (.inr (.inr sh))))), (a_held, .inr (7, [wv]))]) (isC := []) (isR := [0, 1, 2]) h hR (ctT_X0_laid_l0 (x1 := x3) hfl hv) (lw_S q921 q922 q70 q923) (by decide +kernel) rfl ⟨rfl, rfl, rfl, rfl, by decide⟩ ⟨fle rfl, fle rfl, fle rfl, fle rfl, fle rfl⟩ rfl dX0_sheet_30 (fun C q9 w' hw => ?_)
          obtain ⟨rfl, rfl⟩ := hw
          refine hf_if hf (fun c10 hf => ?_) (fun c10 hf => ?_)
          · subst c10
            refine ⟨38, ⟨[], [], ⟨22, 37, 38, 365⟩, "java/lang/NegativeArraySizeException", htb, (fun y hy => nomatch hy), rfl, by decide, q887, q907, rfl⟩, ?_⟩
            refine G.sub (ws' := [(a, .inr (0, [.ref a_kinds, .ref a_town, .ref a_tried, .ref a_fell, .int falls, .int tears, .ref a_tape, .int typed, .int place, .ref a_read, .ref a_undos, .ref a_kept, .ref a_keptUndos, .int isKept, .ref a_sheets, .ref a_taken])), (a_sheets, .inl (X.E 6, 4, .inr (.inr (.inr (.inr sh))))), (a_held, .inr (7, [wv]))]) [0, 1, 2] rfl rfl ?_
            clear hv
            exact nomatch hf
          · exact nomatch hf
      · exact nomatch hf
set_option maxHeartbeats 4000000 in
set_option maxRecDepth 100000 in
theorem ct_X0_sheet_b0 {l : Launch} {D : va_G} {E : Ety} {a a_kinds a_town a_tried a_fell a_tape a_read a_undos a_kept a_keptUndos a_sheets a_taken a_held : Nat} {x1 : Int32} {x3 : Int32} {falls : Int32} {tears : Int32} {typed : Int32} {place : Int32} {isKept : Int32} {sh : Nat → Option Nat} {r_ : Int32} (hsh : sh x1.toNatClampNeg = some a_held) (hfl : l.flags = flags0) (hf : f_X0_sheet_b0 x1 x3 = some r_) : CtW l yX0_sheet cX0_sheet 5 (some .int) [(22, 37, 38, 365)] 8 10321 3 54 D E [.ref a, .int x1, .int 0, .int x3] [(a, .inr (0, [.ref a_kinds, .ref a_town, .ref a_tried, .ref a_fell, .int falls, .int tears, .ref a_tape, .int typed, .int place, .ref a_read, .ref a_undos, .ref a_kept, .ref a_keptUndos, .int isKept, .ref a_sheets, .ref a_taken])), (a_sheets, .inl (E 6, 4, .inr (.inr (.inr (.inr sh)))))] (Pn (some (.int r_)) [(a, .inr (0, [.ref a_kinds, .ref a_town, .ref a_tried, .ref a_fell, .int falls, .int tears, .ref a_tape, .int typed, .int place, .ref a_read, .ref a_undos, .ref a_kept, .ref a_keptUndos, .int isKept, .ref a_sheets, .ref a_taken])), (a_sheets, .inl (E 6, 4, .inr (.inr (.inr (.inr sh)))))]) := by
  refine ct_ofW (own := RX0) (F := []) (List.append_nil _) (by decide) rfl (fle rfl) rfl ?_
  intro X hl hD hE hnL hXF h hR hF htb
  subst hl; subst hD; subst hE
  have hL : ∀ i, i < 5 → i < X.nL := fun i hi => by rw [hnL]; exact hi
  unfold f_X0_sheet_b0 at hf
  refine g_iload_n h 1 dX0_sheet_0 rfl rfl ?_
  obtain ⟨r_1, hv, hf⟩ := ob1 hf
  refine g_callS (n := 1) (As := [.int x1]) (st := []) (wr := [(a, .inr (0, [.ref a_kinds, .ref a_town, .ref a_tried, .ref a_fell, .int falls, .int tears, .ref a_tape, .int typed, .int place, .ref a_read, .ref a_undos, .ref a_kept, .ref a_keptUndos, .int isKept, .ref a_sheets, .ref a_taken])), (a_sheets, .inl (X.E 6, 4, .inr (.inr (.inr (.inr sh)))))]) (isC := []) (isR := [0, 1]) h hR (ct_X0_isSheet (x0 := x1) hv) (lw_S q914 q915 q70 q916) (by decide +kernel) rfl ⟨rfl, rfl, rfl, rfl, by decide⟩ ⟨fle rfl, fle rfl, fle rfl, fle rfl, fle rfl⟩ rfl dX0_sheet_1 (pin (perm := [0, 1]) (ws' := [(a, .inr (0, [.ref a_kinds, .ref a_town, .ref a_tried, .ref a_fell, .int falls, .int tears, .ref a_tape, .int typed, .int place, .ref a_read, .ref a_undos, .ref a_kept, .ref a_keptUndos, .int isKept, .ref a_sheets, .ref a_taken])), (a_sheets, .inl (X.E 6, 4, .inr (.inr (.inr (.inr sh)))))]) (stk := [.int r_1]) rfl rfl rfl ?_)
  clear hv
  refine g_if_eq (tgt := 20) h dX0_sheet_4 rfl hf (fun c2 hf => ?_) (fun c2 hf => ?_)
  · refine g_iconst (v := (-1)) h dX0_sheet_20 kiconst_m1 ?_
    obtain rfl := sj1 hf
    exact g_iret h hF [0, 1] rfl rfl ⟨rfl, rfl⟩ (fle rfl) (fle rfl) dX0_sheet_21
  · refine g_iload_n h 2 dX0_sheet_7 rfl rfl ?_
    obtain ⟨r_3, hv, hf⟩ := ob1 hf
    refine g_callS (n := 1) (As := [.int 0]) (st := []) (wr := [(a, .inr (0, [.ref a_kinds, .ref a_town, .ref a_tried, .ref a_fell, .int falls, .int tears, .ref a_tape, .int typed, .int place, .ref a_read, .ref a_undos, .ref a_kept, .ref a_keptUndos, .int isKept, .ref a_sheets, .ref a_taken])), (a_sheets, .inl (X.E 6, 4, .inr (.inr (.inr (.inr sh)))))]) (isC := []) (isR := [0, 1]) h hR (ct_X0_isLane (x0 := 0) hv) (lw_S q918 q919 q70 q920) (by decide +kernel) rfl ⟨rfl, rfl, rfl, rfl, by decide⟩ ⟨fle rfl, fle rfl, fle rfl, fle rfl, fle rfl⟩ rfl dX0_sheet_8 (pin (perm := [0, 1]) (ws' := [(a, .inr (0, [.ref a_kinds, .ref a_town, .ref a_tried, .ref a_fell, .int falls, .int tears, .ref a_tape, .int typed, .int place, .ref a_read, .ref a_undos, .ref a_kept, .ref a_keptUndos, .int isKept, .ref a_sheets, .ref a_taken])), (a_sheets, .inl (X.E 6, 4, .inr (.inr (.inr (.inr sh)))))]) (stk := [.int r_3]) rfl rfl rfl ?_)
    clear hv
    refine g_if_eq (tgt := 20) h dX0_sheet_11 rfl hf (fun c4 hf => ?_) (fun c4 hf => ?_)
    · refine g_iconst (v := (-1)) h dX0_sheet_20 kiconst_m1 ?_
      obtain rfl := sj1 hf
      exact g_iret h hF [0, 1] rfl rfl ⟨rfl, rfl⟩ (fle rfl) (fle rfl) dX0_sheet_21
    · refine g_iload_n h 3 dX0_sheet_14 rfl rfl ?_
      refine g_bipush (v := 24) h dX0_sheet_15 kbipush_24 ?_
      refine g_icmp_le (tgt := 22) h dX0_sheet_17 rfl hf (fun c5 hf => ?_) (fun c5 hf => ?_)
      · refine g_aload_n h 0 dX0_sheet_22 rfl rfl ?_
        refine g_get (ci := 0) (v := .ref a_sheets) h in_X0 0 14 rfl rfl (fle rfl) rfl q1125 rfl dX0_sheet_23 ?_
        refine g_iload_n h 1 dX0_sheet_26 rfl rfl ?_
        obtain ⟨g6, hf⟩ := gn hf
        refine g_aaS (t0 := 6) (p := a_held) h 1 rfl rfl g6 hsh dX0_sheet_27 ?_
        refine g_iload_n h 2 dX0_sheet_28 rfl rfl ?_
        refine g_iload_n h 3 dX0_sheet_29 rfl rfl ?_
        refine ox_at hf (fun z hv hf => ?_) (fun z hv hf => ?_)
        · obtain ⟨u_7, hz, hf⟩ := ob1 hf
          replace hv := hv.trans hz
          clear hz
          refine g_callS (n := 2) (As := [.int 0, .int x3]) (st := [.ref a_held]) (wr := [(a, .inr (0, [.ref a_kinds, .ref a_town, .ref a_tried, .ref a_fell, .int falls, .int tears, .ref a_tape, .int typed, .int place, .ref a_read, .ref a_undos, .ref a_kept, .ref a_keptUndos, .int isKept, .ref a_sheets, .ref a_taken])), (a_sheets, .inl (X.E 6, 4, .inr (.inr (.inr (.inr sh)))))]) (isC := []) (isR := [0, 1]) h hR (ct_X0_laid_l0 (x1 := x3) hv) (lw_S q921 q922 q70 q923) (by decide +kernel) rfl ⟨rfl, rfl, rfl, rfl, by decide⟩ ⟨fle rfl, fle rfl, fle rfl, fle rfl, fle rfl⟩ rfl dX0_sheet_30 (pinr (fun q11 => G.sub (ws' := [(a, .inr (0, [.ref a_kinds, .ref a_town, .ref a_tried, .ref a_fell, .int falls, .int tears, .ref a_tape, .int typed, .int place, .ref a_read, .ref a_undos, .ref a_kept, .ref a_keptUndos, .int isKept, .ref a_sheets, .ref a_taken])), (a_sheets, .inl (X.E 6, 4, .inr (.inr (.inr (.inr sh))))), (q11, .inl (X.E 0, x3.toNatClampNeg, .inl (fun _ => 0)))]) [0, 1, 2] rfl rfl ?_))
          clear hv
          exact nomatch hf
        · obtain ⟨v_8, hz, hf⟩ := ob1 hf
          replace hv := hv.trans hz
          clear hz
          refine g_callSC (n := 2) (As := [.int 0, .int x3]) (st := [.ref a_held]) (wr := [(a, .inr (0, [.ref a_kinds, .ref a_town, .ref a_tried, .ref a_fell, .int falls, .int tears, .ref a_tape, .int typed, .int place, .ref a_read, .ref a_undos, .ref a_kept, .ref a_keptUndos, .int isKept, .ref a_sheets, .ref a_taken])), (a_sheets, .inl (X.E 6, 4, .inr (.inr (.inr (.inr sh)))))]) (isC := []) (isR := [0, 1]) h hR (ctT_X0_laid_l0 (x1 := x3) hfl hv) (lw_S q921 q922 q70 q923) (by decide +kernel) rfl ⟨rfl, rfl, rfl, rfl, by decide⟩ ⟨fle rfl, fle rfl, fle rfl, fle rfl, fle rfl⟩ rfl dX0_sheet_30 (fun C q9 w' hw => ?_)
          obtain ⟨rfl, rfl⟩ := hw
          refine hf_if hf (fun c10 hf => ?_) (fun c10 hf => ?_)
          · subst c10
            refine ⟨38, ⟨[], [], ⟨22, 37, 38, 365⟩, "java/lang/NegativeArraySizeException", htb, (fun y hy => nomatch hy), rfl, by decide, q887, q907, rfl⟩, ?_⟩
            refine G.sub (ws' := [(a, .inr (0, [.ref a_kinds, .ref a_town, .ref a_tried, .ref a_fell, .int falls, .int tears, .ref a_tape, .int typed, .int place, .ref a_read, .ref a_undos, .ref a_kept, .ref a_keptUndos, .int isKept, .ref a_sheets, .ref a_taken])), (a_sheets, .inl (X.E 6, 4, .inr (.inr (.inr (.inr sh)))))]) [0, 1] rfl rfl ?_
            clear hv
            refine g_astore (lv' := [(4, .ref q9), (0, .ref a), (1, .int x1), (2, .int 0), (3, .int x3)]) h dX0_sheet_38 (hL 4 (fle rfl)) rfl ?_
            refine g_bipush (v := (-14)) h dX0_sheet_40 kbipush_m14 ?_
            obtain rfl := sj1 hf
            exact g_iret h hF [0, 1] rfl rfl ⟨rfl, rfl⟩ (fle rfl) (fle rfl) dX0_sheet_42
          · exact nomatch hf
      · refine g_iconst (v := (-1)) h dX0_sheet_20 kiconst_m1 ?_
        obtain rfl := sj1 hf
        exact g_iret h hF [0, 1] rfl rfl ⟨rfl, rfl⟩ (fle rfl) (fle rfl) dX0_sheet_21
set_option maxHeartbeats 4000000 in
set_option maxRecDepth 100000 in
theorem ct_X0_sheet_l1 {l : Launch} {D : va_G} {E : Ety} {a a_kinds a_town a_tried a_fell a_tape a_read a_undos a_kept a_keptUndos a_sheets a_taken a_held : Nat} {x1 : Int32} {x3 : Int32} {falls : Int32} {tears : Int32} {typed : Int32} {place : Int32} {isKept : Int32} {sh : Nat → Option Nat} {wv : Value} {r_ : Int32} (hsh : sh x1.toNatClampNeg = some a_held) (hfl : l.flags = flags0) (hf : f_X0_sheet_l1 x1 x3 = some r_) : CtW l yX0_sheet cX0_sheet 5 (some .int) [(22, 37, 38, 365)] 8 10321 3 54 D E [.ref a, .int x1, .int 1, .int x3] [(a, .inr (0, [.ref a_kinds, .ref a_town, .ref a_tried, .ref a_fell, .int falls, .int tears, .ref a_tape, .int typed, .int place, .ref a_read, .ref a_undos, .ref a_kept, .ref a_keptUndos, .int isKept, .ref a_sheets, .ref a_taken])), (a_sheets, .inl (E 6, 4, .inr (.inr (.inr (.inr sh))))), (a_held, .inr (7, [wv]))] (fun v w => ∃ q11 : Nat, v = some (.int r_) ∧ w = [(a, .inr (0, [.ref a_kinds, .ref a_town, .ref a_tried, .ref a_fell, .int falls, .int tears, .ref a_tape, .int typed, .int place, .ref a_read, .ref a_undos, .ref a_kept, .ref a_keptUndos, .int isKept, .ref a_sheets, .ref a_taken])), (a_sheets, .inl (E 6, 4, .inr (.inr (.inr (.inr sh))))), (a_held, .inr (7, [.ref q11])), (q11, .inl (E 3, x3.toNatClampNeg, .inl (fun _ => 0)))]) := by
  refine ct_ofW (own := RX0) (F := []) (List.append_nil _) (by decide) rfl (fle rfl) rfl ?_
  intro X hl hD hE hnL hXF h hR hF htb
  subst hl; subst hD; subst hE
  have hL : ∀ i, i < 5 → i < X.nL := fun i hi => by rw [hnL]; exact hi
  unfold f_X0_sheet_l1 at hf
  refine g_iload_n h 1 dX0_sheet_0 rfl rfl ?_
  obtain ⟨r_1, hv, hf⟩ := ob1 hf
  refine g_callS (n := 1) (As := [.int x1]) (st := []) (wr := [(a, .inr (0, [.ref a_kinds, .ref a_town, .ref a_tried, .ref a_fell, .int falls, .int tears, .ref a_tape, .int typed, .int place, .ref a_read, .ref a_undos, .ref a_kept, .ref a_keptUndos, .int isKept, .ref a_sheets, .ref a_taken])), (a_sheets, .inl (X.E 6, 4, .inr (.inr (.inr (.inr sh))))), (a_held, .inr (7, [wv]))]) (isC := []) (isR := [0, 1, 2]) h hR (ct_X0_isSheet (x0 := x1) hv) (lw_S q914 q915 q70 q916) (by decide +kernel) rfl ⟨rfl, rfl, rfl, rfl, by decide⟩ ⟨fle rfl, fle rfl, fle rfl, fle rfl, fle rfl⟩ rfl dX0_sheet_1 (pin (perm := [0, 1, 2]) (ws' := [(a, .inr (0, [.ref a_kinds, .ref a_town, .ref a_tried, .ref a_fell, .int falls, .int tears, .ref a_tape, .int typed, .int place, .ref a_read, .ref a_undos, .ref a_kept, .ref a_keptUndos, .int isKept, .ref a_sheets, .ref a_taken])), (a_sheets, .inl (X.E 6, 4, .inr (.inr (.inr (.inr sh))))), (a_held, .inr (7, [wv]))]) (stk := [.int r_1]) rfl rfl rfl ?_)
  clear hv
  refine g_if_eq (tgt := 20) h dX0_sheet_4 rfl hf (fun c2 hf => ?_) (fun c2 hf => ?_)
  · exact nomatch hf
  · refine g_iload_n h 2 dX0_sheet_7 rfl rfl ?_
    obtain ⟨r_3, hv, hf⟩ := ob1 hf
    refine g_callS (n := 1) (As := [.int 1]) (st := []) (wr := [(a, .inr (0, [.ref a_kinds, .ref a_town, .ref a_tried, .ref a_fell, .int falls, .int tears, .ref a_tape, .int typed, .int place, .ref a_read, .ref a_undos, .ref a_kept, .ref a_keptUndos, .int isKept, .ref a_sheets, .ref a_taken])), (a_sheets, .inl (X.E 6, 4, .inr (.inr (.inr (.inr sh))))), (a_held, .inr (7, [wv]))]) (isC := []) (isR := [0, 1, 2]) h hR (ct_X0_isLane (x0 := 1) hv) (lw_S q918 q919 q70 q920) (by decide +kernel) rfl ⟨rfl, rfl, rfl, rfl, by decide⟩ ⟨fle rfl, fle rfl, fle rfl, fle rfl, fle rfl⟩ rfl dX0_sheet_8 (pin (perm := [0, 1, 2]) (ws' := [(a, .inr (0, [.ref a_kinds, .ref a_town, .ref a_tried, .ref a_fell, .int falls, .int tears, .ref a_tape, .int typed, .int place, .ref a_read, .ref a_undos, .ref a_kept, .ref a_keptUndos, .int isKept, .ref a_sheets, .ref a_taken])), (a_sheets, .inl (X.E 6, 4, .inr (.inr (.inr (.inr sh))))), (a_held, .inr (7, [wv]))]) (stk := [.int r_3]) rfl rfl rfl ?_)
    clear hv
    refine g_if_eq (tgt := 20) h dX0_sheet_11 rfl hf (fun c4 hf => ?_) (fun c4 hf => ?_)
    · exact nomatch hf
    · refine g_iload_n h 3 dX0_sheet_14 rfl rfl ?_
      refine g_bipush (v := 24) h dX0_sheet_15 kbipush_24 ?_
      refine g_icmp_le (tgt := 22) h dX0_sheet_17 rfl hf (fun c5 hf => ?_) (fun c5 hf => ?_)
      · refine g_aload_n h 0 dX0_sheet_22 rfl rfl ?_
        refine g_get (ci := 0) (v := .ref a_sheets) h in_X0 0 14 rfl rfl (fle rfl) rfl q1125 rfl dX0_sheet_23 ?_
        refine g_iload_n h 1 dX0_sheet_26 rfl rfl ?_
        obtain ⟨g6, hf⟩ := gn hf
        refine g_aaS (t0 := 6) (p := a_held) h 1 rfl rfl g6 hsh dX0_sheet_27 ?_
        refine g_iload_n h 2 dX0_sheet_28 rfl rfl ?_
        refine g_iload_n h 3 dX0_sheet_29 rfl rfl ?_
        refine ox_at hf (fun z hv hf => ?_) (fun z hv hf => ?_)
        · obtain ⟨u_7, hz, hf⟩ := ob1 hf
          replace hv := hv.trans hz
          clear hz
          refine g_callS (n := 2) (As := [.int 1, .int x3]) (st := [.ref a_held]) (wr := [(a, .inr (0, [.ref a_kinds, .ref a_town, .ref a_tried, .ref a_fell, .int falls, .int tears, .ref a_tape, .int typed, .int place, .ref a_read, .ref a_undos, .ref a_kept, .ref a_keptUndos, .int isKept, .ref a_sheets, .ref a_taken])), (a_sheets, .inl (X.E 6, 4, .inr (.inr (.inr (.inr sh))))), (a_held, .inr (7, [wv]))]) (isC := []) (isR := [0, 1, 2]) h hR (ct_X0_laid_l1 (x1 := x3) hv) (lw_S q921 q922 q70 q923) (by decide +kernel) rfl ⟨rfl, rfl, rfl, rfl, by decide⟩ ⟨fle rfl, fle rfl, fle rfl, fle rfl, fle rfl⟩ rfl dX0_sheet_30 (pinr (fun q11 => G.sub (ws' := [(a, .inr (0, [.ref a_kinds, .ref a_town, .ref a_tried, .ref a_fell, .int falls, .int tears, .ref a_tape, .int typed, .int place, .ref a_read, .ref a_undos, .ref a_kept, .ref a_keptUndos, .int isKept, .ref a_sheets, .ref a_taken])), (a_sheets, .inl (X.E 6, 4, .inr (.inr (.inr (.inr sh))))), (a_held, .inr (7, [wv])), (q11, .inl (X.E 3, x3.toNatClampNeg, .inl (fun _ => 0)))]) [0, 1, 2, 3] rfl rfl ?_))
          clear hv
          refine g_putN (ci := 7) (ty := tyX7 0) (ws' := [(a, .inr (0, [.ref a_kinds, .ref a_town, .ref a_tried, .ref a_fell, .int falls, .int tears, .ref a_tape, .int typed, .int place, .ref a_read, .ref a_undos, .ref a_kept, .ref a_keptUndos, .int isKept, .ref a_sheets, .ref a_taken])), (a_sheets, .inl (X.E 6, 4, .inr (.inr (.inr (.inr sh))))), (a_held, .inr (7, [.ref q11])), (q11, .inl (X.E 3, x3.toNatClampNeg, .inl (fun _ => 0)))]) h in_X7 tyX7 tyX7_ok nmX7 2 0 rfl rfl (fle rfl) ⟨rfl, rfl⟩ q1106 rfl rfl rfl (fle rfl) rfl dX0_sheet_33 ?_
          refine g_iload_n h 3 dX0_sheet_36 rfl rfl ?_
          obtain rfl := sj1 hf
          exact g_iret h hF [0, 1, 2, 3] rfl rfl ⟨_, rfl, rfl⟩ (fle rfl) (fle rfl) dX0_sheet_37
        · obtain ⟨v_8, hz, hf⟩ := ob1 hf
          replace hv := hv.trans hz
          clear hz
          refine g_callSC (n := 2) (As := [.int 1, .int x3]) (st := [.ref a_held]) (wr := [(a, .inr (0, [.ref a_kinds, .ref a_town, .ref a_tried, .ref a_fell, .int falls, .int tears, .ref a_tape, .int typed, .int place, .ref a_read, .ref a_undos, .ref a_kept, .ref a_keptUndos, .int isKept, .ref a_sheets, .ref a_taken])), (a_sheets, .inl (X.E 6, 4, .inr (.inr (.inr (.inr sh))))), (a_held, .inr (7, [wv]))]) (isC := []) (isR := [0, 1, 2]) h hR (ctT_X0_laid_l1 (x1 := x3) hfl hv) (lw_S q921 q922 q70 q923) (by decide +kernel) rfl ⟨rfl, rfl, rfl, rfl, by decide⟩ ⟨fle rfl, fle rfl, fle rfl, fle rfl, fle rfl⟩ rfl dX0_sheet_30 (fun C q9 w' hw => ?_)
          obtain ⟨rfl, rfl⟩ := hw
          refine hf_if hf (fun c10 hf => ?_) (fun c10 hf => ?_)
          · subst c10
            refine ⟨38, ⟨[], [], ⟨22, 37, 38, 365⟩, "java/lang/NegativeArraySizeException", htb, (fun y hy => nomatch hy), rfl, by decide, q887, q907, rfl⟩, ?_⟩
            refine G.sub (ws' := [(a, .inr (0, [.ref a_kinds, .ref a_town, .ref a_tried, .ref a_fell, .int falls, .int tears, .ref a_tape, .int typed, .int place, .ref a_read, .ref a_undos, .ref a_kept, .ref a_keptUndos, .int isKept, .ref a_sheets, .ref a_taken])), (a_sheets, .inl (X.E 6, 4, .inr (.inr (.inr (.inr sh))))), (a_held, .inr (7, [wv]))]) [0, 1, 2] rfl rfl ?_
            clear hv
            exact nomatch hf
          · exact nomatch hf
      · exact nomatch hf
set_option maxHeartbeats 4000000 in
set_option maxRecDepth 100000 in
theorem ct_X0_sheet_b1 {l : Launch} {D : va_G} {E : Ety} {a a_kinds a_town a_tried a_fell a_tape a_read a_undos a_kept a_keptUndos a_sheets a_taken a_held : Nat} {x1 : Int32} {x3 : Int32} {falls : Int32} {tears : Int32} {typed : Int32} {place : Int32} {isKept : Int32} {sh : Nat → Option Nat} {r_ : Int32} (hsh : sh x1.toNatClampNeg = some a_held) (hfl : l.flags = flags0) (hf : f_X0_sheet_b1 x1 x3 = some r_) : CtW l yX0_sheet cX0_sheet 5 (some .int) [(22, 37, 38, 365)] 8 10321 3 54 D E [.ref a, .int x1, .int 1, .int x3] [(a, .inr (0, [.ref a_kinds, .ref a_town, .ref a_tried, .ref a_fell, .int falls, .int tears, .ref a_tape, .int typed, .int place, .ref a_read, .ref a_undos, .ref a_kept, .ref a_keptUndos, .int isKept, .ref a_sheets, .ref a_taken])), (a_sheets, .inl (E 6, 4, .inr (.inr (.inr (.inr sh)))))] (Pn (some (.int r_)) [(a, .inr (0, [.ref a_kinds, .ref a_town, .ref a_tried, .ref a_fell, .int falls, .int tears, .ref a_tape, .int typed, .int place, .ref a_read, .ref a_undos, .ref a_kept, .ref a_keptUndos, .int isKept, .ref a_sheets, .ref a_taken])), (a_sheets, .inl (E 6, 4, .inr (.inr (.inr (.inr sh)))))]) := by
  refine ct_ofW (own := RX0) (F := []) (List.append_nil _) (by decide) rfl (fle rfl) rfl ?_
  intro X hl hD hE hnL hXF h hR hF htb
  subst hl; subst hD; subst hE
  have hL : ∀ i, i < 5 → i < X.nL := fun i hi => by rw [hnL]; exact hi
  unfold f_X0_sheet_b1 at hf
  refine g_iload_n h 1 dX0_sheet_0 rfl rfl ?_
  obtain ⟨r_1, hv, hf⟩ := ob1 hf
  refine g_callS (n := 1) (As := [.int x1]) (st := []) (wr := [(a, .inr (0, [.ref a_kinds, .ref a_town, .ref a_tried, .ref a_fell, .int falls, .int tears, .ref a_tape, .int typed, .int place, .ref a_read, .ref a_undos, .ref a_kept, .ref a_keptUndos, .int isKept, .ref a_sheets, .ref a_taken])), (a_sheets, .inl (X.E 6, 4, .inr (.inr (.inr (.inr sh)))))]) (isC := []) (isR := [0, 1]) h hR (ct_X0_isSheet (x0 := x1) hv) (lw_S q914 q915 q70 q916) (by decide +kernel) rfl ⟨rfl, rfl, rfl, rfl, by decide⟩ ⟨fle rfl, fle rfl, fle rfl, fle rfl, fle rfl⟩ rfl dX0_sheet_1 (pin (perm := [0, 1]) (ws' := [(a, .inr (0, [.ref a_kinds, .ref a_town, .ref a_tried, .ref a_fell, .int falls, .int tears, .ref a_tape, .int typed, .int place, .ref a_read, .ref a_undos, .ref a_kept, .ref a_keptUndos, .int isKept, .ref a_sheets, .ref a_taken])), (a_sheets, .inl (X.E 6, 4, .inr (.inr (.inr (.inr sh)))))]) (stk := [.int r_1]) rfl rfl rfl ?_)
  clear hv
  refine g_if_eq (tgt := 20) h dX0_sheet_4 rfl hf (fun c2 hf => ?_) (fun c2 hf => ?_)
  · refine g_iconst (v := (-1)) h dX0_sheet_20 kiconst_m1 ?_
    obtain rfl := sj1 hf
    exact g_iret h hF [0, 1] rfl rfl ⟨rfl, rfl⟩ (fle rfl) (fle rfl) dX0_sheet_21
  · refine g_iload_n h 2 dX0_sheet_7 rfl rfl ?_
    obtain ⟨r_3, hv, hf⟩ := ob1 hf
    refine g_callS (n := 1) (As := [.int 1]) (st := []) (wr := [(a, .inr (0, [.ref a_kinds, .ref a_town, .ref a_tried, .ref a_fell, .int falls, .int tears, .ref a_tape, .int typed, .int place, .ref a_read, .ref a_undos, .ref a_kept, .ref a_keptUndos, .int isKept, .ref a_sheets, .ref a_taken])), (a_sheets, .inl (X.E 6, 4, .inr (.inr (.inr (.inr sh)))))]) (isC := []) (isR := [0, 1]) h hR (ct_X0_isLane (x0 := 1) hv) (lw_S q918 q919 q70 q920) (by decide +kernel) rfl ⟨rfl, rfl, rfl, rfl, by decide⟩ ⟨fle rfl, fle rfl, fle rfl, fle rfl, fle rfl⟩ rfl dX0_sheet_8 (pin (perm := [0, 1]) (ws' := [(a, .inr (0, [.ref a_kinds, .ref a_town, .ref a_tried, .ref a_fell, .int falls, .int tears, .ref a_tape, .int typed, .int place, .ref a_read, .ref a_undos, .ref a_kept, .ref a_keptUndos, .int isKept, .ref a_sheets, .ref a_taken])), (a_sheets, .inl (X.E 6, 4, .inr (.inr (.inr (.inr sh)))))]) (stk := [.int r_3]) rfl rfl rfl ?_)
    clear hv
    refine g_if_eq (tgt := 20) h dX0_sheet_11 rfl hf (fun c4 hf => ?_) (fun c4 hf => ?_)
    · refine g_iconst (v := (-1)) h dX0_sheet_20 kiconst_m1 ?_
      obtain rfl := sj1 hf
      exact g_iret h hF [0, 1] rfl rfl ⟨rfl, rfl⟩ (fle rfl) (fle rfl) dX0_sheet_21
    · refine g_iload_n h 3 dX0_sheet_14 rfl rfl ?_
      refine g_bipush (v := 24) h dX0_sheet_15 kbipush_24 ?_
      refine g_icmp_le (tgt := 22) h dX0_sheet_17 rfl hf (fun c5 hf => ?_) (fun c5 hf => ?_)
      · refine g_aload_n h 0 dX0_sheet_22 rfl rfl ?_
        refine g_get (ci := 0) (v := .ref a_sheets) h in_X0 0 14 rfl rfl (fle rfl) rfl q1125 rfl dX0_sheet_23 ?_
        refine g_iload_n h 1 dX0_sheet_26 rfl rfl ?_
        obtain ⟨g6, hf⟩ := gn hf
        refine g_aaS (t0 := 6) (p := a_held) h 1 rfl rfl g6 hsh dX0_sheet_27 ?_
        refine g_iload_n h 2 dX0_sheet_28 rfl rfl ?_
        refine g_iload_n h 3 dX0_sheet_29 rfl rfl ?_
        refine ox_at hf (fun z hv hf => ?_) (fun z hv hf => ?_)
        · obtain ⟨u_7, hz, hf⟩ := ob1 hf
          replace hv := hv.trans hz
          clear hz
          refine g_callS (n := 2) (As := [.int 1, .int x3]) (st := [.ref a_held]) (wr := [(a, .inr (0, [.ref a_kinds, .ref a_town, .ref a_tried, .ref a_fell, .int falls, .int tears, .ref a_tape, .int typed, .int place, .ref a_read, .ref a_undos, .ref a_kept, .ref a_keptUndos, .int isKept, .ref a_sheets, .ref a_taken])), (a_sheets, .inl (X.E 6, 4, .inr (.inr (.inr (.inr sh)))))]) (isC := []) (isR := [0, 1]) h hR (ct_X0_laid_l1 (x1 := x3) hv) (lw_S q921 q922 q70 q923) (by decide +kernel) rfl ⟨rfl, rfl, rfl, rfl, by decide⟩ ⟨fle rfl, fle rfl, fle rfl, fle rfl, fle rfl⟩ rfl dX0_sheet_30 (pinr (fun q11 => G.sub (ws' := [(a, .inr (0, [.ref a_kinds, .ref a_town, .ref a_tried, .ref a_fell, .int falls, .int tears, .ref a_tape, .int typed, .int place, .ref a_read, .ref a_undos, .ref a_kept, .ref a_keptUndos, .int isKept, .ref a_sheets, .ref a_taken])), (a_sheets, .inl (X.E 6, 4, .inr (.inr (.inr (.inr sh))))), (q11, .inl (X.E 3, x3.toNatClampNeg, .inl (fun _ => 0)))]) [0, 1, 2] rfl rfl ?_))
          clear hv
          exact nomatch hf
        · obtain ⟨v_8, hz, hf⟩ := ob1 hf
          replace hv := hv.trans hz
          clear hz
          refine g_callSC (n := 2) (As := [.int 1, .int x3]) (st := [.ref a_held]) (wr := [(a, .inr (0, [.ref a_kinds, .ref a_town, .ref a_tried, .ref a_fell, .int falls, .int tears, .ref a_tape, .int typed, .int place, .ref a_read, .ref a_undos, .ref a_kept, .ref a_keptUndos, .int isKept, .ref a_sheets, .ref a_taken])), (a_sheets, .inl (X.E 6, 4, .inr (.inr (.inr (.inr sh)))))]) (isC := []) (isR := [0, 1]) h hR (ctT_X0_laid_l1 (x1 := x3) hfl hv) (lw_S q921 q922 q70 q923) (by decide +kernel) rfl ⟨rfl, rfl, rfl, rfl, by decide⟩ ⟨fle rfl, fle rfl, fle rfl, fle rfl, fle rfl⟩ rfl dX0_sheet_30 (fun C q9 w' hw => ?_)
          obtain ⟨rfl, rfl⟩ := hw
          refine hf_if hf (fun c10 hf => ?_) (fun c10 hf => ?_)
          · subst c10
            refine ⟨38, ⟨[], [], ⟨22, 37, 38, 365⟩, "java/lang/NegativeArraySizeException", htb, (fun y hy => nomatch hy), rfl, by decide, q887, q907, rfl⟩, ?_⟩
            refine G.sub (ws' := [(a, .inr (0, [.ref a_kinds, .ref a_town, .ref a_tried, .ref a_fell, .int falls, .int tears, .ref a_tape, .int typed, .int place, .ref a_read, .ref a_undos, .ref a_kept, .ref a_keptUndos, .int isKept, .ref a_sheets, .ref a_taken])), (a_sheets, .inl (X.E 6, 4, .inr (.inr (.inr (.inr sh)))))]) [0, 1] rfl rfl ?_
            clear hv
            refine g_astore (lv' := [(4, .ref q9), (0, .ref a), (1, .int x1), (2, .int 1), (3, .int x3)]) h dX0_sheet_38 (hL 4 (fle rfl)) rfl ?_
            refine g_bipush (v := (-14)) h dX0_sheet_40 kbipush_m14 ?_
            obtain rfl := sj1 hf
            exact g_iret h hF [0, 1] rfl rfl ⟨rfl, rfl⟩ (fle rfl) (fle rfl) dX0_sheet_42
          · exact nomatch hf
      · refine g_iconst (v := (-1)) h dX0_sheet_20 kiconst_m1 ?_
        obtain rfl := sj1 hf
        exact g_iret h hF [0, 1] rfl rfl ⟨rfl, rfl⟩ (fle rfl) (fle rfl) dX0_sheet_21
set_option maxHeartbeats 4000000 in
set_option maxRecDepth 100000 in
theorem ct_X0_sheet_l2 {l : Launch} {D : va_G} {E : Ety} {a a_kinds a_town a_tried a_fell a_tape a_read a_undos a_kept a_keptUndos a_sheets a_taken a_held : Nat} {x1 : Int32} {x3 : Int32} {falls : Int32} {tears : Int32} {typed : Int32} {place : Int32} {isKept : Int32} {sh : Nat → Option Nat} {wv : Value} {r_ : Int32} (hsh : sh x1.toNatClampNeg = some a_held) (hfl : l.flags = flags0) (hf : f_X0_sheet_l2 x1 x3 = some r_) : CtW l yX0_sheet cX0_sheet 5 (some .int) [(22, 37, 38, 365)] 8 10321 3 54 D E [.ref a, .int x1, .int 2, .int x3] [(a, .inr (0, [.ref a_kinds, .ref a_town, .ref a_tried, .ref a_fell, .int falls, .int tears, .ref a_tape, .int typed, .int place, .ref a_read, .ref a_undos, .ref a_kept, .ref a_keptUndos, .int isKept, .ref a_sheets, .ref a_taken])), (a_sheets, .inl (E 6, 4, .inr (.inr (.inr (.inr sh))))), (a_held, .inr (7, [wv]))] (fun v w => ∃ q11 : Nat, v = some (.int r_) ∧ w = [(a, .inr (0, [.ref a_kinds, .ref a_town, .ref a_tried, .ref a_fell, .int falls, .int tears, .ref a_tape, .int typed, .int place, .ref a_read, .ref a_undos, .ref a_kept, .ref a_keptUndos, .int isKept, .ref a_sheets, .ref a_taken])), (a_sheets, .inl (E 6, 4, .inr (.inr (.inr (.inr sh))))), (a_held, .inr (7, [.ref q11])), (q11, .inl (E 1, x3.toNatClampNeg, .inl (fun _ => 0)))]) := by
  refine ct_ofW (own := RX0) (F := []) (List.append_nil _) (by decide) rfl (fle rfl) rfl ?_
  intro X hl hD hE hnL hXF h hR hF htb
  subst hl; subst hD; subst hE
  have hL : ∀ i, i < 5 → i < X.nL := fun i hi => by rw [hnL]; exact hi
  unfold f_X0_sheet_l2 at hf
  refine g_iload_n h 1 dX0_sheet_0 rfl rfl ?_
  obtain ⟨r_1, hv, hf⟩ := ob1 hf
  refine g_callS (n := 1) (As := [.int x1]) (st := []) (wr := [(a, .inr (0, [.ref a_kinds, .ref a_town, .ref a_tried, .ref a_fell, .int falls, .int tears, .ref a_tape, .int typed, .int place, .ref a_read, .ref a_undos, .ref a_kept, .ref a_keptUndos, .int isKept, .ref a_sheets, .ref a_taken])), (a_sheets, .inl (X.E 6, 4, .inr (.inr (.inr (.inr sh))))), (a_held, .inr (7, [wv]))]) (isC := []) (isR := [0, 1, 2]) h hR (ct_X0_isSheet (x0 := x1) hv) (lw_S q914 q915 q70 q916) (by decide +kernel) rfl ⟨rfl, rfl, rfl, rfl, by decide⟩ ⟨fle rfl, fle rfl, fle rfl, fle rfl, fle rfl⟩ rfl dX0_sheet_1 (pin (perm := [0, 1, 2]) (ws' := [(a, .inr (0, [.ref a_kinds, .ref a_town, .ref a_tried, .ref a_fell, .int falls, .int tears, .ref a_tape, .int typed, .int place, .ref a_read, .ref a_undos, .ref a_kept, .ref a_keptUndos, .int isKept, .ref a_sheets, .ref a_taken])), (a_sheets, .inl (X.E 6, 4, .inr (.inr (.inr (.inr sh))))), (a_held, .inr (7, [wv]))]) (stk := [.int r_1]) rfl rfl rfl ?_)
  clear hv
  refine g_if_eq (tgt := 20) h dX0_sheet_4 rfl hf (fun c2 hf => ?_) (fun c2 hf => ?_)
  · exact nomatch hf
  · refine g_iload_n h 2 dX0_sheet_7 rfl rfl ?_
    obtain ⟨r_3, hv, hf⟩ := ob1 hf
    refine g_callS (n := 1) (As := [.int 2]) (st := []) (wr := [(a, .inr (0, [.ref a_kinds, .ref a_town, .ref a_tried, .ref a_fell, .int falls, .int tears, .ref a_tape, .int typed, .int place, .ref a_read, .ref a_undos, .ref a_kept, .ref a_keptUndos, .int isKept, .ref a_sheets, .ref a_taken])), (a_sheets, .inl (X.E 6, 4, .inr (.inr (.inr (.inr sh))))), (a_held, .inr (7, [wv]))]) (isC := []) (isR := [0, 1, 2]) h hR (ct_X0_isLane (x0 := 2) hv) (lw_S q918 q919 q70 q920) (by decide +kernel) rfl ⟨rfl, rfl, rfl, rfl, by decide⟩ ⟨fle rfl, fle rfl, fle rfl, fle rfl, fle rfl⟩ rfl dX0_sheet_8 (pin (perm := [0, 1, 2]) (ws' := [(a, .inr (0, [.ref a_kinds, .ref a_town, .ref a_tried, .ref a_fell, .int falls, .int tears, .ref a_tape, .int typed, .int place, .ref a_read, .ref a_undos, .ref a_kept, .ref a_keptUndos, .int isKept, .ref a_sheets, .ref a_taken])), (a_sheets, .inl (X.E 6, 4, .inr (.inr (.inr (.inr sh))))), (a_held, .inr (7, [wv]))]) (stk := [.int r_3]) rfl rfl rfl ?_)
    clear hv
    refine g_if_eq (tgt := 20) h dX0_sheet_11 rfl hf (fun c4 hf => ?_) (fun c4 hf => ?_)
    · exact nomatch hf
    · refine g_iload_n h 3 dX0_sheet_14 rfl rfl ?_
      refine g_bipush (v := 24) h dX0_sheet_15 kbipush_24 ?_
      refine g_icmp_le (tgt := 22) h dX0_sheet_17 rfl hf (fun c5 hf => ?_) (fun c5 hf => ?_)
      · refine g_aload_n h 0 dX0_sheet_22 rfl rfl ?_
        refine g_get (ci := 0) (v := .ref a_sheets) h in_X0 0 14 rfl rfl (fle rfl) rfl q1125 rfl dX0_sheet_23 ?_
        refine g_iload_n h 1 dX0_sheet_26 rfl rfl ?_
        obtain ⟨g6, hf⟩ := gn hf
        refine g_aaS (t0 := 6) (p := a_held) h 1 rfl rfl g6 hsh dX0_sheet_27 ?_
        refine g_iload_n h 2 dX0_sheet_28 rfl rfl ?_
        refine g_iload_n h 3 dX0_sheet_29 rfl rfl ?_
        refine ox_at hf (fun z hv hf => ?_) (fun z hv hf => ?_)
        · obtain ⟨u_7, hz, hf⟩ := ob1 hf
          replace hv := hv.trans hz
          clear hz
          refine g_callS (n := 2) (As := [.int 2, .int x3]) (st := [.ref a_held]) (wr := [(a, .inr (0, [.ref a_kinds, .ref a_town, .ref a_tried, .ref a_fell, .int falls, .int tears, .ref a_tape, .int typed, .int place, .ref a_read, .ref a_undos, .ref a_kept, .ref a_keptUndos, .int isKept, .ref a_sheets, .ref a_taken])), (a_sheets, .inl (X.E 6, 4, .inr (.inr (.inr (.inr sh))))), (a_held, .inr (7, [wv]))]) (isC := []) (isR := [0, 1, 2]) h hR (ct_X0_laid_l2 (x1 := x3) hv) (lw_S q921 q922 q70 q923) (by decide +kernel) rfl ⟨rfl, rfl, rfl, rfl, by decide⟩ ⟨fle rfl, fle rfl, fle rfl, fle rfl, fle rfl⟩ rfl dX0_sheet_30 (pinr (fun q11 => G.sub (ws' := [(a, .inr (0, [.ref a_kinds, .ref a_town, .ref a_tried, .ref a_fell, .int falls, .int tears, .ref a_tape, .int typed, .int place, .ref a_read, .ref a_undos, .ref a_kept, .ref a_keptUndos, .int isKept, .ref a_sheets, .ref a_taken])), (a_sheets, .inl (X.E 6, 4, .inr (.inr (.inr (.inr sh))))), (a_held, .inr (7, [wv])), (q11, .inl (X.E 1, x3.toNatClampNeg, .inl (fun _ => 0)))]) [0, 1, 2, 3] rfl rfl ?_))
          clear hv
          refine g_putN (ci := 7) (ty := tyX7 0) (ws' := [(a, .inr (0, [.ref a_kinds, .ref a_town, .ref a_tried, .ref a_fell, .int falls, .int tears, .ref a_tape, .int typed, .int place, .ref a_read, .ref a_undos, .ref a_kept, .ref a_keptUndos, .int isKept, .ref a_sheets, .ref a_taken])), (a_sheets, .inl (X.E 6, 4, .inr (.inr (.inr (.inr sh))))), (a_held, .inr (7, [.ref q11])), (q11, .inl (X.E 1, x3.toNatClampNeg, .inl (fun _ => 0)))]) h in_X7 tyX7 tyX7_ok nmX7 2 0 rfl rfl (fle rfl) ⟨rfl, rfl⟩ q1106 rfl rfl rfl (fle rfl) rfl dX0_sheet_33 ?_
          refine g_iload_n h 3 dX0_sheet_36 rfl rfl ?_
          obtain rfl := sj1 hf
          exact g_iret h hF [0, 1, 2, 3] rfl rfl ⟨_, rfl, rfl⟩ (fle rfl) (fle rfl) dX0_sheet_37
        · obtain ⟨v_8, hz, hf⟩ := ob1 hf
          replace hv := hv.trans hz
          clear hz
          refine g_callSC (n := 2) (As := [.int 2, .int x3]) (st := [.ref a_held]) (wr := [(a, .inr (0, [.ref a_kinds, .ref a_town, .ref a_tried, .ref a_fell, .int falls, .int tears, .ref a_tape, .int typed, .int place, .ref a_read, .ref a_undos, .ref a_kept, .ref a_keptUndos, .int isKept, .ref a_sheets, .ref a_taken])), (a_sheets, .inl (X.E 6, 4, .inr (.inr (.inr (.inr sh))))), (a_held, .inr (7, [wv]))]) (isC := []) (isR := [0, 1, 2]) h hR (ctT_X0_laid_l2 (x1 := x3) hfl hv) (lw_S q921 q922 q70 q923) (by decide +kernel) rfl ⟨rfl, rfl, rfl, rfl, by decide⟩ ⟨fle rfl, fle rfl, fle rfl, fle rfl, fle rfl⟩ rfl dX0_sheet_30 (fun C q9 w' hw => ?_)
          obtain ⟨rfl, rfl⟩ := hw
          refine hf_if hf (fun c10 hf => ?_) (fun c10 hf => ?_)
          · subst c10
            refine ⟨38, ⟨[], [], ⟨22, 37, 38, 365⟩, "java/lang/NegativeArraySizeException", htb, (fun y hy => nomatch hy), rfl, by decide, q887, q907, rfl⟩, ?_⟩
            refine G.sub (ws' := [(a, .inr (0, [.ref a_kinds, .ref a_town, .ref a_tried, .ref a_fell, .int falls, .int tears, .ref a_tape, .int typed, .int place, .ref a_read, .ref a_undos, .ref a_kept, .ref a_keptUndos, .int isKept, .ref a_sheets, .ref a_taken])), (a_sheets, .inl (X.E 6, 4, .inr (.inr (.inr (.inr sh))))), (a_held, .inr (7, [wv]))]) [0, 1, 2] rfl rfl ?_
            clear hv
            exact nomatch hf
          · exact nomatch hf
      · exact nomatch hf
set_option maxHeartbeats 4000000 in
set_option maxRecDepth 100000 in
theorem ct_X0_sheet_b2 {l : Launch} {D : va_G} {E : Ety} {a a_kinds a_town a_tried a_fell a_tape a_read a_undos a_kept a_keptUndos a_sheets a_taken a_held : Nat} {x1 : Int32} {x3 : Int32} {falls : Int32} {tears : Int32} {typed : Int32} {place : Int32} {isKept : Int32} {sh : Nat → Option Nat} {r_ : Int32} (hsh : sh x1.toNatClampNeg = some a_held) (hfl : l.flags = flags0) (hf : f_X0_sheet_b2 x1 x3 = some r_) : CtW l yX0_sheet cX0_sheet 5 (some .int) [(22, 37, 38, 365)] 8 10321 3 54 D E [.ref a, .int x1, .int 2, .int x3] [(a, .inr (0, [.ref a_kinds, .ref a_town, .ref a_tried, .ref a_fell, .int falls, .int tears, .ref a_tape, .int typed, .int place, .ref a_read, .ref a_undos, .ref a_kept, .ref a_keptUndos, .int isKept, .ref a_sheets, .ref a_taken])), (a_sheets, .inl (E 6, 4, .inr (.inr (.inr (.inr sh)))))] (Pn (some (.int r_)) [(a, .inr (0, [.ref a_kinds, .ref a_town, .ref a_tried, .ref a_fell, .int falls, .int tears, .ref a_tape, .int typed, .int place, .ref a_read, .ref a_undos, .ref a_kept, .ref a_keptUndos, .int isKept, .ref a_sheets, .ref a_taken])), (a_sheets, .inl (E 6, 4, .inr (.inr (.inr (.inr sh)))))]) := by
  refine ct_ofW (own := RX0) (F := []) (List.append_nil _) (by decide) rfl (fle rfl) rfl ?_
  intro X hl hD hE hnL hXF h hR hF htb
  subst hl; subst hD; subst hE
  have hL : ∀ i, i < 5 → i < X.nL := fun i hi => by rw [hnL]; exact hi
  unfold f_X0_sheet_b2 at hf
  refine g_iload_n h 1 dX0_sheet_0 rfl rfl ?_
  obtain ⟨r_1, hv, hf⟩ := ob1 hf
  refine g_callS (n := 1) (As := [.int x1]) (st := []) (wr := [(a, .inr (0, [.ref a_kinds, .ref a_town, .ref a_tried, .ref a_fell, .int falls, .int tears, .ref a_tape, .int typed, .int place, .ref a_read, .ref a_undos, .ref a_kept, .ref a_keptUndos, .int isKept, .ref a_sheets, .ref a_taken])), (a_sheets, .inl (X.E 6, 4, .inr (.inr (.inr (.inr sh)))))]) (isC := []) (isR := [0, 1]) h hR (ct_X0_isSheet (x0 := x1) hv) (lw_S q914 q915 q70 q916) (by decide +kernel) rfl ⟨rfl, rfl, rfl, rfl, by decide⟩ ⟨fle rfl, fle rfl, fle rfl, fle rfl, fle rfl⟩ rfl dX0_sheet_1 (pin (perm := [0, 1]) (ws' := [(a, .inr (0, [.ref a_kinds, .ref a_town, .ref a_tried, .ref a_fell, .int falls, .int tears, .ref a_tape, .int typed, .int place, .ref a_read, .ref a_undos, .ref a_kept, .ref a_keptUndos, .int isKept, .ref a_sheets, .ref a_taken])), (a_sheets, .inl (X.E 6, 4, .inr (.inr (.inr (.inr sh)))))]) (stk := [.int r_1]) rfl rfl rfl ?_)
  clear hv
  refine g_if_eq (tgt := 20) h dX0_sheet_4 rfl hf (fun c2 hf => ?_) (fun c2 hf => ?_)
  · refine g_iconst (v := (-1)) h dX0_sheet_20 kiconst_m1 ?_
    obtain rfl := sj1 hf
    exact g_iret h hF [0, 1] rfl rfl ⟨rfl, rfl⟩ (fle rfl) (fle rfl) dX0_sheet_21
  · refine g_iload_n h 2 dX0_sheet_7 rfl rfl ?_
    obtain ⟨r_3, hv, hf⟩ := ob1 hf
    refine g_callS (n := 1) (As := [.int 2]) (st := []) (wr := [(a, .inr (0, [.ref a_kinds, .ref a_town, .ref a_tried, .ref a_fell, .int falls, .int tears, .ref a_tape, .int typed, .int place, .ref a_read, .ref a_undos, .ref a_kept, .ref a_keptUndos, .int isKept, .ref a_sheets, .ref a_taken])), (a_sheets, .inl (X.E 6, 4, .inr (.inr (.inr (.inr sh)))))]) (isC := []) (isR := [0, 1]) h hR (ct_X0_isLane (x0 := 2) hv) (lw_S q918 q919 q70 q920) (by decide +kernel) rfl ⟨rfl, rfl, rfl, rfl, by decide⟩ ⟨fle rfl, fle rfl, fle rfl, fle rfl, fle rfl⟩ rfl dX0_sheet_8 (pin (perm := [0, 1]) (ws' := [(a, .inr (0, [.ref a_kinds, .ref a_town, .ref a_tried, .ref a_fell, .int falls, .int tears, .ref a_tape, .int typed, .int place, .ref a_read, .ref a_undos, .ref a_kept, .ref a_keptUndos, .int isKept, .ref a_sheets, .ref a_taken])), (a_sheets, .inl (X.E 6, 4, .inr (.inr (.inr (.inr sh)))))]) (stk := [.int r_3]) rfl rfl rfl ?_)
    clear hv
    refine g_if_eq (tgt := 20) h dX0_sheet_11 rfl hf (fun c4 hf => ?_) (fun c4 hf => ?_)
    · refine g_iconst (v := (-1)) h dX0_sheet_20 kiconst_m1 ?_
      obtain rfl := sj1 hf
      exact g_iret h hF [0, 1] rfl rfl ⟨rfl, rfl⟩ (fle rfl) (fle rfl) dX0_sheet_21
    · refine g_iload_n h 3 dX0_sheet_14 rfl rfl ?_
      refine g_bipush (v := 24) h dX0_sheet_15 kbipush_24 ?_
      refine g_icmp_le (tgt := 22) h dX0_sheet_17 rfl hf (fun c5 hf => ?_) (fun c5 hf => ?_)
      · refine g_aload_n h 0 dX0_sheet_22 rfl rfl ?_
        refine g_get (ci := 0) (v := .ref a_sheets) h in_X0 0 14 rfl rfl (fle rfl) rfl q1125 rfl dX0_sheet_23 ?_
        refine g_iload_n h 1 dX0_sheet_26 rfl rfl ?_
        obtain ⟨g6, hf⟩ := gn hf
        refine g_aaS (t0 := 6) (p := a_held) h 1 rfl rfl g6 hsh dX0_sheet_27 ?_
        refine g_iload_n h 2 dX0_sheet_28 rfl rfl ?_
        refine g_iload_n h 3 dX0_sheet_29 rfl rfl ?_
        refine ox_at hf (fun z hv hf => ?_) (fun z hv hf => ?_)
        · obtain ⟨u_7, hz, hf⟩ := ob1 hf
          replace hv := hv.trans hz
          clear hz
          refine g_callS (n := 2) (As := [.int 2, .int x3]) (st := [.ref a_held]) (wr := [(a, .inr (0, [.ref a_kinds, .ref a_town, .ref a_tried, .ref a_fell, .int falls, .int tears, .ref a_tape, .int typed, .int place, .ref a_read, .ref a_undos, .ref a_kept, .ref a_keptUndos, .int isKept, .ref a_sheets, .ref a_taken])), (a_sheets, .inl (X.E 6, 4, .inr (.inr (.inr (.inr sh)))))]) (isC := []) (isR := [0, 1]) h hR (ct_X0_laid_l2 (x1 := x3) hv) (lw_S q921 q922 q70 q923) (by decide +kernel) rfl ⟨rfl, rfl, rfl, rfl, by decide⟩ ⟨fle rfl, fle rfl, fle rfl, fle rfl, fle rfl⟩ rfl dX0_sheet_30 (pinr (fun q11 => G.sub (ws' := [(a, .inr (0, [.ref a_kinds, .ref a_town, .ref a_tried, .ref a_fell, .int falls, .int tears, .ref a_tape, .int typed, .int place, .ref a_read, .ref a_undos, .ref a_kept, .ref a_keptUndos, .int isKept, .ref a_sheets, .ref a_taken])), (a_sheets, .inl (X.E 6, 4, .inr (.inr (.inr (.inr sh))))), (q11, .inl (X.E 1, x3.toNatClampNeg, .inl (fun _ => 0)))]) [0, 1, 2] rfl rfl ?_))
          clear hv
          exact nomatch hf
        · obtain ⟨v_8, hz, hf⟩ := ob1 hf
          replace hv := hv.trans hz
          clear hz
          refine g_callSC (n := 2) (As := [.int 2, .int x3]) (st := [.ref a_held]) (wr := [(a, .inr (0, [.ref a_kinds, .ref a_town, .ref a_tried, .ref a_fell, .int falls, .int tears, .ref a_tape, .int typed, .int place, .ref a_read, .ref a_undos, .ref a_kept, .ref a_keptUndos, .int isKept, .ref a_sheets, .ref a_taken])), (a_sheets, .inl (X.E 6, 4, .inr (.inr (.inr (.inr sh)))))]) (isC := []) (isR := [0, 1]) h hR (ctT_X0_laid_l2 (x1 := x3) hfl hv) (lw_S q921 q922 q70 q923) (by decide +kernel) rfl ⟨rfl, rfl, rfl, rfl, by decide⟩ ⟨fle rfl, fle rfl, fle rfl, fle rfl, fle rfl⟩ rfl dX0_sheet_30 (fun C q9 w' hw => ?_)
          obtain ⟨rfl, rfl⟩ := hw
          refine hf_if hf (fun c10 hf => ?_) (fun c10 hf => ?_)
          · subst c10
            refine ⟨38, ⟨[], [], ⟨22, 37, 38, 365⟩, "java/lang/NegativeArraySizeException", htb, (fun y hy => nomatch hy), rfl, by decide, q887, q907, rfl⟩, ?_⟩
            refine G.sub (ws' := [(a, .inr (0, [.ref a_kinds, .ref a_town, .ref a_tried, .ref a_fell, .int falls, .int tears, .ref a_tape, .int typed, .int place, .ref a_read, .ref a_undos, .ref a_kept, .ref a_keptUndos, .int isKept, .ref a_sheets, .ref a_taken])), (a_sheets, .inl (X.E 6, 4, .inr (.inr (.inr (.inr sh)))))]) [0, 1] rfl rfl ?_
            clear hv
            refine g_astore (lv' := [(4, .ref q9), (0, .ref a), (1, .int x1), (2, .int 2), (3, .int x3)]) h dX0_sheet_38 (hL 4 (fle rfl)) rfl ?_
            refine g_bipush (v := (-14)) h dX0_sheet_40 kbipush_m14 ?_
            obtain rfl := sj1 hf
            exact g_iret h hF [0, 1] rfl rfl ⟨rfl, rfl⟩ (fle rfl) (fle rfl) dX0_sheet_42
          · exact nomatch hf
      · refine g_iconst (v := (-1)) h dX0_sheet_20 kiconst_m1 ?_
        obtain rfl := sj1 hf
        exact g_iret h hF [0, 1] rfl rfl ⟨rfl, rfl⟩ (fle rfl) (fle rfl) dX0_sheet_21
set_option maxHeartbeats 4000000 in
set_option maxRecDepth 100000 in
theorem ct_X0_sheet_l3 {l : Launch} {D : va_G} {E : Ety} {a a_kinds a_town a_tried a_fell a_tape a_read a_undos a_kept a_keptUndos a_sheets a_taken a_held : Nat} {x1 : Int32} {x3 : Int32} {falls : Int32} {tears : Int32} {typed : Int32} {place : Int32} {isKept : Int32} {sh : Nat → Option Nat} {wv : Value} {r_ : Int32} (hsh : sh x1.toNatClampNeg = some a_held) (hfl : l.flags = flags0) (hf : f_X0_sheet_l3 x1 x3 = some r_) : CtW l yX0_sheet cX0_sheet 5 (some .int) [(22, 37, 38, 365)] 8 10321 3 54 D E [.ref a, .int x1, .int 3, .int x3] [(a, .inr (0, [.ref a_kinds, .ref a_town, .ref a_tried, .ref a_fell, .int falls, .int tears, .ref a_tape, .int typed, .int place, .ref a_read, .ref a_undos, .ref a_kept, .ref a_keptUndos, .int isKept, .ref a_sheets, .ref a_taken])), (a_sheets, .inl (E 6, 4, .inr (.inr (.inr (.inr sh))))), (a_held, .inr (7, [wv]))] (fun v w => ∃ q11 : Nat, v = some (.int r_) ∧ w = [(a, .inr (0, [.ref a_kinds, .ref a_town, .ref a_tried, .ref a_fell, .int falls, .int tears, .ref a_tape, .int typed, .int place, .ref a_read, .ref a_undos, .ref a_kept, .ref a_keptUndos, .int isKept, .ref a_sheets, .ref a_taken])), (a_sheets, .inl (E 6, 4, .inr (.inr (.inr (.inr sh))))), (a_held, .inr (7, [.ref q11])), (q11, .inl (E 2, x3.toNatClampNeg, .inr (.inl (fun _ => 0))))]) := by
  refine ct_ofW (own := RX0) (F := []) (List.append_nil _) (by decide) rfl (fle rfl) rfl ?_
  intro X hl hD hE hnL hXF h hR hF htb
  subst hl; subst hD; subst hE
  have hL : ∀ i, i < 5 → i < X.nL := fun i hi => by rw [hnL]; exact hi
  unfold f_X0_sheet_l3 at hf
  refine g_iload_n h 1 dX0_sheet_0 rfl rfl ?_
  obtain ⟨r_1, hv, hf⟩ := ob1 hf
  refine g_callS (n := 1) (As := [.int x1]) (st := []) (wr := [(a, .inr (0, [.ref a_kinds, .ref a_town, .ref a_tried, .ref a_fell, .int falls, .int tears, .ref a_tape, .int typed, .int place, .ref a_read, .ref a_undos, .ref a_kept, .ref a_keptUndos, .int isKept, .ref a_sheets, .ref a_taken])), (a_sheets, .inl (X.E 6, 4, .inr (.inr (.inr (.inr sh))))), (a_held, .inr (7, [wv]))]) (isC := []) (isR := [0, 1, 2]) h hR (ct_X0_isSheet (x0 := x1) hv) (lw_S q914 q915 q70 q916) (by decide +kernel) rfl ⟨rfl, rfl, rfl, rfl, by decide⟩ ⟨fle rfl, fle rfl, fle rfl, fle rfl, fle rfl⟩ rfl dX0_sheet_1 (pin (perm := [0, 1, 2]) (ws' := [(a, .inr (0, [.ref a_kinds, .ref a_town, .ref a_tried, .ref a_fell, .int falls, .int tears, .ref a_tape, .int typed, .int place, .ref a_read, .ref a_undos, .ref a_kept, .ref a_keptUndos, .int isKept, .ref a_sheets, .ref a_taken])), (a_sheets, .inl (X.E 6, 4, .inr (.inr (.inr (.inr sh))))), (a_held, .inr (7, [wv]))]) (stk := [.int r_1]) rfl rfl rfl ?_)
  clear hv
  refine g_if_eq (tgt := 20) h dX0_sheet_4 rfl hf (fun c2 hf => ?_) (fun c2 hf => ?_)
  · exact nomatch hf
  · refine g_iload_n h 2 dX0_sheet_7 rfl rfl ?_
    obtain ⟨r_3, hv, hf⟩ := ob1 hf
    refine g_callS (n := 1) (As := [.int 3]) (st := []) (wr := [(a, .inr (0, [.ref a_kinds, .ref a_town, .ref a_tried, .ref a_fell, .int falls, .int tears, .ref a_tape, .int typed, .int place, .ref a_read, .ref a_undos, .ref a_kept, .ref a_keptUndos, .int isKept, .ref a_sheets, .ref a_taken])), (a_sheets, .inl (X.E 6, 4, .inr (.inr (.inr (.inr sh))))), (a_held, .inr (7, [wv]))]) (isC := []) (isR := [0, 1, 2]) h hR (ct_X0_isLane (x0 := 3) hv) (lw_S q918 q919 q70 q920) (by decide +kernel) rfl ⟨rfl, rfl, rfl, rfl, by decide⟩ ⟨fle rfl, fle rfl, fle rfl, fle rfl, fle rfl⟩ rfl dX0_sheet_8 (pin (perm := [0, 1, 2]) (ws' := [(a, .inr (0, [.ref a_kinds, .ref a_town, .ref a_tried, .ref a_fell, .int falls, .int tears, .ref a_tape, .int typed, .int place, .ref a_read, .ref a_undos, .ref a_kept, .ref a_keptUndos, .int isKept, .ref a_sheets, .ref a_taken])), (a_sheets, .inl (X.E 6, 4, .inr (.inr (.inr (.inr sh))))), (a_held, .inr (7, [wv]))]) (stk := [.int r_3]) rfl rfl rfl ?_)
    clear hv
    refine g_if_eq (tgt := 20) h dX0_sheet_11 rfl hf (fun c4 hf => ?_) (fun c4 hf => ?_)
    · exact nomatch hf
    · refine g_iload_n h 3 dX0_sheet_14 rfl rfl ?_
      refine g_bipush (v := 24) h dX0_sheet_15 kbipush_24 ?_
      refine g_icmp_le (tgt := 22) h dX0_sheet_17 rfl hf (fun c5 hf => ?_) (fun c5 hf => ?_)
      · refine g_aload_n h 0 dX0_sheet_22 rfl rfl ?_
        refine g_get (ci := 0) (v := .ref a_sheets) h in_X0 0 14 rfl rfl (fle rfl) rfl q1125 rfl dX0_sheet_23 ?_
        refine g_iload_n h 1 dX0_sheet_26 rfl rfl ?_
        obtain ⟨g6, hf⟩ := gn hf
        refine g_aaS (t0 := 6) (p := a_held) h 1 rfl rfl g6 hsh dX0_sheet_27 ?_
        refine g_iload_n h 2 dX0_sheet_28 rfl rfl ?_
        refine g_iload_n h 3 dX0_sheet_29 rfl rfl ?_
        refine ox_at hf (fun z hv hf => ?_) (fun z hv hf => ?_)
        · obtain ⟨u_7, hz, hf⟩ := ob1 hf
          replace hv := hv.trans hz
          clear hz
          refine g_callS (n := 2) (As := [.int 3, .int x3]) (st := [.ref a_held]) (wr := [(a, .inr (0, [.ref a_kinds, .ref a_town, .ref a_tried, .ref a_fell, .int falls, .int tears, .ref a_tape, .int typed, .int place, .ref a_read, .ref a_undos, .ref a_kept, .ref a_keptUndos, .int isKept, .ref a_sheets, .ref a_taken])), (a_sheets, .inl (X.E 6, 4, .inr (.inr (.inr (.inr sh))))), (a_held, .inr (7, [wv]))]) (isC := []) (isR := [0, 1, 2]) h hR (ct_X0_laid_l3 (x1 := x3) hv) (lw_S q921 q922 q70 q923) (by decide +kernel) rfl ⟨rfl, rfl, rfl, rfl, by decide⟩ ⟨fle rfl, fle rfl, fle rfl, fle rfl, fle rfl⟩ rfl dX0_sheet_30 (pinr (fun q11 => G.sub (ws' := [(a, .inr (0, [.ref a_kinds, .ref a_town, .ref a_tried, .ref a_fell, .int falls, .int tears, .ref a_tape, .int typed, .int place, .ref a_read, .ref a_undos, .ref a_kept, .ref a_keptUndos, .int isKept, .ref a_sheets, .ref a_taken])), (a_sheets, .inl (X.E 6, 4, .inr (.inr (.inr (.inr sh))))), (a_held, .inr (7, [wv])), (q11, .inl (X.E 2, x3.toNatClampNeg, .inr (.inl (fun _ => 0))))]) [0, 1, 2, 3] rfl rfl ?_))
          clear hv
          refine g_putN (ci := 7) (ty := tyX7 0) (ws' := [(a, .inr (0, [.ref a_kinds, .ref a_town, .ref a_tried, .ref a_fell, .int falls, .int tears, .ref a_tape, .int typed, .int place, .ref a_read, .ref a_undos, .ref a_kept, .ref a_keptUndos, .int isKept, .ref a_sheets, .ref a_taken])), (a_sheets, .inl (X.E 6, 4, .inr (.inr (.inr (.inr sh))))), (a_held, .inr (7, [.ref q11])), (q11, .inl (X.E 2, x3.toNatClampNeg, .inr (.inl (fun _ => 0))))]) h in_X7 tyX7 tyX7_ok nmX7 2 0 rfl rfl (fle rfl) ⟨rfl, rfl⟩ q1106 rfl rfl rfl (fle rfl) rfl dX0_sheet_33 ?_
          refine g_iload_n h 3 dX0_sheet_36 rfl rfl ?_
          obtain rfl := sj1 hf
          exact g_iret h hF [0, 1, 2, 3] rfl rfl ⟨_, rfl, rfl⟩ (fle rfl) (fle rfl) dX0_sheet_37
        · obtain ⟨v_8, hz, hf⟩ := ob1 hf
          replace hv := hv.trans hz
          clear hz
          refine g_callSC (n := 2) (As := [.int 3, .int x3]) (st := [.ref a_held]) (wr := [(a, .inr (0, [.ref a_kinds, .ref a_town, .ref a_tried, .ref a_fell, .int falls, .int tears, .ref a_tape, .int typed, .int place, .ref a_read, .ref a_undos, .ref a_kept, .ref a_keptUndos, .int isKept, .ref a_sheets, .ref a_taken])), (a_sheets, .inl (X.E 6, 4, .inr (.inr (.inr (.inr sh))))), (a_held, .inr (7, [wv]))]) (isC := []) (isR := [0, 1, 2]) h hR (ctT_X0_laid_l3 (x1 := x3) hfl hv) (lw_S q921 q922 q70 q923) (by decide +kernel) rfl ⟨rfl, rfl, rfl, rfl, by decide⟩ ⟨fle rfl, fle rfl, fle rfl, fle rfl, fle rfl⟩ rfl dX0_sheet_30 (fun C q9 w' hw => ?_)
          obtain ⟨rfl, rfl⟩ := hw
          refine hf_if hf (fun c10 hf => ?_) (fun c10 hf => ?_)
          · subst c10
            refine ⟨38, ⟨[], [], ⟨22, 37, 38, 365⟩, "java/lang/NegativeArraySizeException", htb, (fun y hy => nomatch hy), rfl, by decide, q887, q907, rfl⟩, ?_⟩
            refine G.sub (ws' := [(a, .inr (0, [.ref a_kinds, .ref a_town, .ref a_tried, .ref a_fell, .int falls, .int tears, .ref a_tape, .int typed, .int place, .ref a_read, .ref a_undos, .ref a_kept, .ref a_keptUndos, .int isKept, .ref a_sheets, .ref a_taken])), (a_sheets, .inl (X.E 6, 4, .inr (.inr (.inr (.inr sh))))), (a_held, .inr (7, [wv]))]) [0, 1, 2] rfl rfl ?_
            clear hv
            exact nomatch hf
          · exact nomatch hf
      · exact nomatch hf
set_option maxHeartbeats 4000000 in
set_option maxRecDepth 100000 in
theorem ct_X0_sheet_b3 {l : Launch} {D : va_G} {E : Ety} {a a_kinds a_town a_tried a_fell a_tape a_read a_undos a_kept a_keptUndos a_sheets a_taken a_held : Nat} {x1 : Int32} {x3 : Int32} {falls : Int32} {tears : Int32} {typed : Int32} {place : Int32} {isKept : Int32} {sh : Nat → Option Nat} {r_ : Int32} (hsh : sh x1.toNatClampNeg = some a_held) (hfl : l.flags = flags0) (hf : f_X0_sheet_b3 x1 x3 = some r_) : CtW l yX0_sheet cX0_sheet 5 (some .int) [(22, 37, 38, 365)] 8 10321 3 54 D E [.ref a, .int x1, .int 3, .int x3] [(a, .inr (0, [.ref a_kinds, .ref a_town, .ref a_tried, .ref a_fell, .int falls, .int tears, .ref a_tape, .int typed, .int place, .ref a_read, .ref a_undos, .ref a_kept, .ref a_keptUndos, .int isKept, .ref a_sheets, .ref a_taken])), (a_sheets, .inl (E 6, 4, .inr (.inr (.inr (.inr sh)))))] (Pn (some (.int r_)) [(a, .inr (0, [.ref a_kinds, .ref a_town, .ref a_tried, .ref a_fell, .int falls, .int tears, .ref a_tape, .int typed, .int place, .ref a_read, .ref a_undos, .ref a_kept, .ref a_keptUndos, .int isKept, .ref a_sheets, .ref a_taken])), (a_sheets, .inl (E 6, 4, .inr (.inr (.inr (.inr sh)))))]) := by
  refine ct_ofW (own := RX0) (F := []) (List.append_nil _) (by decide) rfl (fle rfl) rfl ?_
  intro X hl hD hE hnL hXF h hR hF htb
  subst hl; subst hD; subst hE
  have hL : ∀ i, i < 5 → i < X.nL := fun i hi => by rw [hnL]; exact hi
  unfold f_X0_sheet_b3 at hf
  refine g_iload_n h 1 dX0_sheet_0 rfl rfl ?_
  obtain ⟨r_1, hv, hf⟩ := ob1 hf
  refine g_callS (n := 1) (As := [.int x1]) (st := []) (wr := [(a, .inr (0, [.ref a_kinds, .ref a_town, .ref a_tried, .ref a_fell, .int falls, .int tears, .ref a_tape, .int typed, .int place, .ref a_read, .ref a_undos, .ref a_kept, .ref a_keptUndos, .int isKept, .ref a_sheets, .ref a_taken])), (a_sheets, .inl (X.E 6, 4, .inr (.inr (.inr (.inr sh)))))]) (isC := []) (isR := [0, 1]) h hR (ct_X0_isSheet (x0 := x1) hv) (lw_S q914 q915 q70 q916) (by decide +kernel) rfl ⟨rfl, rfl, rfl, rfl, by decide⟩ ⟨fle rfl, fle rfl, fle rfl, fle rfl, fle rfl⟩ rfl dX0_sheet_1 (pin (perm := [0, 1]) (ws' := [(a, .inr (0, [.ref a_kinds, .ref a_town, .ref a_tried, .ref a_fell, .int falls, .int tears, .ref a_tape, .int typed, .int place, .ref a_read, .ref a_undos, .ref a_kept, .ref a_keptUndos, .int isKept, .ref a_sheets, .ref a_taken])), (a_sheets, .inl (X.E 6, 4, .inr (.inr (.inr (.inr sh)))))]) (stk := [.int r_1]) rfl rfl rfl ?_)
  clear hv
  refine g_if_eq (tgt := 20) h dX0_sheet_4 rfl hf (fun c2 hf => ?_) (fun c2 hf => ?_)
  · refine g_iconst (v := (-1)) h dX0_sheet_20 kiconst_m1 ?_
    obtain rfl := sj1 hf
    exact g_iret h hF [0, 1] rfl rfl ⟨rfl, rfl⟩ (fle rfl) (fle rfl) dX0_sheet_21
  · refine g_iload_n h 2 dX0_sheet_7 rfl rfl ?_
    obtain ⟨r_3, hv, hf⟩ := ob1 hf
    refine g_callS (n := 1) (As := [.int 3]) (st := []) (wr := [(a, .inr (0, [.ref a_kinds, .ref a_town, .ref a_tried, .ref a_fell, .int falls, .int tears, .ref a_tape, .int typed, .int place, .ref a_read, .ref a_undos, .ref a_kept, .ref a_keptUndos, .int isKept, .ref a_sheets, .ref a_taken])), (a_sheets, .inl (X.E 6, 4, .inr (.inr (.inr (.inr sh)))))]) (isC := []) (isR := [0, 1]) h hR (ct_X0_isLane (x0 := 3) hv) (lw_S q918 q919 q70 q920) (by decide +kernel) rfl ⟨rfl, rfl, rfl, rfl, by decide⟩ ⟨fle rfl, fle rfl, fle rfl, fle rfl, fle rfl⟩ rfl dX0_sheet_8 (pin (perm := [0, 1]) (ws' := [(a, .inr (0, [.ref a_kinds, .ref a_town, .ref a_tried, .ref a_fell, .int falls, .int tears, .ref a_tape, .int typed, .int place, .ref a_read, .ref a_undos, .ref a_kept, .ref a_keptUndos, .int isKept, .ref a_sheets, .ref a_taken])), (a_sheets, .inl (X.E 6, 4, .inr (.inr (.inr (.inr sh)))))]) (stk := [.int r_3]) rfl rfl rfl ?_)
    clear hv
    refine g_if_eq (tgt := 20) h dX0_sheet_11 rfl hf (fun c4 hf => ?_) (fun c4 hf => ?_)
    · refine g_iconst (v := (-1)) h dX0_sheet_20 kiconst_m1 ?_
      obtain rfl := sj1 hf
      exact g_iret h hF [0, 1] rfl rfl ⟨rfl, rfl⟩ (fle rfl) (fle rfl) dX0_sheet_21
    · refine g_iload_n h 3 dX0_sheet_14 rfl rfl ?_
      refine g_bipush (v := 24) h dX0_sheet_15 kbipush_24 ?_
      refine g_icmp_le (tgt := 22) h dX0_sheet_17 rfl hf (fun c5 hf => ?_) (fun c5 hf => ?_)
      · refine g_aload_n h 0 dX0_sheet_22 rfl rfl ?_
        refine g_get (ci := 0) (v := .ref a_sheets) h in_X0 0 14 rfl rfl (fle rfl) rfl q1125 rfl dX0_sheet_23 ?_
        refine g_iload_n h 1 dX0_sheet_26 rfl rfl ?_
        obtain ⟨g6, hf⟩ := gn hf
        refine g_aaS (t0 := 6) (p := a_held) h 1 rfl rfl g6 hsh dX0_sheet_27 ?_
        refine g_iload_n h 2 dX0_sheet_28 rfl rfl ?_
        refine g_iload_n h 3 dX0_sheet_29 rfl rfl ?_
        refine ox_at hf (fun z hv hf => ?_) (fun z hv hf => ?_)
        · obtain ⟨u_7, hz, hf⟩ := ob1 hf
          replace hv := hv.trans hz
          clear hz
          refine g_callS (n := 2) (As := [.int 3, .int x3]) (st := [.ref a_held]) (wr := [(a, .inr (0, [.ref a_kinds, .ref a_town, .ref a_tried, .ref a_fell, .int falls, .int tears, .ref a_tape, .int typed, .int place, .ref a_read, .ref a_undos, .ref a_kept, .ref a_keptUndos, .int isKept, .ref a_sheets, .ref a_taken])), (a_sheets, .inl (X.E 6, 4, .inr (.inr (.inr (.inr sh)))))]) (isC := []) (isR := [0, 1]) h hR (ct_X0_laid_l3 (x1 := x3) hv) (lw_S q921 q922 q70 q923) (by decide +kernel) rfl ⟨rfl, rfl, rfl, rfl, by decide⟩ ⟨fle rfl, fle rfl, fle rfl, fle rfl, fle rfl⟩ rfl dX0_sheet_30 (pinr (fun q11 => G.sub (ws' := [(a, .inr (0, [.ref a_kinds, .ref a_town, .ref a_tried, .ref a_fell, .int falls, .int tears, .ref a_tape, .int typed, .int place, .ref a_read, .ref a_undos, .ref a_kept, .ref a_keptUndos, .int isKept, .ref a_sheets, .ref a_taken])), (a_sheets, .inl (X.E 6, 4, .inr (.inr (.inr (.inr sh))))), (q11, .inl (X.E 2, x3.toNatClampNeg, .inr (.inl (fun _ => 0))))]) [0, 1, 2] rfl rfl ?_))
          clear hv
          exact nomatch hf
        · obtain ⟨v_8, hz, hf⟩ := ob1 hf
          replace hv := hv.trans hz
          clear hz
          refine g_callSC (n := 2) (As := [.int 3, .int x3]) (st := [.ref a_held]) (wr := [(a, .inr (0, [.ref a_kinds, .ref a_town, .ref a_tried, .ref a_fell, .int falls, .int tears, .ref a_tape, .int typed, .int place, .ref a_read, .ref a_undos, .ref a_kept, .ref a_keptUndos, .int isKept, .ref a_sheets, .ref a_taken])), (a_sheets, .inl (X.E 6, 4, .inr (.inr (.inr (.inr sh)))))]) (isC := []) (isR := [0, 1]) h hR (ctT_X0_laid_l3 (x1 := x3) hfl hv) (lw_S q921 q922 q70 q923) (by decide +kernel) rfl ⟨rfl, rfl, rfl, rfl, by decide⟩ ⟨fle rfl, fle rfl, fle rfl, fle rfl, fle rfl⟩ rfl dX0_sheet_30 (fun C q9 w' hw => ?_)
          obtain ⟨rfl, rfl⟩ := hw
          refine hf_if hf (fun c10 hf => ?_) (fun c10 hf => ?_)
          · subst c10
            refine ⟨38, ⟨[], [], ⟨22, 37, 38, 365⟩, "java/lang/NegativeArraySizeException", htb, (fun y hy => nomatch hy), rfl, by decide, q887, q907, rfl⟩, ?_⟩
            refine G.sub (ws' := [(a, .inr (0, [.ref a_kinds, .ref a_town, .ref a_tried, .ref a_fell, .int falls, .int tears, .ref a_tape, .int typed, .int place, .ref a_read, .ref a_undos, .ref a_kept, .ref a_keptUndos, .int isKept, .ref a_sheets, .ref a_taken])), (a_sheets, .inl (X.E 6, 4, .inr (.inr (.inr (.inr sh)))))]) [0, 1] rfl rfl ?_
            clear hv
            refine g_astore (lv' := [(4, .ref q9), (0, .ref a), (1, .int x1), (2, .int 3), (3, .int x3)]) h dX0_sheet_38 (hL 4 (fle rfl)) rfl ?_
            refine g_bipush (v := (-14)) h dX0_sheet_40 kbipush_m14 ?_
            obtain rfl := sj1 hf
            exact g_iret h hF [0, 1] rfl rfl ⟨rfl, rfl⟩ (fle rfl) (fle rfl) dX0_sheet_42
          · exact nomatch hf
      · refine g_iconst (v := (-1)) h dX0_sheet_20 kiconst_m1 ?_
        obtain rfl := sj1 hf
        exact g_iret h hF [0, 1] rfl rfl ⟨rfl, rfl⟩ (fle rfl) (fle rfl) dX0_sheet_21
set_option maxHeartbeats 4000000 in
set_option maxRecDepth 100000 in
theorem ct_X0_sheet_bad {l : Launch} {D : va_G} {E : Ety} {a : Nat} {x1 : Int32} {x2 : Int32} {x3 : Int32} {r_ : Int32} (hfl : l.flags = flags0) (hf : f_X0_sheet_bad x1 x2 x3 = some r_) : CtW l yX0_sheet cX0_sheet 5 (some .int) [(22, 37, 38, 365)] 2 45 0 0 D E [.ref a, .int x1, .int x2, .int x3] [] (Pn (some (.int r_)) []) := by
  refine ct_ofW (own := RX0) (F := []) (List.append_nil _) (by decide) rfl (fle rfl) rfl ?_
  intro X hl hD hE hnL hXF h hR hF htb
  subst hl; subst hD; subst hE
  have hL : ∀ i, i < 5 → i < X.nL := fun i hi => by rw [hnL]; exact hi
  unfold f_X0_sheet_bad at hf
  refine g_iload_n h 1 dX0_sheet_0 rfl rfl ?_
  obtain ⟨r_1, hv, hf⟩ := ob1 hf
  refine g_callS (n := 1) (As := [.int x1]) (st := []) (wr := []) (isC := []) (isR := []) h hR (ct_X0_isSheet (x0 := x1) hv) (lw_S q914 q915 q70 q916) (by decide +kernel) rfl ⟨rfl, rfl, rfl, rfl, by decide⟩ ⟨fle rfl, fle rfl, fle rfl, fle rfl, fle rfl⟩ rfl dX0_sheet_1 (pin (perm := []) (ws' := []) (stk := [.int r_1]) rfl rfl rfl ?_)
  clear hv
  refine g_if_eq (tgt := 20) h dX0_sheet_4 rfl hf (fun c2 hf => ?_) (fun c2 hf => ?_)
  · refine g_iconst (v := (-1)) h dX0_sheet_20 kiconst_m1 ?_
    obtain rfl := sj1 hf
    exact g_iret h hF [] rfl rfl ⟨rfl, rfl⟩ (fle rfl) (fle rfl) dX0_sheet_21
  · refine g_iload_n h 2 dX0_sheet_7 rfl rfl ?_
    obtain ⟨r_3, hv, hf⟩ := ob1 hf
    refine g_callS (n := 1) (As := [.int x2]) (st := []) (wr := []) (isC := []) (isR := []) h hR (ct_X0_isLane (x0 := x2) hv) (lw_S q918 q919 q70 q920) (by decide +kernel) rfl ⟨rfl, rfl, rfl, rfl, by decide⟩ ⟨fle rfl, fle rfl, fle rfl, fle rfl, fle rfl⟩ rfl dX0_sheet_8 (pin (perm := []) (ws' := []) (stk := [.int r_3]) rfl rfl rfl ?_)
    clear hv
    refine g_if_eq (tgt := 20) h dX0_sheet_11 rfl hf (fun c4 hf => ?_) (fun c4 hf => ?_)
    · refine g_iconst (v := (-1)) h dX0_sheet_20 kiconst_m1 ?_
      obtain rfl := sj1 hf
      exact g_iret h hF [] rfl rfl ⟨rfl, rfl⟩ (fle rfl) (fle rfl) dX0_sheet_21
    · refine g_iload_n h 3 dX0_sheet_14 rfl rfl ?_
      refine g_bipush (v := 24) h dX0_sheet_15 kbipush_24 ?_
      refine g_icmp_le (tgt := 22) h dX0_sheet_17 rfl hf (fun c5 hf => ?_) (fun c5 hf => ?_)
      · exact nomatch hf
      · refine g_iconst (v := (-1)) h dX0_sheet_20 kiconst_m1 ?_
        obtain rfl := sj1 hf
        exact g_iret h hF [] rfl rfl ⟨rfl, rfl⟩ (fle rfl) (fle rfl) dX0_sheet_21
