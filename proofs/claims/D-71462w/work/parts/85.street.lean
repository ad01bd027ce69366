set_option maxRecDepth 100000
def ox {α β γ : Type} (o : Option α) (e : Option β) (k1 : α → Option γ) (k2 : β → Option γ) : Option γ := match o with
  | some a => k1 a
  | none => match e with
    | some b => k2 b
    | none => none
theorem ox_at {α β γ : Type} {o : Option α} {e : Option β} {k1 : α → Option γ} {k2 : β → Option γ} {r : γ} {P : Prop} (h : ox o e k1 k2 = some r) (h1 : ∀ a, o = some a → k1 a = some r → P) (h2 : ∀ b, e = some b → k2 b = some r → P) : P := by
  cases o with
  | some a => exact h1 a rfl h
  | none =>
    cases e with
    | some b => exact h2 b rfl h
    | none => cases h
def f_X0_must (x1 : Int32) (place : Int32) : Option (Int32) :=
  if x1 = 0 then
    none
  else
    some (place + 1)
def e_X0_must (x1 : Int32) (place : Int32) : Option (Int32 × Int32) :=
  if x1 = 0 then
    some (place, place)
  else
    none
def t_X0_number_L37 (x3 : Int32) (typed : Int32) (tape : Nat → Int32) (k : Int32 → Int32 → Option (Int32 × Int32)) (x4 : Int32) (place : Int32) : Option (Int32 × Int32) :=
  if typed ≤ place then
    some (x4, place)
  else
    if (x3 + 2) ≤ place then
      some (x4, place)
    else
      if place < 0 ∨ 90 ≤ place.toNatClampNeg then none else
      b1 (f_X0_in ((tape place.toNatClampNeg).toInt64) 48 57) fun r_8 =>
      if r_8 = 0 then
        some (x4, place)
      else
        nm (((10 * x4) + (tape place.toNatClampNeg)) - 48) fun y_10 =>
        k y_10 (place + 1)
def f_X0_number_L37 (x3 : Int32) (typed : Int32) (tape : Nat → Int32) : Nat → Int32 → Int32 → Option (Int32 × Int32) := lpf2 (t_X0_number_L37 x3 typed tape)
def f_X0_number (x1 : Int32) (x2 : Int32) (typed : Int32) (place : Int32) (tape : Nat → Int32) : Option (Int32 × Int32) :=
  b2 (f_X0_here typed place tape) fun r_1 place_2 =>
  b1 (f_X0_in r_1.toInt64 48 57) fun r_3 =>
  if r_3 = 0 then
    none
  else
    b2 (f_X0_number_L37 place_2 typed tape FU 0 place_2) fun x4_11 place_12 =>
    b1 (f_X0_in x4_11.toInt64 x1.toInt64 x2.toInt64) fun r_13 =>
    if r_13 = 0 then
      none
    else
      some (x4_11, place_12)
def t_X0_numberE_L37 (x3 : Int32) (typed : Int32) (tape : Nat → Int32) (k : Int32 → Int32 → Option (Int32 × Int32)) (x4 : Int32) (place : Int32) : Option (Int32 × Int32) :=
  if typed ≤ place then
    some (x4, place)
  else
    if (x3 + 2) ≤ place then
      some (x4, place)
    else
      if place < 0 ∨ 90 ≤ place.toNatClampNeg then none else
      b1 (f_X0_in ((tape place.toNatClampNeg).toInt64) 48 57) fun r_8 =>
      if r_8 = 0 then
        some (x4, place)
      else
        nm (((10 * x4) + (tape place.toNatClampNeg)) - 48) fun y_10 =>
        k y_10 (place + 1)
def f_X0_numberE_L37 (x3 : Int32) (typed : Int32) (tape : Nat → Int32) : Nat → Int32 → Int32 → Option (Int32 × Int32) := lpf2 (t_X0_numberE_L37 x3 typed tape)
def e_X0_number (x1 : Int32) (x2 : Int32) (typed : Int32) (place : Int32) (tape : Nat → Int32) : Option (Int32 × Int32) :=
  b2 (f_X0_here typed place tape) fun r_1 place_2 =>
  b1 (f_X0_in r_1.toInt64 48 57) fun r_3 =>
  if r_3 = 0 then
    some (place_2, place_2)
  else
    b2 (f_X0_numberE_L37 place_2 typed tape FU 0 place_2) fun x4_11 place_12 =>
    b1 (f_X0_in x4_11.toInt64 x1.toInt64 x2.toInt64) fun r_13 =>
    if r_13 = 0 then
      some (place_2, place_12)
    else
      none
set_option maxHeartbeats 4000000 in
set_option maxRecDepth 100000 in
theorem ct_X0_must {l : Launch} {D : va_G} {E : Ety} {a a_kinds a_town a_tried a_fell a_tape a_read a_undos a_kept a_keptUndos a_sheets a_taken : Nat} {x1 : Int32} {falls : Int32} {tears : Int32} {typed : Int32} {place : Int32} {isKept : Int32} {o_place : Int32} (hf : f_X0_must x1 place = some o_place) : Ct l yX0_must cX0_must 2 none 0 0 0 0 D E [.ref a, .int x1] [(a, .inr (0, [.ref a_kinds, .ref a_town, .ref a_tried, .ref a_fell, .int falls, .int tears, .ref a_tape, .int typed, .int place, .ref a_read, .ref a_undos, .ref a_kept, .ref a_keptUndos, .int isKept, .ref a_sheets, .ref a_taken]))] (Pn none [(a, .inr (0, [.ref a_kinds, .ref a_town, .ref a_tried, .ref a_fell, .int falls, .int tears, .ref a_tape, .int typed, .int o_place, .ref a_read, .ref a_undos, .ref a_kept, .ref a_keptUndos, .int isKept, .ref a_sheets, .ref a_taken]))]) := by
  refine ct_of (own := RX0) (plainFor_of_name (by decide)) rfl (fle rfl) rfl ?_
  intro X hl hD hE hnL hXF h hR hF hnm
  subst hl; subst hD; subst hE
  have hL : ∀ i, i < 2 → i < X.nL := fun i hi => by rw [hnL]; exact hi
  unfold f_X0_must at hf
  refine g_iload_n h 1 dX0_must_0 rfl rfl ?_
  refine g_if_ne (tgt := 16) h dX0_must_1 rfl hf (fun c1 hf => ?_) (fun c1 hf => ?_)
  · exact nomatch hf
  · refine g_aload_n h 0 dX0_must_16 rfl rfl ?_
    refine g_dup h dX0_must_17 rfl ?_
    refine g_get (ci := 0) (v := .int place) h in_X0 0 8 rfl rfl (fle rfl) rfl q1119 rfl dX0_must_18 ?_
    refine g_iconst (v := 1) h dX0_must_21 kiconst_1 ?_
    refine g_iadd h dX0_must_22 ?_
    refine g_put (ci := 0) (ty := tyX0 8) (ws' := [(a, .inr (0, [.ref a_kinds, .ref a_town, .ref a_tried, .ref a_fell, .int falls, .int tears, .ref a_tape, .int typed, .int (place + 1), .ref a_read, .ref a_undos, .ref a_kept, .ref a_keptUndos, .int isKept, .ref a_sheets, .ref a_taken]))]) h in_X0 tyX0 tyX0_ok nmX0 0 8 rfl rfl (fle rfl) ⟨rfl, rfl⟩ q1119 rfl rfl rfl (fle rfl) rfl dX0_must_23 ?_
    obtain rfl := sj1 hf
    exact g_vret h hF [0] rfl rfl ⟨rfl, rfl⟩ (fle rfl) (fle rfl) dX0_must_26
set_option maxHeartbeats 4000000 in
set_option maxRecDepth 100000 in
theorem ctT_X0_must {l : Launch} {D : va_G} {E : Ety} {a a_kinds a_town a_tried a_fell a_tape a_read a_undos a_kept a_keptUndos a_sheets a_taken : Nat} {x1 : Int32} {falls : Int32} {tears : Int32} {typed : Int32} {place : Int32} {isKept : Int32} {v_ : Int32} {o_place : Int32} (hfl : l.flags = flags0) (hf : e_X0_must x1 place = some (v_, o_place)) : CtT l yX0_must cX0_must 2 none 5 120 1 7 D E [.ref a, .int x1] [(a, .inr (0, [.ref a_kinds, .ref a_town, .ref a_tried, .ref a_fell, .int falls, .int tears, .ref a_tape, .int typed, .int place, .ref a_read, .ref a_undos, .ref a_kept, .ref a_keptUndos, .int isKept, .ref a_sheets, .ref a_taken]))] (fun C x w => C = "OneElastic$Fault" ∧ w = [(a, .inr (0, [.ref a_kinds, .ref a_town, .ref a_tried, .ref a_fell, .int falls, .int tears, .ref a_tape, .int typed, .int o_place, .ref a_read, .ref a_undos, .ref a_kept, .ref a_keptUndos, .int isKept, .ref a_sheets, .ref a_taken]))] ++ [(x, .inr (13, [.int v_]))]) := by
  refine ct_ofT (own := RX0) (plainFor_of_name (by decide)) rfl (fle rfl) rfl ?_
  intro X hl hD hE hnL hXF h hR hF hx
  subst hl; subst hD; subst hE
  have hL : ∀ i, i < 2 → i < X.nL := fun i hi => by rw [hnL]; exact hi
  unfold e_X0_must at hf
  refine g_iload_n h 1 dX0_must_0 rfl rfl ?_
  refine g_if_ne (tgt := 16) h dX0_must_1 rfl hf (fun c1 hf => ?_) (fun c1 hf => ?_)
  · obtain ⟨rfl, rfl⟩ := sj2 hf
    exact t_fault (w := [(a, .inr (0, [.ref a_kinds, .ref a_town, .ref a_tried, .ref a_fell, .int falls, .int tears, .ref a_tape, .int typed, .int place, .ref a_read, .ref a_undos, .ref a_kept, .ref a_keptUndos, .int isKept, .ref a_sheets, .ref a_taken]))]) (pc2 := 12) h hR hfl hx hF (fle rfl) (fle rfl) (fle rfl) (fle rfl) (fle rfl) [0] rfl rfl (fun x => ⟨rfl, rfl⟩) dX0_must_4 dX0_must_7 (fun H locs ls q ce sl hP hl kW => lv_aload_n h.x h.b dX0_must_8 rfl (lv_at hl 0 rfl) (va_get (v := .int place) h.x h.b h.ts in_X0 h.own h.k hP 0 (apL rfl) (cl := vwCl) (C := RX0) (T := TX0) (N := 16) rfl 8 (fle rfl) (h.ts _ q1119) (fun _ e => e) rfl dX0_must_9 kW)) dX0_must_12 dX0_must_15
  · refine g_aload_n h 0 dX0_must_16 rfl rfl ?_
    refine g_dup h dX0_must_17 rfl ?_
    refine g_get (ci := 0) (v := .int place) h in_X0 0 8 rfl rfl (fle rfl) rfl q1119 rfl dX0_must_18 ?_
    refine g_iconst (v := 1) h dX0_must_21 kiconst_1 ?_
    refine g_iadd h dX0_must_22 ?_
    refine g_put (ci := 0) (ty := tyX0 8) (ws' := [(a, .inr (0, [.ref a_kinds, .ref a_town, .ref a_tried, .ref a_fell, .int falls, .int tears, .ref a_tape, .int typed, .int (place + 1), .ref a_read, .ref a_undos, .ref a_kept, .ref a_keptUndos, .int isKept, .ref a_sheets, .ref a_taken]))]) h in_X0 tyX0 tyX0_ok nmX0 0 8 rfl rfl (fle rfl) ⟨rfl, rfl⟩ q1119 rfl rfl rfl (fle rfl) rfl dX0_must_23 ?_
    exact nomatch hf
set_option maxHeartbeats 4000000 in
set_option maxRecDepth 100000 in
theorem w_X0_number_L37 {X : Cx} {a a_fell a_kept a_keptUndos a_kinds a_read a_sheets a_taken a_tape a_town a_tried a_undos : Nat} {x1 : Int32} {x2 : Int32} {x3 : Int32} {falls : Int32} {tears : Int32} {typed : Int32} {isKept : Int32} {tape : Nat → Int32} {ce sl : Nat} (h : Ok X cX0_number RX0) (hR : Rm X 1 25 0 0) (hL : ∀ i, i < 5 → i < X.nL) (hce : ce ≤ 0) (hsl : sl ≤ 0) : ∀ (n0 : Nat) (x4 : Int32) (place : Int32) {o_x4 : Int32} {o_place : Int32}, f_X0_number_L37 x3 typed tape n0 x4 place = some (o_x4, o_place) → (G X [(a, .inr (0, [.ref a_kinds, .ref a_town, .ref a_tried, .ref a_fell, .int falls, .int tears, .ref a_tape, .int typed, .int o_place, .ref a_read, .ref a_undos, .ref a_kept, .ref a_keptUndos, .int isKept, .ref a_sheets, .ref a_taken])), (a_tape, .inl (X.E 0, 90, .inl tape))] [(1, .int x1), (2, .int x2), (3, .int x3), (4, .int o_x4)] ce sl 110 []) → G X [(a, .inr (0, [.ref a_kinds, .ref a_town, .ref a_tried, .ref a_fell, .int falls, .int tears, .ref a_tape, .int typed, .int place, .ref a_read, .ref a_undos, .ref a_kept, .ref a_keptUndos, .int isKept, .ref a_sheets, .ref a_taken])), (a_tape, .inl (X.E 0, 90, .inl tape))] [(0, .ref a), (1, .int x1), (2, .int x2), (3, .int x3), (4, .int x4)] ce sl 37 [] := by
  intro n0
  induction n0 with
  | zero => intro x4 place o_x4 o_place hf; exact nomatch (show (none : Option _) = some _ from hf)
  | succ n0 ih =>
    intro x4 place o_x4 o_place hf k0
    replace hf : t_X0_number_L37 x3 typed tape (f_X0_number_L37 x3 typed tape n0) x4 place = some (o_x4, o_place) := hf
    unfold t_X0_number_L37 at hf
    refine g_aload_n h 0 dX0_number_37 rfl rfl ?_
    refine g_get (ci := 0) (v := .int place) h in_X0 0 8 rfl rfl (fle rfl) rfl q1119 rfl dX0_number_38 ?_
    refine g_aload_n h 0 dX0_number_41 rfl rfl ?_
    refine g_get (ci := 0) (v := .int typed) h in_X0 0 7 rfl rfl (fle rfl) rfl q1118 rfl dX0_number_42 ?_
    refine g_icmp_ge (tgt := 110) h dX0_number_45 rfl hf (fun c5 hf => ?_) (fun c5 hf => ?_)
    · obtain ⟨rfl, rfl⟩ := sj2 hf
      exact G.lsub [1, 2, 3, 4] rfl k0
    · refine g_aload_n h 0 dX0_number_48 rfl rfl ?_
      refine g_get (ci := 0) (v := .int place) h in_X0 0 8 rfl rfl (fle rfl) rfl q1119 rfl dX0_number_49 ?_
      refine g_iload_n h 3 dX0_number_52 rfl rfl ?_
      refine g_iconst (v := 2) h dX0_number_53 kiconst_2 ?_
      refine g_iadd h dX0_number_54 ?_
      refine g_icmp_ge (tgt := 110) h dX0_number_55 rfl hf (fun c6 hf => ?_) (fun c6 hf => ?_)
      · obtain ⟨rfl, rfl⟩ := sj2 hf
        exact G.lsub [1, 2, 3, 4] rfl k0
      · refine g_aload_n h 0 dX0_number_58 rfl rfl ?_
        refine g_get (ci := 0) (v := .ref a_tape) h in_X0 0 6 rfl rfl (fle rfl) rfl q1117 rfl dX0_number_59 ?_
        refine g_aload_n h 0 dX0_number_62 rfl rfl ?_
        refine g_get (ci := 0) (v := .int place) h in_X0 0 8 rfl rfl (fle rfl) rfl q1119 rfl dX0_number_63 ?_
        obtain ⟨g7, hf⟩ := gn hf
        refine g_baload h 1 rfl g7 dX0_number_66 ?_
        refine g_i2l h dX0_number_67 ?_
        refine g_ldc2 h q342 dX0_number_68 ?_
        refine g_ldc2 h q343 dX0_number_71 ?_
        obtain ⟨r_8, hv, hf⟩ := ob1 hf
        refine g_callS (n := 3) (As := [.long ((tape place.toNatClampNeg).toInt64), .long 48, .long 57]) (st := []) (wr := [(a, .inr (0, [.ref a_kinds, .ref a_town, .ref a_tried, .ref a_fell, .int falls, .int tears, .ref a_tape, .int typed, .int place, .ref a_read, .ref a_undos, .ref a_kept, .ref a_keptUndos, .int isKept, .ref a_sheets, .ref a_taken])), (a_tape, .inl (X.E 0, 90, .inl tape))]) (isC := []) (isR := [0, 1]) h hR (ct_X0_in (x0 := (tape place.toNatClampNeg).toInt64) (x2 := 48) (x4 := 57) hv) (lw_S q107 q108 q70 q109) (by decide +kernel) rfl ⟨rfl, rfl, rfl, rfl, by decide⟩ ⟨hce, hsl, fle rfl, fle rfl, fle rfl⟩ rfl dX0_number_74 (pin (perm := [0, 1]) (ws' := [(a, .inr (0, [.ref a_kinds, .ref a_town, .ref a_tried, .ref a_fell, .int falls, .int tears, .ref a_tape, .int typed, .int place, .ref a_read, .ref a_undos, .ref a_kept, .ref a_keptUndos, .int isKept, .ref a_sheets, .ref a_taken])), (a_tape, .inl (X.E 0, 90, .inl tape))]) (stk := [.int r_8]) rfl rfl rfl ?_)
        clear hv
        refine g_if_eq (tgt := 110) h dX0_number_77 rfl hf (fun c9 hf => ?_) (fun c9 hf => ?_)
        · obtain ⟨rfl, rfl⟩ := sj2 hf
          exact G.lsub [1, 2, 3, 4] rfl k0
        · refine g_bipush (v := 10) h dX0_number_80 kbipush_10 ?_
          refine g_iload h 4 dX0_number_82 rfl ?_
          refine g_imul h dX0_number_84 ?_
          refine g_aload_n h 0 dX0_number_85 rfl rfl ?_
          refine g_get (ci := 0) (v := .ref a_tape) h in_X0 0 6 rfl rfl (fle rfl) rfl q1117 rfl dX0_number_86 ?_
          refine g_aload_n h 0 dX0_number_89 rfl rfl ?_
          refine g_dup h dX0_number_90 rfl ?_
          refine g_get (ci := 0) (v := .int place) h in_X0 0 8 rfl rfl (fle rfl) rfl q1119 rfl dX0_number_91 ?_
          refine g_dup_x1 h dX0_number_94 rfl rfl ?_
          refine g_iconst (v := 1) h dX0_number_95 kiconst_1 ?_
          refine g_iadd h dX0_number_96 ?_
          refine g_put (ci := 0) (ty := tyX0 8) (ws' := [(a, .inr (0, [.ref a_kinds, .ref a_town, .ref a_tried, .ref a_fell, .int falls, .int tears, .ref a_tape, .int typed, .int (place + 1), .ref a_read, .ref a_undos, .ref a_kept, .ref a_keptUndos, .int isKept, .ref a_sheets, .ref a_taken])), (a_tape, .inl (X.E 0, 90, .inl tape))]) h in_X0 tyX0 tyX0_ok nmX0 0 8 rfl rfl (fle rfl) ⟨rfl, rfl⟩ q1119 rfl rfl rfl (fle rfl) rfl dX0_number_97 ?_
          refine g_baload h 1 rfl g7 dX0_number_100 ?_
          refine g_iadd h dX0_number_101 ?_
          refine g_bipush (v := 48) h dX0_number_102 kbipush_48 ?_
          refine g_isub h dX0_number_104 ?_
          refine nm_i (fun y_10 ey_10 => ?_)
          have hf := nm_at hf y_10 ey_10
          refine g_istore (lv' := [(4, .int y_10), (0, .ref a), (1, .int x1), (2, .int x2), (3, .int x3)]) h dX0_number_105 (hL 4 (fle rfl)) rfl ?_
          refine g_goto (tgt := 37) h dX0_number_107 rfl ?_
          exact G.lsub [1, 2, 3, 4, 0] rfl (ih _ _ hf k0)
set_option maxHeartbeats 4000000 in
set_option maxRecDepth 100000 in
theorem ct_X0_number {l : Launch} {D : va_G} {E : Ety} {a a_kinds a_town a_tried a_fell a_tape a_read a_undos a_kept a_keptUndos a_sheets a_taken : Nat} {x1 : Int32} {x2 : Int32} {falls : Int32} {tears : Int32} {typed : Int32} {place : Int32} {isKept : Int32} {tape : Nat → Int32} {r_ : Int32} {o_place : Int32} (hf : f_X0_number x1 x2 typed place tape = some (r_, o_place)) : Ct l yX0_number cX0_number 5 (some .int) 1 25 0 0 D E [.ref a, .int x1, .int x2] [(a, .inr (0, [.ref a_kinds, .ref a_town, .ref a_tried, .ref a_fell, .int falls, .int tears, .ref a_tape, .int typed, .int place, .ref a_read, .ref a_undos, .ref a_kept, .ref a_keptUndos, .int isKept, .ref a_sheets, .ref a_taken])), (a_tape, .inl (E 0, 90, .inl tape))] (Pn (some (.int r_)) [(a, .inr (0, [.ref a_kinds, .ref a_town, .ref a_tried, .ref a_fell, .int falls, .int tears, .ref a_tape, .int typed, .int o_place, .ref a_read, .ref a_undos, .ref a_kept, .ref a_keptUndos, .int isKept, .ref a_sheets, .ref a_taken])), (a_tape, .inl (E 0, 90, .inl tape))]) := by
  refine ct_of (own := RX0) (plainFor_of_name (by decide)) rfl (fle rfl) rfl ?_
  intro X hl hD hE hnL hXF h hR hF hnm
  subst hl; subst hD; subst hE
  have hL : ∀ i, i < 5 → i < X.nL := fun i hi => by rw [hnL]; exact hi
  unfold f_X0_number at hf
  refine g_aload_n h 0 dX0_number_0 rfl rfl ?_
  obtain ⟨r_1, place_2, hv, hf⟩ := ob2 hf
  refine g_callV (ci := 0) (q0 := 0) (n := 0) (As := []) (st := []) (wr := []) (isC := [0, 1]) (isR := []) h hR (ct_X0_here (a := a) (a_kinds := a_kinds) (a_town := a_town) (a_tried := a_tried) (a_fell := a_fell) (a_tape := a_tape) (a_read := a_read) (a_undos := a_undos) (a_kept := a_kept) (a_keptUndos := a_keptUndos) (a_sheets := a_sheets) (a_taken := a_taken) (falls := falls) (tears := tears) (typed := typed) (place := place) (isKept := isKept) (tape := tape) hv) rfl rfl (lw_V q338 q340 qs9 q70 q341) (by decide +kernel) rfl ⟨rfl, rfl, rfl, rfl, by decide⟩ ⟨fle rfl, fle rfl, fle rfl, fle rfl, fle rfl⟩ rfl dX0_number_1 (pin (perm := [0, 1]) (ws' := [(a, .inr (0, [.ref a_kinds, .ref a_town, .ref a_tried, .ref a_fell, .int falls, .int tears, .ref a_tape, .int typed, .int place_2, .ref a_read, .ref a_undos, .ref a_kept, .ref a_keptUndos, .int isKept, .ref a_sheets, .ref a_taken])), (a_tape, .inl (X.E 0, 90, .inl tape))]) (stk := [.int r_1]) rfl rfl rfl ?_)
  clear hv
  refine g_i2l h dX0_number_4 ?_
  refine g_ldc2 h q342 dX0_number_5 ?_
  refine g_ldc2 h q343 dX0_number_8 ?_
  obtain ⟨r_3, hv, hf⟩ := ob1 hf
  refine g_callS (n := 3) (As := [.long r_1.toInt64, .long 48, .long 57]) (st := []) (wr := [(a, .inr (0, [.ref a_kinds, .ref a_town, .ref a_tried, .ref a_fell, .int falls, .int tears, .ref a_tape, .int typed, .int place_2, .ref a_read, .ref a_undos, .ref a_kept, .ref a_keptUndos, .int isKept, .ref a_sheets, .ref a_taken])), (a_tape, .inl (X.E 0, 90, .inl tape))]) (isC := []) (isR := [0, 1]) h hR (ct_X0_in (x0 := r_1.toInt64) (x2 := 48) (x4 := 57) hv) (lw_S q107 q108 q70 q109) (by decide +kernel) rfl ⟨rfl, rfl, rfl, rfl, by decide⟩ ⟨fle rfl, fle rfl, fle rfl, fle rfl, fle rfl⟩ rfl dX0_number_11 (pin (perm := [0, 1]) (ws' := [(a, .inr (0, [.ref a_kinds, .ref a_town, .ref a_tried, .ref a_fell, .int falls, .int tears, .ref a_tape, .int typed, .int place_2, .ref a_read, .ref a_undos, .ref a_kept, .ref a_keptUndos, .int isKept, .ref a_sheets, .ref a_taken])), (a_tape, .inl (X.E 0, 90, .inl tape))]) (stk := [.int r_3]) rfl rfl rfl ?_)
  clear hv
  refine g_if_ne (tgt := 29) h dX0_number_14 rfl hf (fun c4 hf => ?_) (fun c4 hf => ?_)
  · exact nomatch hf
  · refine g_aload_n h 0 dX0_number_29 rfl rfl ?_
    refine g_get (ci := 0) (v := .int place_2) h in_X0 0 8 rfl rfl (fle rfl) rfl q1119 rfl dX0_number_30 ?_
    refine g_istore_n (lv' := [(3, .int place_2), (0, .ref a), (1, .int x1), (2, .int x2)]) h dX0_number_33 rfl (hL 3 (fle rfl)) rfl ?_
    refine g_iconst (v := 0) h dX0_number_34 kiconst_0 ?_
    refine g_istore (lv' := [(4, .int 0), (3, .int place_2), (0, .ref a), (1, .int x1), (2, .int x2)]) h dX0_number_35 (hL 4 (fle rfl)) rfl ?_
    refine G.lsub (lv' := [(0, .ref a), (1, .int x1), (2, .int x2), (3, .int place_2), (4, .int 0)]) [2, 3, 4, 1, 0] rfl ?_
    obtain ⟨x4_11, place_12, hv, hf⟩ := ob2 hf
    refine w_X0_number_L37 (x1 := x1) (x2 := x2) (x3 := place_2) (falls := falls) (tears := tears) (typed := typed) (isKept := isKept) (tape := tape) h hR hL (fle rfl) (fle rfl) FU _ _ hv ?_
    · clear hv
      refine g_iload h 3 dX0_number_110 rfl ?_
      refine g_i2l h dX0_number_112 ?_
      refine g_iload_n h 0 dX0_number_113 rfl rfl ?_
      refine g_i2l h dX0_number_114 ?_
      refine g_iload_n h 1 dX0_number_115 rfl rfl ?_
      refine g_i2l h dX0_number_116 ?_
      obtain ⟨r_13, hv, hf⟩ := ob1 hf
      refine g_callS (n := 3) (As := [.long x4_11.toInt64, .long x1.toInt64, .long x2.toInt64]) (st := []) (wr := [(a, .inr (0, [.ref a_kinds, .ref a_town, .ref a_tried, .ref a_fell, .int falls, .int tears, .ref a_tape, .int typed, .int place_12, .ref a_read, .ref a_undos, .ref a_kept, .ref a_keptUndos, .int isKept, .ref a_sheets, .ref a_taken])), (a_tape, .inl (X.E 0, 90, .inl tape))]) (isC := []) (isR := [0, 1]) h hR (ct_X0_in (x0 := x4_11.toInt64) (x2 := x1.toInt64) (x4 := x2.toInt64) hv) (lw_S q107 q108 q70 q109) (by decide +kernel) rfl ⟨rfl, rfl, rfl, rfl, by decide⟩ ⟨fle rfl, fle rfl, fle rfl, fle rfl, fle rfl⟩ rfl dX0_number_117 (pin (perm := [0, 1]) (ws' := [(a, .inr (0, [.ref a_kinds, .ref a_town, .ref a_tried, .ref a_fell, .int falls, .int tears, .ref a_tape, .int typed, .int place_12, .ref a_read, .ref a_undos, .ref a_kept, .ref a_keptUndos, .int isKept, .ref a_sheets, .ref a_taken])), (a_tape, .inl (X.E 0, 90, .inl tape))]) (stk := [.int r_13]) rfl rfl rfl ?_)
      clear hv
      refine g_if_ne (tgt := 132) h dX0_number_120 rfl hf (fun c14 hf => ?_) (fun c14 hf => ?_)
      · exact nomatch hf
      · refine g_iload h 3 dX0_number_132 rfl ?_
        obtain ⟨rfl, rfl⟩ := sj2 hf
        exact g_iret h hF [0, 1] rfl rfl ⟨rfl, rfl⟩ (fle rfl) (fle rfl) dX0_number_134
set_option maxHeartbeats 4000000 in
set_option maxRecDepth 100000 in
theorem w_X0_numberE_L37 {X : Cx} {a a_fell a_kept a_keptUndos a_kinds a_read a_sheets a_taken a_tape a_town a_tried a_undos : Nat} {x1 : Int32} {x2 : Int32} {x3 : Int32} {falls : Int32} {tears : Int32} {typed : Int32} {isKept : Int32} {tape : Nat → Int32} {ce sl : Nat} (h : Ok X cX0_number RX0) (hR : Rm X 5 120 1 7) (hL : ∀ i, i < 5 → i < X.nL) (hce : ce ≤ 1) (hsl : sl ≤ 7) : ∀ (n0 : Nat) (x4 : Int32) (place : Int32) {o_x4 : Int32} {o_place : Int32}, f_X0_numberE_L37 x3 typed tape n0 x4 place = some (o_x4, o_place) → (G X [(a, .inr (0, [.ref a_kinds, .ref a_town, .ref a_tried, .ref a_fell, .int falls, .int tears, .ref a_tape, .int typed, .int o_place, .ref a_read, .ref a_undos, .ref a_kept, .ref a_keptUndos, .int isKept, .ref a_sheets, .ref a_taken])), (a_tape, .inl (X.E 0, 90, .inl tape))] [(1, .int x1), (2, .int x2), (3, .int x3), (4, .int o_x4)] ce sl 110 []) → G X [(a, .inr (0, [.ref a_kinds, .ref a_town, .ref a_tried, .ref a_fell, .int falls, .int tears, .ref a_tape, .int typed, .int place, .ref a_read, .ref a_undos, .ref a_kept, .ref a_keptUndos, .int isKept, .ref a_sheets, .ref a_taken])), (a_tape, .inl (X.E 0, 90, .inl tape))] [(0, .ref a), (1, .int x1), (2, .int x2), (3, .int x3), (4, .int x4)] ce sl 37 [] := by
  intro n0
  induction n0 with
  | zero => intro x4 place o_x4 o_place hf; exact nomatch (show (none : Option _) = some _ from hf)
  | succ n0 ih =>
    intro x4 place o_x4 o_place hf k0
    replace hf : t_X0_numberE_L37 x3 typed tape (f_X0_numberE_L37 x3 typed tape n0) x4 place = some (o_x4, o_place) := hf
    unfold t_X0_numberE_L37 at hf
    refine g_aload_n h 0 dX0_number_37 rfl rfl ?_
    refine g_get (ci := 0) (v := .int place) h in_X0 0 8 rfl rfl (fle rfl) rfl q1119 rfl dX0_number_38 ?_
    refine g_aload_n h 0 dX0_number_41 rfl rfl ?_
    refine g_get (ci := 0) (v := .int typed) h in_X0 0 7 rfl rfl (fle rfl) rfl q1118 rfl dX0_number_42 ?_
    refine g_icmp_ge (tgt := 110) h dX0_number_45 rfl hf (fun c5 hf => ?_) (fun c5 hf => ?_)
    · obtain ⟨rfl, rfl⟩ := sj2 hf
      exact G.lsub [1, 2, 3, 4] rfl k0
    · refine g_aload_n h 0 dX0_number_48 rfl rfl ?_
      refine g_get (ci := 0) (v := .int place) h in_X0 0 8 rfl rfl (fle rfl) rfl q1119 rfl dX0_number_49 ?_
      refine g_iload_n h 3 dX0_number_52 rfl rfl ?_
      refine g_iconst (v := 2) h dX0_number_53 kiconst_2 ?_
      refine g_iadd h dX0_number_54 ?_
      refine g_icmp_ge (tgt := 110) h dX0_number_55 rfl hf (fun c6 hf => ?_) (fun c6 hf => ?_)
      · obtain ⟨rfl, rfl⟩ := sj2 hf
        exact G.lsub [1, 2, 3, 4] rfl k0
      · refine g_aload_n h 0 dX0_number_58 rfl rfl ?_
        refine g_get (ci := 0) (v := .ref a_tape) h in_X0 0 6 rfl rfl (fle rfl) rfl q1117 rfl dX0_number_59 ?_
        refine g_aload_n h 0 dX0_number_62 rfl rfl ?_
        refine g_get (ci := 0) (v := .int place) h in_X0 0 8 rfl rfl (fle rfl) rfl q1119 rfl dX0_number_63 ?_
        obtain ⟨g7, hf⟩ := gn hf
        refine g_baload h 1 rfl g7 dX0_number_66 ?_
        refine g_i2l h dX0_number_67 ?_
        refine g_ldc2 h q342 dX0_number_68 ?_
        refine g_ldc2 h q343 dX0_number_71 ?_
        obtain ⟨r_8, hv, hf⟩ := ob1 hf
        refine g_callS (n := 3) (As := [.long ((tape place.toNatClampNeg).toInt64), .long 48, .long 57]) (st := []) (wr := [(a, .inr (0, [.ref a_kinds, .ref a_town, .ref a_tried, .ref a_fell, .int falls, .int tears, .ref a_tape, .int typed, .int place, .ref a_read, .ref a_undos, .ref a_kept, .ref a_keptUndos, .int isKept, .ref a_sheets, .ref a_taken])), (a_tape, .inl (X.E 0, 90, .inl tape))]) (isC := []) (isR := [0, 1]) h hR (ct_X0_in (x0 := (tape place.toNatClampNeg).toInt64) (x2 := 48) (x4 := 57) hv) (lw_S q107 q108 q70 q109) (by decide +kernel) rfl ⟨rfl, rfl, rfl, rfl, by decide⟩ ⟨hce, hsl, fle rfl, fle rfl, fle rfl⟩ rfl dX0_number_74 (pin (perm := [0, 1]) (ws' := [(a, .inr (0, [.ref a_kinds, .ref a_town, .ref a_tried, .ref a_fell, .int falls, .int tears, .ref a_tape, .int typed, .int place, .ref a_read, .ref a_undos, .ref a_kept, .ref a_keptUndos, .int isKept, .ref a_sheets, .ref a_taken])), (a_tape, .inl (X.E 0, 90, .inl tape))]) (stk := [.int r_8]) rfl rfl rfl ?_)
        clear hv
        refine g_if_eq (tgt := 110) h dX0_number_77 rfl hf (fun c9 hf => ?_) (fun c9 hf => ?_)
        · obtain ⟨rfl, rfl⟩ := sj2 hf
          exact G.lsub [1, 2, 3, 4] rfl k0
        · refine g_bipush (v := 10) h dX0_number_80 kbipush_10 ?_
          refine g_iload h 4 dX0_number_82 rfl ?_
          refine g_imul h dX0_number_84 ?_
          refine g_aload_n h 0 dX0_number_85 rfl rfl ?_
          refine g_get (ci := 0) (v := .ref a_tape) h in_X0 0 6 rfl rfl (fle rfl) rfl q1117 rfl dX0_number_86 ?_
          refine g_aload_n h 0 dX0_number_89 rfl rfl ?_
          refine g_dup h dX0_number_90 rfl ?_
          refine g_get (ci := 0) (v := .int place) h in_X0 0 8 rfl rfl (fle rfl) rfl q1119 rfl dX0_number_91 ?_
          refine g_dup_x1 h dX0_number_94 rfl rfl ?_
          refine g_iconst (v := 1) h dX0_number_95 kiconst_1 ?_
          refine g_iadd h dX0_number_96 ?_
          refine g_put (ci := 0) (ty := tyX0 8) (ws' := [(a, .inr (0, [.ref a_kinds, .ref a_town, .ref a_tried, .ref a_fell, .int falls, .int tears, .ref a_tape, .int typed, .int (place + 1), .ref a_read, .ref a_undos, .ref a_kept, .ref a_keptUndos, .int isKept, .ref a_sheets, .ref a_taken])), (a_tape, .inl (X.E 0, 90, .inl tape))]) h in_X0 tyX0 tyX0_ok nmX0 0 8 rfl rfl (fle rfl) ⟨rfl, rfl⟩ q1119 rfl rfl rfl (fle rfl) rfl dX0_number_97 ?_
          refine g_baload h 1 rfl g7 dX0_number_100 ?_
          refine g_iadd h dX0_number_101 ?_
          refine g_bipush (v := 48) h dX0_number_102 kbipush_48 ?_
          refine g_isub h dX0_number_104 ?_
          refine nm_i (fun y_10 ey_10 => ?_)
          have hf := nm_at hf y_10 ey_10
          refine g_istore (lv' := [(4, .int y_10), (0, .ref a), (1, .int x1), (2, .int x2), (3, .int x3)]) h dX0_number_105 (hL 4 (fle rfl)) rfl ?_
          refine g_goto (tgt := 37) h dX0_number_107 rfl ?_
          exact G.lsub [1, 2, 3, 4, 0] rfl (ih _ _ hf k0)
set_option maxHeartbeats 4000000 in
set_option maxRecDepth 100000 in
theorem ctT_X0_number {l : Launch} {D : va_G} {E : Ety} {a a_kinds a_town a_tried a_fell a_tape a_read a_undos a_kept a_keptUndos a_sheets a_taken : Nat} {x1 : Int32} {x2 : Int32} {falls : Int32} {tears : Int32} {typed : Int32} {place : Int32} {isKept : Int32} {tape : Nat → Int32} {v_ : Int32} {o_place : Int32} (hfl : l.flags = flags0) (hf : e_X0_number x1 x2 typed place tape = some (v_, o_place)) : CtT l yX0_number cX0_number 5 (some .int) 5 120 1 7 D E [.ref a, .int x1, .int x2] [(a, .inr (0, [.ref a_kinds, .ref a_town, .ref a_tried, .ref a_fell, .int falls, .int tears, .ref a_tape, .int typed, .int place, .ref a_read, .ref a_undos, .ref a_kept, .ref a_keptUndos, .int isKept, .ref a_sheets, .ref a_taken])), (a_tape, .inl (E 0, 90, .inl tape))] (fun C x w => C = "OneElastic$Fault" ∧ w = [(a, .inr (0, [.ref a_kinds, .ref a_town, .ref a_tried, .ref a_fell, .int falls, .int tears, .ref a_tape, .int typed, .int o_place, .ref a_read, .ref a_undos, .ref a_kept, .ref a_keptUndos, .int isKept, .ref a_sheets, .ref a_taken])), (a_tape, .inl (E 0, 90, .inl tape))] ++ [(x, .inr (13, [.int v_]))]) := by
  refine ct_ofT (own := RX0) (plainFor_of_name (by decide)) rfl (fle rfl) rfl ?_
  intro X hl hD hE hnL hXF h hR hF hx
  subst hl; subst hD; subst hE
  have hL : ∀ i, i < 5 → i < X.nL := fun i hi => by rw [hnL]; exact hi
  unfold e_X0_number at hf
  refine g_aload_n h 0 dX0_number_0 rfl rfl ?_
  obtain ⟨r_1, place_2, hv, hf⟩ := ob2 hf
  refine g_callV (ci := 0) (q0 := 0) (n := 0) (As := []) (st := []) (wr := []) (isC := [0, 1]) (isR := []) h hR (ct_X0_here (a := a) (a_kinds := a_kinds) (a_town := a_town) (a_tried := a_tried) (a_fell := a_fell) (a_tape := a_tape) (a_read := a_read) (a_undos := a_undos) (a_kept := a_kept) (a_keptUndos := a_keptUndos) (a_sheets := a_sheets) (a_taken := a_taken) (falls := falls) (tears := tears) (typed := typed) (place := place) (isKept := isKept) (tape := tape) hv) rfl rfl (lw_V q338 q340 qs9 q70 q341) (by decide +kernel) rfl ⟨rfl, rfl, rfl, rfl, by decide⟩ ⟨fle rfl, fle rfl, fle rfl, fle rfl, fle rfl⟩ rfl dX0_number_1 (pin (perm := [0, 1]) (ws' := [(a, .inr (0, [.ref a_kinds, .ref a_town, .ref a_tried, .ref a_fell, .int falls, .int tears, .ref a_tape, .int typed, .int place_2, .ref a_read, .ref a_undos, .ref a_kept, .ref a_keptUndos, .int isKept, .ref a_sheets, .ref a_taken])), (a_tape, .inl (X.E 0, 90, .inl tape))]) (stk := [.int r_1]) rfl rfl rfl ?_)
  clear hv
  refine g_i2l h dX0_number_4 ?_
  refine g_ldc2 h q342 dX0_number_5 ?_
  refine g_ldc2 h q343 dX0_number_8 ?_
  obtain ⟨r_3, hv, hf⟩ := ob1 hf
  refine g_callS (n := 3) (As := [.long r_1.toInt64, .long 48, .long 57]) (st := []) (wr := [(a, .inr (0, [.ref a_kinds, .ref a_town, .ref a_tried, .ref a_fell, .int falls, .int tears, .ref a_tape, .int typed, .int place_2, .ref a_read, .ref a_undos, .ref a_kept, .ref a_keptUndos, .int isKept, .ref a_sheets, .ref a_taken])), (a_tape, .inl (X.E 0, 90, .inl tape))]) (isC := []) (isR := [0, 1]) h hR (ct_X0_in (x0 := r_1.toInt64) (x2 := 48) (x4 := 57) hv) (lw_S q107 q108 q70 q109) (by decide +kernel) rfl ⟨rfl, rfl, rfl, rfl, by decide⟩ ⟨fle rfl, fle rfl, fle rfl, fle rfl, fle rfl⟩ rfl dX0_number_11 (pin (perm := [0, 1]) (ws' := [(a, .inr (0, [.ref a_kinds, .ref a_town, .ref a_tried, .ref a_fell, .int falls, .int tears, .ref a_tape, .int typed, .int place_2, .ref a_read, .ref a_undos, .ref a_kept, .ref a_keptUndos, .int isKept, .ref a_sheets, .ref a_taken])), (a_tape, .inl (X.E 0, 90, .inl tape))]) (stk := [.int r_3]) rfl rfl rfl ?_)
  clear hv
  refine g_if_ne (tgt := 29) h dX0_number_14 rfl hf (fun c4 hf => ?_) (fun c4 hf => ?_)
  · obtain ⟨rfl, rfl⟩ := sj2 hf
    exact t_fault (w := [(a, .inr (0, [.ref a_kinds, .ref a_town, .ref a_tried, .ref a_fell, .int falls, .int tears, .ref a_tape, .int typed, .int place_2, .ref a_read, .ref a_undos, .ref a_kept, .ref a_keptUndos, .int isKept, .ref a_sheets, .ref a_taken])), (a_tape, .inl (X.E 0, 90, .inl tape))]) (pc2 := 25) h hR hfl hx hF (fle rfl) (fle rfl) (fle rfl) (fle rfl) (fle rfl) [0, 1] rfl rfl (fun x => ⟨rfl, rfl⟩) dX0_number_17 dX0_number_20 (fun H locs ls q ce sl hP hl kW => lv_aload_n h.x h.b dX0_number_21 rfl (lv_at hl 0 rfl) (va_get (v := .int place_2) h.x h.b h.ts in_X0 h.own h.k hP 0 (apL rfl) (cl := vwCl) (C := RX0) (T := TX0) (N := 16) rfl 8 (fle rfl) (h.ts _ q1119) (fun _ e => e) rfl dX0_number_22 kW)) dX0_number_25 dX0_number_28
  · refine g_aload_n h 0 dX0_number_29 rfl rfl ?_
    refine g_get (ci := 0) (v := .int place_2) h in_X0 0 8 rfl rfl (fle rfl) rfl q1119 rfl dX0_number_30 ?_
    refine g_istore_n (lv' := [(3, .int place_2), (0, .ref a), (1, .int x1), (2, .int x2)]) h dX0_number_33 rfl (hL 3 (fle rfl)) rfl ?_
    refine g_iconst (v := 0) h dX0_number_34 kiconst_0 ?_
    refine g_istore (lv' := [(4, .int 0), (3, .int place_2), (0, .ref a), (1, .int x1), (2, .int x2)]) h dX0_number_35 (hL 4 (fle rfl)) rfl ?_
    refine G.lsub (lv' := [(0, .ref a), (1, .int x1), (2, .int x2), (3, .int place_2), (4, .int 0)]) [2, 3, 4, 1, 0] rfl ?_
    obtain ⟨x4_11, place_12, hv, hf⟩ := ob2 hf
    refine w_X0_numberE_L37 (x1 := x1) (x2 := x2) (x3 := place_2) (falls := falls) (tears := tears) (typed := typed) (isKept := isKept) (tape := tape) h hR hL (fle rfl) (fle rfl) FU _ _ hv ?_
    · clear hv
      refine g_iload h 3 dX0_number_110 rfl ?_
      refine g_i2l h dX0_number_112 ?_
      refine g_iload_n h 0 dX0_number_113 rfl rfl ?_
      refine g_i2l h dX0_number_114 ?_
      refine g_iload_n h 1 dX0_number_115 rfl rfl ?_
      refine g_i2l h dX0_number_116 ?_
      obtain ⟨r_13, hv, hf⟩ := ob1 hf
      refine g_callS (n := 3) (As := [.long x4_11.toInt64, .long x1.toInt64, .long x2.toInt64]) (st := []) (wr := [(a, .inr (0, [.ref a_kinds, .ref a_town, .ref a_tried, .ref a_fell, .int falls, .int tears, .ref a_tape, .int typed, .int place_12, .ref a_read, .ref a_undos, .ref a_kept, .ref a_keptUndos, .int isKept, .ref a_sheets, .ref a_taken])), (a_tape, .inl (X.E 0, 90, .inl tape))]) (isC := []) (isR := [0, 1]) h hR (ct_X0_in (x0 := x4_11.toInt64) (x2 := x1.toInt64) (x4 := x2.toInt64) hv) (lw_S q107 q108 q70 q109) (by decide +kernel) rfl ⟨rfl, rfl, rfl, rfl, by decide⟩ ⟨fle rfl, fle rfl, fle rfl, fle rfl, fle rfl⟩ rfl dX0_number_117 (pin (perm := [0, 1]) (ws' := [(a, .inr (0, [.ref a_kinds, .ref a_town, .ref a_tried, .ref a_fell, .int falls, .int tears, .ref a_tape, .int typed, .int place_12, .ref a_read, .ref a_undos, .ref a_kept, .ref a_keptUndos, .int isKept, .ref a_sheets, .ref a_taken])), (a_tape, .inl (X.E 0, 90, .inl tape))]) (stk := [.int r_13]) rfl rfl rfl ?_)
      clear hv
      refine g_if_ne (tgt := 132) h dX0_number_120 rfl hf (fun c14 hf => ?_) (fun c14 hf => ?_)
      · obtain ⟨rfl, rfl⟩ := sj2 hf
        exact t_fault (w := [(a, .inr (0, [.ref a_kinds, .ref a_town, .ref a_tried, .ref a_fell, .int falls, .int tears, .ref a_tape, .int typed, .int place_12, .ref a_read, .ref a_undos, .ref a_kept, .ref a_keptUndos, .int isKept, .ref a_sheets, .ref a_taken])), (a_tape, .inl (X.E 0, 90, .inl tape))]) (pc2 := 128) h hR hfl hx hF (fle rfl) (fle rfl) (fle rfl) (fle rfl) (fle rfl) [0, 1] rfl rfl (fun x => ⟨rfl, rfl⟩) dX0_number_123 dX0_number_126 (fun H locs ls q ce sl hP hl kW => lv_iload_n h.x h.b dX0_number_127 rfl (lv_at hl 2 rfl) kW) dX0_number_128 dX0_number_131
      · refine g_iload h 3 dX0_number_132 rfl ?_
        exact nomatch hf
