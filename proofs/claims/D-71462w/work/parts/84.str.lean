set_option maxRecDepth 100000
section
variable {X : Cx} {cc : ByteArray} {own : String} {ws wc wr : va_W} {lv : LV} {ce sl pc fr lo mc ms : Nat} {st : List Value}
variable {y : MethodName} {cy : ByteArray} {nLy : Nat} {ry : Option FieldType} {fry loy mcy msy idx n : Nat} {As : List Value} {Po : Option Value → va_W → Prop}
theorem g_bret (h : Ok X cc own) {w : va_W} {v : Int32} {rt : FieldType} (hF : FinQ X (some rt) mc ms Po) (hz : narrow rt (.int v) = .int v) (is : List Nat) (hn : va_nd is = true) (hs : is.map (fun i => ws[i]?) = w.map some) (hq : Po (some (.int v)) w) (h1 : ce ≤ mc) (h2 : sl ≤ ms) (d : decode cc pc = .ok (.ireturn, 1)) : G X ws lv ce sl pc [.int v] := by
  intro H locs ls hP hD hS hl
  refine W.widen h1 h2 ?_
  rw [hF.2]
  exact W.zret h.x h.b hF.1 hz (fun t ht hW => ⟨⟨_, w, rfl, hq, by rw [ht]; exact lP (subP hs hP), lD (subD hn hs hD)⟩, hS.F ht⟩) hS.2.2 d h.lk
theorem eqi {a b : Int32} (h : a = b) (k : G X ws lv ce sl pc (.int b :: st)) : G X ws lv ce sl pc (.int a :: st) := by rw [h]; exact k
theorem g_ldcS (h : Ok X cc "OneElastic") (d : decode cc pc = .ok (.ldc 181, 2)) (k : G X ws lv ce sl (pc + 2) (.ref (X.E 100) :: st)) : G X ws lv ce sl pc st :=
  fun H locs ls hP hD hS hl => va_ldcS h.x h.b h.own h.hh.2.1 d (k H locs ls hP hD hS hl)
theorem g_getsC (h : Ok X cc own) (w : Cond.fieldLink own idx "java/lang/String" "COMPACT_STRINGS" "Z" ∈ lw_all) (d : decode cc pc = .ok (.getstatic idx, 3)) (k : G X ws lv ce sl (pc + 3) (.int 1 :: st)) : G X ws lv ce sl pc st :=
  fun H locs ls hP hD hS hl => va_gets h.x h.b h.hh.2.2.1 hS h.own (h.ts _ w) (fun _ e => e) d (k H locs ls hP hD hS hl)
theorem g_strV (h : Ok X cc own) (w : Cond.fieldLink own idx "java/lang/String" "value" "[B" ∈ lw_all) (d : decode cc pc = .ok (.getfield idx, 3)) (k : G X ws lv ce sl (pc + 3) (.ref (X.E 101) :: st)) : G X ws lv ce sl pc (.ref (X.E 100) :: st) :=
  fun H locs ls hP hD hS hl => vk_getf h.x h.b ((h.hh.1.1 0 (by decide)).2.2.1) hS h.own (h.ts _ w) (fun _ e => e) d (k H locs ls hP hD hS hl)
theorem g_strC (h : Ok X cc own) (w : Cond.fieldLink own idx "java/lang/String" "coder" "B" ∈ lw_all) (d : decode cc pc = .ok (.getfield idx, 3)) (k : G X ws lv ce sl (pc + 3) (.int 0 :: st)) : G X ws lv ce sl pc (.ref (X.E 100) :: st) :=
  fun H locs ls hP hD hS hl => vk_getf h.x h.b ((h.hh.1.1 0 (by decide)).2.1) hS h.own (h.ts _ w) (fun _ e => e) d (k H locs ls hP hD hS hl)
theorem g_strl (h : Ok X cc own) (d : decode cc pc = .ok (.arraylength, 1)) (k : G X ws lv ce sl (pc + 1) (.int 5 :: st)) : G X ws lv ce sl pc (.ref (X.E 101) :: st) :=
  fun H locs ls hP hD hS hl => va_tlen h.x h.b ((h.hh.1.1 0 (by decide)).2.2.2) hS (by decide) d (k H locs ls hP hD hS hl)
theorem g_strb (h : Ok X cc own) {i v : Int32} (hi : ¬ (i < 0 ∨ 5 ≤ i.toNatClampNeg)) (hv : ([112, 115, 114, 121, 116] : List Int32).getD i.toNatClampNeg 0 = v) (d : decode cc pc = .ok (.baload, 1)) (k : G X ws lv ce sl (pc + 1) (.int v :: st)) : G X ws lv ce sl pc (.int i :: .ref (X.E 101) :: st) :=
  fun H locs ls hP hD hS hl => va_tb h.x h.b ((h.hh.1.1 0 (by decide)).2.2.2) hS hi (by show Value.int (([112, 115, 114, 121, 116] : List Int32).getD i.toNatClampNeg 0) = _; rw [hv]) d (k H locs ls hP hD hS hl)
theorem g_callVK {isC isR : List Nat} {stk : List Value} (h : Ok X cc own) (hR : Rm X fr lo mc ms) (hM : Ct X.l y cy nLy ry fry loy mcy msy X.D X.E (.ref (X.E 100) :: As) wc Po) (w : GoodIn lw_all (wsV own idx "java/lang/String" y (ws_ y cy nLy ry))) (hd : y.cls = "java/lang/String" ∧ Dsc y n) (hn : As.length = n) (hp : Pla ws wc wr isC isR) (hf : Fits ce sl mcy msy mc ms fry loy nLy fr lo st) (hstk : As.reverse ++ .ref (X.E 100) :: st = stk) (d : decode cc pc = .ok (.invokevirtual idx, 3))
    (k : ∀ (v : Option Value) (w : va_W), Po v w → G X (wr ++ w) lv (ce + mcy) (sl + msy) (pc + 3) (v.toList ++ st)) : G X ws lv ce sl pc stk := by
  intro H locs ls hP hD hS hl
  obtain ⟨p0, p1, p2, p3, p4⟩ := hp
  obtain ⟨f1, f2, f3, f4, f5⟩ := hf
  subst hstk
  have hpre := pre_S (av := .ref (X.E 100) :: As) h p0 p1 hP hD hS
  exact va_gon h p1 p2 p3 p4 hP hD hS hl (va_runV (As := As) (rest := st) ⟨h.x, h.b, h.ml, h.own, h.ts⟩ (hM H.size) (cwV n h.ts w rfl rfl rfl hd ⟨Nat.le_trans f3 hR.1, Nat.le_trans f4 hR.2.1⟩) ⟨hpre.1, vk_recv (i := 0) h.hh.1 (by decide) hS, hpre.2⟩ rfl hn hl.1 rfl (lv_room f5) d ⟨Nat.le_trans f1 hR.2.2.1, Nat.le_trans f2 hR.2.2.2⟩) k
end
theorem ksipush_255 : ((Int16.ofInt 255).toInt32) = 255 := by decide
def f_J6_canEncode (x0 : Int32) : Option (Int32) :=
  if x0 < 0 then
    some 0
  else
    if 255 < x0 then
      some 0
    else
      some 1
def f_J5_isLatin1  : Option (Int32) :=
  some 1
def f_J5_coder  : Option (Int32) :=
  some 0
def f_J5_length  : Option (Int32) :=
  some 5
def f_J6_indexOfChar (x1 : Int32) : Option (Int32) :=
  if 112 = x1.toInt8.toInt32 then
    some 0
  else
    if 115 = x1.toInt8.toInt32 then
      some 1
    else
      if 114 = x1.toInt8.toInt32 then
        some 2
      else
        if 121 = x1.toInt8.toInt32 then
          some 3
        else
          if 116 = x1.toInt8.toInt32 then
            some 4
          else
            some (-1)
def f_J6_indexOf (x1 : Int32) : Option (Int32) :=
  b1 (f_J6_canEncode x1) fun r_1 =>
  if r_1 = 0 then
    some (-1)
  else
    b1 (f_J6_indexOfChar x1) fun r_7 =>
    some r_7
def f_J5_indexOf_2 (x1 : Int32) : Option (Int32) :=
  b1 (f_J6_indexOf x1) fun r_5 =>
  some r_5
def f_J5_indexOf (x1 : Int32) : Option (Int32) :=
  b1 (f_J5_indexOf_2 x1) fun r_1 =>
  some r_1
set_option maxHeartbeats 4000000 in
set_option maxRecDepth 100000 in
theorem ct_J6_canEncode {l : Launch} {D : va_G} {E : Ety}  {x0 : Int32} {r_ : Int32} (hf : f_J6_canEncode x0 = some r_) : Ct l yJ6_canEncode cJ6_canEncode 1 (some .boolean) 0 0 0 0 D E [.int x0] [] (Pn (some (.int r_)) []) := by
  refine ct_of (own := RJ6) (plainFor_of_name (by decide)) rfl (fle rfl) rfl ?_
  intro X hl hD hE hnL hXF h hR hF hnm
  subst hl; subst hD; subst hE
  have hL : ∀ i, i < 1 → i < X.nL := fun i hi => by rw [hnL]; exact hi
  unfold f_J6_canEncode at hf
  refine g_iload_n h 0 dJ6_canEncode_0 rfl rfl ?_
  refine g_if_lt (tgt := 15) h dJ6_canEncode_1 rfl hf (fun c1 hf => ?_) (fun c1 hf => ?_)
  · refine g_iconst (v := 0) h dJ6_canEncode_15 kiconst_0 ?_
    obtain rfl := sj1 hf
    exact g_zret h hF rfl [] rfl rfl ⟨rfl, rfl⟩ (fle rfl) (fle rfl) dJ6_canEncode_16
  · refine g_iload_n h 0 dJ6_canEncode_4 rfl rfl ?_
    refine g_sipush (v := 255) h dJ6_canEncode_5 ksipush_255 ?_
    refine g_icmp_gt (tgt := 15) h dJ6_canEncode_8 rfl hf (fun c2 hf => ?_) (fun c2 hf => ?_)
    · refine g_iconst (v := 0) h dJ6_canEncode_15 kiconst_0 ?_
      obtain rfl := sj1 hf
      exact g_zret h hF rfl [] rfl rfl ⟨rfl, rfl⟩ (fle rfl) (fle rfl) dJ6_canEncode_16
    · refine g_iconst (v := 1) h dJ6_canEncode_11 kiconst_1 ?_
      refine g_goto (tgt := 16) h dJ6_canEncode_12 rfl ?_
      obtain rfl := sj1 hf
      exact g_zret h hF rfl [] rfl rfl ⟨rfl, rfl⟩ (fle rfl) (fle rfl) dJ6_canEncode_16
set_option maxHeartbeats 4000000 in
set_option maxRecDepth 100000 in
theorem ct_J5_isLatin1 {l : Launch} {D : va_G} {E : Ety}   {r_ : Int32} (hf : f_J5_isLatin1  = some r_) : Ct l yJ5_isLatin1 cJ5_isLatin1 1 (some .boolean) 0 0 0 0 D E [.ref (E 100)] [] (Pn (some (.int r_)) []) := by
  refine ct_of (own := RJ5) (plainFor_of_name (by decide)) rfl (fle rfl) rfl ?_
  intro X hl hD hE hnL hXF h hR hF hnm
  subst hl; subst hD; subst hE
  have hL : ∀ i, i < 1 → i < X.nL := fun i hi => by rw [hnL]; exact hi
  unfold f_J5_isLatin1 at hf
  refine g_getsC h q447 dJ5_isLatin1_0 ?_
  refine b_if_eq (tgt := 17) h dJ5_isLatin1_3 rfl (fun c0 => absurd c0 (by decide)) (fun _ => ?_)
  refine g_aload_n h 0 dJ5_isLatin1_6 rfl rfl ?_
  refine g_strC h q1621 dJ5_isLatin1_7 ?_
  refine b_if_ne (tgt := 17) h dJ5_isLatin1_10 rfl (fun _ => ?_) (fun c0 => absurd (by decide) c0)
  refine g_iconst (v := 1) h dJ5_isLatin1_13 kiconst_1 ?_
  refine g_goto (tgt := 18) h dJ5_isLatin1_14 rfl ?_
  obtain rfl := sj1 hf
  exact g_zret h hF rfl [] rfl rfl ⟨rfl, rfl⟩ (fle rfl) (fle rfl) dJ5_isLatin1_18
set_option maxHeartbeats 4000000 in
set_option maxRecDepth 100000 in
theorem ct_J5_coder {l : Launch} {D : va_G} {E : Ety}   {r_ : Int32} (hf : f_J5_coder  = some r_) : Ct l yJ5_coder cJ5_coder 1 (some .byte) 0 0 0 0 D E [.ref (E 100)] [] (Pn (some (.int r_)) []) := by
  refine ct_of (own := RJ5) (plainFor_of_name (by decide)) rfl (fle rfl) rfl ?_
  intro X hl hD hE hnL hXF h hR hF hnm
  subst hl; subst hD; subst hE
  have hL : ∀ i, i < 1 → i < X.nL := fun i hi => by rw [hnL]; exact hi
  unfold f_J5_coder at hf
  refine g_getsC h q447 dJ5_coder_0 ?_
  refine b_if_eq (tgt := 13) h dJ5_coder_3 rfl (fun c0 => absurd c0 (by decide)) (fun _ => ?_)
  refine g_aload_n h 0 dJ5_coder_6 rfl rfl ?_
  refine g_strC h q1621 dJ5_coder_7 ?_
  refine g_goto (tgt := 14) h dJ5_coder_10 rfl ?_
  obtain rfl := sj1 hf
  exact g_bret h hF rfl [] rfl rfl ⟨rfl, rfl⟩ (fle rfl) (fle rfl) dJ5_coder_14
set_option maxHeartbeats 4000000 in
set_option maxRecDepth 100000 in
theorem ct_J5_length {l : Launch} {D : va_G} {E : Ety}   {r_ : Int32} (hf : f_J5_length  = some r_) : Ct l yJ5_length cJ5_length 1 (some .int) 1 20 0 0 D E [.ref (E 100)] [] (Pn (some (.int r_)) []) := by
  refine ct_of (own := RJ5) (plainFor_of_name (by decide)) rfl (fle rfl) rfl ?_
  intro X hl hD hE hnL hXF h hR hF hnm
  subst hl; subst hD; subst hE
  have hL : ∀ i, i < 1 → i < X.nL := fun i hi => by rw [hnL]; exact hi
  unfold f_J5_length at hf
  refine g_aload_n h 0 dJ5_length_0 rfl rfl ?_
  refine g_strV h q1622 dJ5_length_1 ?_
  refine g_strl h dJ5_length_4 ?_
  refine g_aload_n h 0 dJ5_length_5 rfl rfl ?_
  have hv : f_J5_coder = some 0 := by rfl
  refine g_callVK (n := 0) (As := []) (st := [.int 5]) (wr := []) (isC := []) (isR := []) h hR (ct_J5_coder  hv) (lw_V q453 q454 q455 q86 q456) (by decide +kernel) rfl ⟨rfl, rfl, rfl, rfl, by decide⟩ ⟨fle rfl, fle rfl, fle rfl, fle rfl, fle rfl⟩ rfl dJ5_length_6 (pin (perm := []) (ws' := []) (stk := [.int 0, .int 5]) rfl rfl rfl ?_)
  clear hv
  refine g_ishr h dJ5_length_9 ?_
  refine eqi (show ((5 : Int32) >>> ((0 : Int32) &&& 31)) = 5 by decide) ?_
  obtain rfl := sj1 hf
  exact g_iret h hF [] rfl rfl ⟨rfl, rfl⟩ (fle rfl) (fle rfl) dJ5_length_10
set_option maxHeartbeats 4000000 in
set_option maxRecDepth 100000 in
theorem ct_J6_indexOfChar {l : Launch} {D : va_G} {E : Ety}  {x1 : Int32} {r_ : Int32} (hf : f_J6_indexOfChar x1 = some r_) : Ct l yJ6_indexOfChar cJ6_indexOfChar 6 (some .int) 0 0 0 0 D E [.ref (E 101), .int x1, .int 0, .int 5] [] (Pn (some (.int r_)) []) := by
  refine ct_of (own := RJ6) (plainFor_of_name (by decide)) rfl (fle rfl) rfl ?_
  intro X hl hD hE hnL hXF h hR hF hnm
  subst hl; subst hD; subst hE
  have hL : ∀ i, i < 6 → i < X.nL := fun i hi => by rw [hnL]; exact hi
  unfold f_J6_indexOfChar at hf
  refine g_iload_n h 1 dJ6_indexOfChar_0 rfl rfl ?_
  refine g_i2b h dJ6_indexOfChar_1 ?_
  refine g_istore (lv' := [(4, .int x1.toInt8.toInt32), (0, .ref (X.E 101)), (1, .int x1), (2, .int 0), (3, .int 5)]) h dJ6_indexOfChar_2 (hL 4 (fle rfl)) rfl ?_
  refine g_iload_n h 3 dJ6_indexOfChar_4 rfl rfl ?_
  refine g_istore (lv' := [(5, .int 0), (4, .int x1.toInt8.toInt32), (0, .ref (X.E 101)), (1, .int x1), (2, .int 0), (3, .int 5)]) h dJ6_indexOfChar_5 (hL 5 (fle rfl)) rfl ?_
  refine g_iload h 0 dJ6_indexOfChar_7 rfl ?_
  refine g_iload_n h 5 dJ6_indexOfChar_9 rfl rfl ?_
  refine b_icmp_ge (tgt := 31) h dJ6_indexOfChar_10 rfl (fun c0 => absurd c0 (by decide)) (fun _ => ?_)
  refine g_aload_n h 2 dJ6_indexOfChar_13 rfl rfl ?_
  refine g_iload h 0 dJ6_indexOfChar_14 rfl ?_
  refine g_strb (i := 0) (v := 112) h (by decide) (by decide) dJ6_indexOfChar_16 ?_
  refine g_iload h 1 dJ6_indexOfChar_17 rfl ?_
  refine g_icmp_ne (tgt := 25) h dJ6_indexOfChar_19 rfl hf (fun c1 hf => ?_) (fun c1 hf => ?_)
  · refine g_iload h 0 dJ6_indexOfChar_22 rfl ?_
    obtain rfl := sj1 hf
    exact g_iret h hF [] rfl rfl ⟨rfl, rfl⟩ (fle rfl) (fle rfl) dJ6_indexOfChar_24
  · refine g_iinc (j := 0) (v := 1) (lv' := [(5, .int 1), (4, .int x1.toInt8.toInt32), (0, .ref (X.E 101)), (1, .int x1), (2, .int 0), (3, .int 5)]) h dJ6_indexOfChar_25 rfl (by decide) (hL 5 (fle rfl)) rfl ?_
    refine g_goto (tgt := 7) h dJ6_indexOfChar_28 rfl ?_
    refine g_iload h 0 dJ6_indexOfChar_7 rfl ?_
    refine g_iload_n h 5 dJ6_indexOfChar_9 rfl rfl ?_
    refine b_icmp_ge (tgt := 31) h dJ6_indexOfChar_10 rfl (fun c0 => absurd c0 (by decide)) (fun _ => ?_)
    refine g_aload_n h 2 dJ6_indexOfChar_13 rfl rfl ?_
    refine g_iload h 0 dJ6_indexOfChar_14 rfl ?_
    refine g_strb (i := 1) (v := 115) h (by decide) (by decide) dJ6_indexOfChar_16 ?_
    refine g_iload h 1 dJ6_indexOfChar_17 rfl ?_
    refine g_icmp_ne (tgt := 25) h dJ6_indexOfChar_19 rfl hf (fun c2 hf => ?_) (fun c2 hf => ?_)
    · refine g_iload h 0 dJ6_indexOfChar_22 rfl ?_
      obtain rfl := sj1 hf
      exact g_iret h hF [] rfl rfl ⟨rfl, rfl⟩ (fle rfl) (fle rfl) dJ6_indexOfChar_24
    · refine g_iinc (j := 0) (v := 2) (lv' := [(5, .int 2), (4, .int x1.toInt8.toInt32), (0, .ref (X.E 101)), (1, .int x1), (2, .int 0), (3, .int 5)]) h dJ6_indexOfChar_25 rfl (by decide) (hL 5 (fle rfl)) rfl ?_
      refine g_goto (tgt := 7) h dJ6_indexOfChar_28 rfl ?_
      refine g_iload h 0 dJ6_indexOfChar_7 rfl ?_
      refine g_iload_n h 5 dJ6_indexOfChar_9 rfl rfl ?_
      refine b_icmp_ge (tgt := 31) h dJ6_indexOfChar_10 rfl (fun c0 => absurd c0 (by decide)) (fun _ => ?_)
      refine g_aload_n h 2 dJ6_indexOfChar_13 rfl rfl ?_
      refine g_iload h 0 dJ6_indexOfChar_14 rfl ?_
      refine g_strb (i := 2) (v := 114) h (by decide) (by decide) dJ6_indexOfChar_16 ?_
      refine g_iload h 1 dJ6_indexOfChar_17 rfl ?_
      refine g_icmp_ne (tgt := 25) h dJ6_indexOfChar_19 rfl hf (fun c3 hf => ?_) (fun c3 hf => ?_)
      · refine g_iload h 0 dJ6_indexOfChar_22 rfl ?_
        obtain rfl := sj1 hf
        exact g_iret h hF [] rfl rfl ⟨rfl, rfl⟩ (fle rfl) (fle rfl) dJ6_indexOfChar_24
      · refine g_iinc (j := 0) (v := 3) (lv' := [(5, .int 3), (4, .int x1.toInt8.toInt32), (0, .ref (X.E 101)), (1, .int x1), (2, .int 0), (3, .int 5)]) h dJ6_indexOfChar_25 rfl (by decide) (hL 5 (fle rfl)) rfl ?_
        refine g_goto (tgt := 7) h dJ6_indexOfChar_28 rfl ?_
        refine g_iload h 0 dJ6_indexOfChar_7 rfl ?_
        refine g_iload_n h 5 dJ6_indexOfChar_9 rfl rfl ?_
        refine b_icmp_ge (tgt := 31) h dJ6_indexOfChar_10 rfl (fun c0 => absurd c0 (by decide)) (fun _ => ?_)
        refine g_aload_n h 2 dJ6_indexOfChar_13 rfl rfl ?_
        refine g_iload h 0 dJ6_indexOfChar_14 rfl ?_
        refine g_strb (i := 3) (v := 121) h (by decide) (by decide) dJ6_indexOfChar_16 ?_
        refine g_iload h 1 dJ6_indexOfChar_17 rfl ?_
        refine g_icmp_ne (tgt := 25) h dJ6_indexOfChar_19 rfl hf (fun c4 hf => ?_) (fun c4 hf => ?_)
        · refine g_iload h 0 dJ6_indexOfChar_22 rfl ?_
          obtain rfl := sj1 hf
          exact g_iret h hF [] rfl rfl ⟨rfl, rfl⟩ (fle rfl) (fle rfl) dJ6_indexOfChar_24
        · refine g_iinc (j := 0) (v := 4) (lv' := [(5, .int 4), (4, .int x1.toInt8.toInt32), (0, .ref (X.E 101)), (1, .int x1), (2, .int 0), (3, .int 5)]) h dJ6_indexOfChar_25 rfl (by decide) (hL 5 (fle rfl)) rfl ?_
          refine g_goto (tgt := 7) h dJ6_indexOfChar_28 rfl ?_
          refine g_iload h 0 dJ6_indexOfChar_7 rfl ?_
          refine g_iload_n h 5 dJ6_indexOfChar_9 rfl rfl ?_
          refine b_icmp_ge (tgt := 31) h dJ6_indexOfChar_10 rfl (fun c0 => absurd c0 (by decide)) (fun _ => ?_)
          refine g_aload_n h 2 dJ6_indexOfChar_13 rfl rfl ?_
          refine g_iload h 0 dJ6_indexOfChar_14 rfl ?_
          refine g_strb (i := 4) (v := 116) h (by decide) (by decide) dJ6_indexOfChar_16 ?_
          refine g_iload h 1 dJ6_indexOfChar_17 rfl ?_
          refine g_icmp_ne (tgt := 25) h dJ6_indexOfChar_19 rfl hf (fun c5 hf => ?_) (fun c5 hf => ?_)
          · refine g_iload h 0 dJ6_indexOfChar_22 rfl ?_
            obtain rfl := sj1 hf
            exact g_iret h hF [] rfl rfl ⟨rfl, rfl⟩ (fle rfl) (fle rfl) dJ6_indexOfChar_24
          · refine g_iinc (j := 0) (v := 5) (lv' := [(5, .int 5), (4, .int x1.toInt8.toInt32), (0, .ref (X.E 101)), (1, .int x1), (2, .int 0), (3, .int 5)]) h dJ6_indexOfChar_25 rfl (by decide) (hL 5 (fle rfl)) rfl ?_
            refine g_goto (tgt := 7) h dJ6_indexOfChar_28 rfl ?_
            refine g_iload h 0 dJ6_indexOfChar_7 rfl ?_
            refine g_iload_n h 5 dJ6_indexOfChar_9 rfl rfl ?_
            refine b_icmp_ge (tgt := 31) h dJ6_indexOfChar_10 rfl (fun _ => ?_) (fun c0 => absurd (by decide) c0)
            refine g_iconst (v := (-1)) h dJ6_indexOfChar_31 kiconst_m1 ?_
            obtain rfl := sj1 hf
            exact g_iret h hF [] rfl rfl ⟨rfl, rfl⟩ (fle rfl) (fle rfl) dJ6_indexOfChar_32
set_option maxHeartbeats 4000000 in
set_option maxRecDepth 100000 in
theorem ct_J6_indexOf {l : Launch} {D : va_G} {E : Ety}  {x1 : Int32} {r_ : Int32} (hf : f_J6_indexOf x1 = some r_) : Ct l yJ6_indexOf cJ6_indexOf 4 (some .int) 1 25 0 0 D E [.ref (E 101), .int x1, .int 0, .int 5] [] (Pn (some (.int r_)) []) := by
  refine ct_of (own := RJ6) (plainFor_of_name (by decide)) rfl (fle rfl) rfl ?_
  intro X hl hD hE hnL hXF h hR hF hnm
  subst hl; subst hD; subst hE
  have hL : ∀ i, i < 4 → i < X.nL := fun i hi => by rw [hnL]; exact hi
  unfold f_J6_indexOf at hf
  refine g_iload_n h 1 dJ6_indexOf_0 rfl rfl ?_
  obtain ⟨r_1, hv, hf⟩ := ob1 hf
  refine g_callS (n := 1) (As := [.int x1]) (st := []) (wr := []) (isC := []) (isR := []) h hR (ct_J6_canEncode (x0 := x1) hv) (lw_S q460 q461 q87 q462) (by decide +kernel) rfl ⟨rfl, rfl, rfl, rfl, by decide⟩ ⟨fle rfl, fle rfl, fle rfl, fle rfl, fle rfl⟩ rfl dJ6_indexOf_1 (pin (perm := []) (ws' := []) (stk := [.int r_1]) rfl rfl rfl ?_)
  clear hv
  refine g_if_ne (tgt := 9) h dJ6_indexOf_4 rfl hf (fun c2 hf => ?_) (fun c2 hf => ?_)
  · refine g_iconst (v := (-1)) h dJ6_indexOf_7 kiconst_m1 ?_
    obtain rfl := sj1 hf
    exact g_iret h hF [] rfl rfl ⟨rfl, rfl⟩ (fle rfl) (fle rfl) dJ6_indexOf_8
  · refine g_iload_n h 2 dJ6_indexOf_9 rfl rfl ?_
    refine g_iconst (v := 0) h dJ6_indexOf_10 kiconst_0 ?_
    have hv : f_J2_max 0 0 = some 0 := by rfl
    refine g_callS (n := 2) (As := [.int 0, .int 0]) (st := []) (wr := []) (isC := []) (isR := []) h hR (ct_J2_max (x0 := 0) (x1 := 0) hv) (lw_S q463 q193 q81 q194) (by decide +kernel) rfl ⟨rfl, rfl, rfl, rfl, by decide⟩ ⟨fle rfl, fle rfl, fle rfl, fle rfl, fle rfl⟩ rfl dJ6_indexOf_11 (pin (perm := []) (ws' := []) (stk := [.int 0]) rfl rfl rfl ?_)
    clear hv
    refine g_istore_n (lv' := [(2, .int 0), (0, .ref (X.E 101)), (1, .int x1), (3, .int 5)]) h dJ6_indexOf_14 rfl (hL 2 (fle rfl)) rfl ?_
    refine g_iload_n h 3 dJ6_indexOf_15 rfl rfl ?_
    refine g_aload_n h 1 dJ6_indexOf_16 rfl rfl ?_
    refine g_strl h dJ6_indexOf_17 ?_
    have hv : f_J2_min 5 5 = some 5 := by rfl
    refine g_callS (n := 2) (As := [.int 5, .int 5]) (st := []) (wr := []) (isC := []) (isR := []) h hR (ct_J2_min (x0 := 5) (x1 := 5) hv) (lw_S q464 q465 q81 q466) (by decide +kernel) rfl ⟨rfl, rfl, rfl, rfl, by decide⟩ ⟨fle rfl, fle rfl, fle rfl, fle rfl, fle rfl⟩ rfl dJ6_indexOf_18 (pin (perm := []) (ws' := []) (stk := [.int 5]) rfl rfl rfl ?_)
    clear hv
    refine g_istore_n (lv' := [(3, .int 5), (2, .int 0), (0, .ref (X.E 101)), (1, .int x1)]) h dJ6_indexOf_21 rfl (hL 3 (fle rfl)) rfl ?_
    refine g_iload_n h 1 dJ6_indexOf_22 rfl rfl ?_
    refine g_iload_n h 0 dJ6_indexOf_23 rfl rfl ?_
    refine b_icmp_lt (tgt := 29) h dJ6_indexOf_24 rfl (fun _ => ?_) (fun c0 => absurd (by decide) c0)
    refine g_aload_n h 2 dJ6_indexOf_29 rfl rfl ?_
    refine g_iload_n h 3 dJ6_indexOf_30 rfl rfl ?_
    refine g_iload_n h 1 dJ6_indexOf_31 rfl rfl ?_
    refine g_iload_n h 0 dJ6_indexOf_32 rfl rfl ?_
    obtain ⟨r_7, hv, hf⟩ := ob1 hf
    refine g_callS (n := 4) (As := [.ref (X.E 101), .int x1, .int 0, .int 5]) (st := []) (wr := []) (isC := []) (isR := []) h hR (ct_J6_indexOfChar (x1 := x1) hv) (lw_S q467 q468 q87 q469) (by decide +kernel) rfl ⟨rfl, rfl, rfl, rfl, by decide⟩ ⟨fle rfl, fle rfl, fle rfl, fle rfl, fle rfl⟩ rfl dJ6_indexOf_33 (pin (perm := []) (ws' := []) (stk := [.int r_7]) rfl rfl rfl ?_)
    clear hv
    obtain rfl := sj1 hf
    exact g_iret h hF [] rfl rfl ⟨rfl, rfl⟩ (fle rfl) (fle rfl) dJ6_indexOf_36
set_option maxHeartbeats 4000000 in
set_option maxRecDepth 100000 in
theorem ct_J5_indexOf_2 {l : Launch} {D : va_G} {E : Ety}  {x1 : Int32} {r_ : Int32} (hf : f_J5_indexOf_2 x1 = some r_) : Ct l yJ5_indexOf_2 cJ5_indexOf_2 3 (some .int) 2 48 0 0 D E [.ref (E 100), .int x1, .int 0] [] (Pn (some (.int r_)) []) := by
  refine ct_of (own := RJ5) (plainFor_of_name (by decide)) rfl (fle rfl) rfl ?_
  intro X hl hD hE hnL hXF h hR hF hnm
  subst hl; subst hD; subst hE
  have hL : ∀ i, i < 3 → i < X.nL := fun i hi => by rw [hnL]; exact hi
  unfold f_J5_indexOf_2 at hf
  refine g_aload_n h 0 dJ5_indexOf_2_0 rfl rfl ?_
  have hv : f_J5_isLatin1 = some 1 := by rfl
  refine g_callVK (n := 0) (As := []) (st := []) (wr := []) (isC := []) (isR := []) h hR (ct_J5_isLatin1  hv) (lw_V q443 q444 q445 q86 q446) (by decide +kernel) rfl ⟨rfl, rfl, rfl, rfl, by decide⟩ ⟨fle rfl, fle rfl, fle rfl, fle rfl, fle rfl⟩ rfl dJ5_indexOf_2_1 (pin (perm := []) (ws' := []) (stk := [.int 1]) rfl rfl rfl ?_)
  clear hv
  refine b_if_eq (tgt := 23) h dJ5_indexOf_2_4 rfl (fun c0 => absurd c0 (by decide)) (fun _ => ?_)
  refine g_aload_n h 0 dJ5_indexOf_2_7 rfl rfl ?_
  refine g_strV h q1622 dJ5_indexOf_2_8 ?_
  refine g_iload_n h 1 dJ5_indexOf_2_11 rfl rfl ?_
  refine g_iload_n h 2 dJ5_indexOf_2_12 rfl rfl ?_
  refine g_aload_n h 0 dJ5_indexOf_2_13 rfl rfl ?_
  have hv : f_J5_length = some 5 := by rfl
  refine g_callVK (n := 0) (As := []) (st := [.int 0, .int x1, .ref (X.E 101)]) (wr := []) (isC := []) (isR := []) h hR (ct_J5_length  hv) (lw_V q449 q450 q451 q86 q452) (by decide +kernel) rfl ⟨rfl, rfl, rfl, rfl, by decide⟩ ⟨fle rfl, fle rfl, fle rfl, fle rfl, fle rfl⟩ rfl dJ5_indexOf_2_14 (pin (perm := []) (ws' := []) (stk := [.int 5, .int 0, .int x1, .ref (X.E 101)]) rfl rfl rfl ?_)
  clear hv
  obtain ⟨r_5, hv, hf⟩ := ob1 hf
  refine g_callS (n := 4) (As := [.ref (X.E 101), .int x1, .int 0, .int 5]) (st := []) (wr := []) (isC := []) (isR := []) h hR (ct_J6_indexOf (x1 := x1) hv) (lw_S q457 q458 q87 q459) (by decide +kernel) rfl ⟨rfl, rfl, rfl, rfl, by decide⟩ ⟨fle rfl, fle rfl, fle rfl, fle rfl, fle rfl⟩ rfl dJ5_indexOf_2_17 (pin (perm := []) (ws' := []) (stk := [.int r_5]) rfl rfl rfl ?_)
  clear hv
  refine g_goto (tgt := 36) h dJ5_indexOf_2_20 rfl ?_
  obtain rfl := sj1 hf
  exact g_iret h hF [] rfl rfl ⟨rfl, rfl⟩ (fle rfl) (fle rfl) dJ5_indexOf_2_36
set_option maxHeartbeats 4000000 in
set_option maxRecDepth 100000 in
theorem ct_J5_indexOf {l : Launch} {D : va_G} {E : Ety}  {x1 : Int32} {r_ : Int32} (hf : f_J5_indexOf x1 = some r_) : Ct l yJ5_indexOf cJ5_indexOf 2 (some .int) 3 70 0 0 D E [.ref (E 100), .int x1] [] (Pn (some (.int r_)) []) := by
  refine ct_of (own := RJ5) (plainFor_of_name (by decide)) rfl (fle rfl) rfl ?_
  intro X hl hD hE hnL hXF h hR hF hnm
  subst hl; subst hD; subst hE
  have hL : ∀ i, i < 2 → i < X.nL := fun i hi => by rw [hnL]; exact hi
  unfold f_J5_indexOf at hf
  refine g_aload_n h 0 dJ5_indexOf_0 rfl rfl ?_
  refine g_iload_n h 1 dJ5_indexOf_1 rfl rfl ?_
  refine g_iconst (v := 0) h dJ5_indexOf_2 kiconst_0 ?_
  obtain ⟨r_1, hv, hf⟩ := ob1 hf
  refine g_callVK (n := 2) (As := [.int x1, .int 0]) (st := []) (wr := []) (isC := []) (isR := []) h hR (ct_J5_indexOf_2 (x1 := x1) hv) (lw_V q439 q440 q441 q86 q442) (by decide +kernel) rfl ⟨rfl, rfl, rfl, rfl, by decide⟩ ⟨fle rfl, fle rfl, fle rfl, fle rfl, fle rfl⟩ rfl dJ5_indexOf_3 (pin (perm := []) (ws' := []) (stk := [.int r_1]) rfl rfl rfl ?_)
  clear hv
  obtain rfl := sj1 hf
  exact g_iret h hF [] rfl rfl ⟨rfl, rfl⟩ (fle rfl) (fle rfl) dJ5_indexOf_6
