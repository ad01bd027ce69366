/-! the machine's own throws, and catches, as rows of layer G -/
set_option maxRecDepth 100000
theorem fc_all {vm : Vm} {name : String} {c : ClassId} (h : vm.findClass name = some c) : ∃ k, vm.classes[c]? = some k ∧ k.name = name ∧ k.hidden = none ∧ k.loader = none := by
  obtain ⟨hlt, hp, _⟩ := Array.findIdx?_eq_some_iff_getElem.mp h
  refine ⟨vm.classes[c], by simp [hlt], ?_⟩
  simp only [Bool.and_eq_true, beq_iff_eq, Option.isNone_iff_eq_none] at hp
  exact ⟨hp.1.1.1, hp.1.1.2, hp.2⟩
theorem txt_bytes {t : String} {n : Nat} (h : t.toList.length ≤ n) : (stringBytes (stringToUtf16 t)).size ≤ 4 * n := by
  have b1 := stringBytes_size_le (stringToUtf16 t)
  have b2 := utf16_size_le t
  omega
theorem txt_mod {t : String} {c : Char} {l : List Char} (h : t.toList = c :: l) (hc : c ≠ '\u0000') : (t == notModelled) = false := by
  rw [beq_eq_false_iff_ne]
  intro e
  have h2 := congrArg String.toList e
  rw [h] at h2
  have h3 : notModelled.toList = '\u0000' :: (notModelled.toList.tail) := by decide
  rw [h3] at h2
  exact hc (List.cons.inj h2).1
theorem neg_mod (n : Int32) (hn : n < 0) : ((toString n) == notModelled) = false := by
  have h2 : n.toInt < 0 := by have := Int32.lt_iff_toInt_lt.mp hn; simpa using this
  cases h : n.toInt with
  | ofNat m => rw [h] at h2; exact absurd h2 (by simp)
  | negSucc m =>
    refine txt_mod (c := '-') (l := (toString m.succ).toList) ?_ (by decide)
    show (Int.repr n.toInt).toList = _
    rw [h]
    show ("-" ++ toString m.succ).toList = _
    rw [String.toList_append]
    rfl
/-- where an array of the bootstrap loader's lives -/
theorem home_of {U : State} (hm : modulesRight_1 U = true) {k : Class} (hl : k.loader = none) (hn : packageOf k.name = "") : U.vm.home k = "module java.base of loader 'bootstrap'" ∨ U.vm.home k = "unnamed module of loader 'bootstrap'" := by
  unfold Vm.home
  rw [hl]
  have hL : U.vm.loaderName none = "'bootstrap'" := rfl
  rw [hL]
  cases hmo : U.vm.moduleOf k with
  | none => exact Or.inr (by rfl)
  | some mi =>
    left
    have hname : mi.name = "java.base" := by
      unfold Vm.moduleOf at hmo
      split at hmo
      · have := List.find?_some hmo
        simpa using this
      · have h1 := List.find?_some hmo
        have h2 := List.mem_of_find?_eq_some hmo
        unfold modulesRight_1 at hm
        have h3 := List.all_eq_true.mp hm mi h2
        rw [hl, hn] at h1
        simp only [Bool.and_eq_true, beq_iff_eq] at h1
        simp only [h1.1, Option.isSome_none, Bool.false_or, Bool.or_eq_true, beq_iff_eq, Bool.not_eq_true'] at h3
        rcases h3 with e | e
        · exact e
        · exfalso
          have : (castPackages_1.any fun p => mi.packages.contains p) = true := List.any_eq_true.mpr ⟨"", by decide, h1.2⟩
          rw [this] at e
          cases e
    show ("module " ++ mi.name) ++ " of loader " ++ "'bootstrap'" = _
    rw [hname]
    rfl
section
variable {X : Cx} {cc : ByteArray} {own : String} {ws wc wr w : va_W} {lv : LV} {ce sl pc fr lo mc ms : Nat} {st st' : List Value} {Po : String → Nat → va_W → Prop}
theorem rb_ts (h : Ok X cc own) {T : State} (hW : X.s.WarmedH T.vm) : ∀ w ∈ lw_all, w.before X.args (rb X.s T) = true :=
  fun w hw => word_at (U := rb X.s T) hW (good_of_word (List.mem_filter.mp hw).2) (h.ts w hw)
theorem rb_nw (h : Ok X cc own) {T : State} (hW : X.s.WarmedH T.vm) : ∀ w ∈ lw_tbl, nwk w = true → w.before X.args (rb X.s T) = true := fun w hw hk => by
  have h1 := (h.nw.moved (U := rb X.s T) hW).1 w hw hk
  cases w <;> first
    | exact absurd (show false = true from hk) Bool.false_ne_true
    | exact va_Nw.use rfl h1
theorem rb_hh (h : Ok X cc own) {T : State} {H : Heap} {locs : List Loc} (hT : T.heap = H) (hS : va_S X.A X.s.heap H locs) (hW : X.s.WarmedH T.vm) : HH X.E X.A (rb X.s T) :=
  h.hh.go (U := rb X.s T) (B := X.A) hW (fun _ z => z) (fun q h1 h2 => by show T.heap[q]? = _; rw [hT]; exact hS.2.1 q h1 h2)
/-- the machine throws, with a text -/
theorem t_msg {cls : String} {names : List String} {nb : Nat} (h : Ok X cc own) (hR : Rm X fr lo mc ms) (hfl : X.l.flags = flags0) (hx : X.c.exceptionTable.toList = []) (hF : FinT X mc ms Po) (hcls : Bundle.fit cls = true) (hnames : ∀ n ∈ names, Bundle.fit n = true) (hsoe : (cls == "java/lang/StackOverflowError") = false) (hoom : (cls == "java/lang/OutOfMemoryError") = false)
    (hat : ∀ (s : State) (args : Array Value) (A : Nat → Prop), (∀ w ∈ lw_all, w.before args s = true) → (∀ w ∈ lw_tbl, nwk w = true → w.before args s = true) → va_Y "java/lang/Throwable" "UNASSIGNED_STACK" "[Ljava/lang/StackTraceElement;" A s s.heap → va_Y "java/lang/Throwable" "SUPPRESSED_SENTINEL" "Ljava/util/List;" A s s.heap → ∀ a ∈ Bundle.messageArmAtoms cls names, a.before args s = true)
    (hnb : nb ≤ 4000) (hfr : names.length + 4 < fr) (hlo : (st'.map fun v => v.category).sum + 10240 ≤ lo) (hsh : 13 * names.length + 55 ≤ 10240) (hce : ce + 3 ≤ mc) (hsl : sl + (nb + 10) ≤ ms) (is : List Nat) (hn : va_nd is = true) (hs : is.map (fun i => ws[i]?) = w.map some) (hq : ∀ x, Po cls x w)
    (step : ∀ (H : Heap) (locs : List Loc) (ls : Array Slot) (T : State), va_P X.D vwCl (ws ++ X.F) H → T.heap = H → Stand X.p X.l X.e X.R X.s X.m X.args X.below X.meth X.c T locs ce sl → ∃ (T2 : State) (text : String), T2.heap = H ∧ Stand X.p X.l X.e X.R X.s X.m X.args X.below X.meth X.c T2 locs ce sl ∧ (text == notModelled) = false ∧ (stringBytes (stringToUtf16 text)).size ≤ nb ∧
      ∀ target, Steps X.p.tables X.e X.below ((T2.setTop (F0 X.m pc ls st')).pushFrame (.throwNew cls (some text) none)) target → Steps X.p.tables X.e X.below (T.setTop (F0 X.m pc ls st)) target) : G X ws lv ce sl pc st := by
  intro H locs ls hP hD hS hl T0 hT0 Z0
  obtain ⟨T, text, hT, Z, ht1, ht2, hst⟩ := step H locs ls T0 hP hT0 Z0
  have Z' := rebase Z { frames := fr, locals := lo, cells := 3, slots := nb + 10 } hR.1 hR.2.1 (Nat.le_trans hce hR.2.2.1) (Nat.le_trans hsl hR.2.2.2)
  have hH := rb_hh h hT hS Z.warmed
  obtain ⟨U, s1, s2, s3, s4, ⟨n, hn', s5⟩, cb, cs, ce', -, -, hce', -, -, KE⟩ := Z'.messageArmCells h.x (no_trace Z.admits hfl) hcls hnames hsoe hoom (hat _ _ _ (rb_ts h Z.warmed) (rb_nw h Z.warmed) hH.2.2.2.1 hH.2.2.2.2) (fun x hx => nomatch hx) ht1
    (by rw [Z.admits.platform]; show ¬ _ > 2147483645; omega) (by rw [Z.admits.platform]; show ¬ _ * 1 > 536870912; omega) (g := F0 X.m pc ls st') rfl (hl.1.trans h.ml.symm) rfl rfl (by rw [hx]; intro z hz; exact nomatch hz) hfr (by show 2 * 0 + (st'.map fun v => v.category).sum + 10240 ≤ lo; omega) hsh (Nat.le_refl _) (by show 0 + _ ≤ nb + 10; omega) h.lk
  refine ⟨U, hst U s1, ?_⟩
  have hcl : X.s.vm.findClass cls = some ce'.cls := by rw [← Z.warmed.alike.findClass]; exact KE.cls
  exact leaveQ hF hP hD hS hT Z s2 s3 s4 s5 ⟨ce', hce', hcl, by rw [KE.vm]; rfl⟩ is hn hs (hq _) (by omega) (by omega)
/-- the machine throws a NullPointerException -/
theorem t_npe (h : Ok X cc own) (hR : Rm X fr lo mc ms) (hfl : X.l.flags = flags0) (hx : X.c.exceptionTable.toList = []) (hF : FinT X mc ms Po) (hfr : 7 < fr) (hlo : (st'.map fun v => v.category).sum + 10240 ≤ lo) (hce : ce + 1 ≤ mc) (hsl : sl + 8 ≤ ms) (is : List Nat) (hn : va_nd is = true) (hs : is.map (fun i => ws[i]?) = w.map some) (hq : ∀ x, Po "java/lang/NullPointerException" x w)
    (step : ∀ (ls : Array Slot) (T : State) (locs : List Loc), Stand X.p X.l X.e X.R X.s X.m X.args X.below X.meth X.c T locs ce sl →
      ∀ target, Steps X.p.tables X.e X.below ((T.setTop (F0 X.m pc ls st')).pushFrame (.throwNew "java/lang/NullPointerException" none none)) target → Steps X.p.tables X.e X.below (T.setTop (F0 X.m pc ls st)) target) : G X ws lv ce sl pc st := by
  intro H locs ls hP hD hS hl T hT Z
  have hst := step ls T locs Z
  have Z' := rebase Z { frames := fr, locals := lo, cells := 1, slots := 8 } hR.1 hR.2.1 (Nat.le_trans hce hR.2.2.1) (Nat.le_trans hsl hR.2.2.2)
  have hH := rb_hh h hT hS Z.warmed
  obtain ⟨U, s1, s2, s3, s4, s5, ce', hce', KE⟩ := Z'.npeArm h.x (no_trace Z.admits hfl) (n := 8) (at_npe (rb_ts h Z.warmed) (rb_nw h Z.warmed) hH.2.2.2.1 hH.2.2.2.2) (fun x hx => nomatch hx)
    (g := F0 X.m pc ls st') rfl (hl.1.trans h.ml.symm) rfl rfl (by rw [hx]; intro z hz; exact nomatch hz) hfr (by show 2 * 0 + (st'.map fun v => v.category).sum + 10240 ≤ lo; omega) (Nat.le_refl _) (Nat.le_refl _) h.lk
  refine ⟨U, hst U s1, ?_⟩
  have hcl : X.s.vm.findClass "java/lang/NullPointerException" = some ce'.cls := by rw [← Z.warmed.alike.findClass]; exact KE.cls
  exact leaveQ hF hP hD hS hT Z s2 s3 s4 s5 ⟨ce', hce', hcl, by rw [KE.vm]; rfl⟩ is hn hs (hq _) (by omega) (by omega)
/-- arrays of the lanes: byte, short, int, long -/
def lnm : Nat → String
  | 0 => "[B"
  | 1 => "[S"
  | 2 => "[I"
  | _ => "[J"
def lE : Nat → Nat
  | 0 => 0
  | 1 => 3
  | 2 => 1
  | _ => 2
theorem lane_fc (h : Ok X cc own) : ∀ t : Nat, X.s.vm.findClass (lnm t) = some (X.E (lE t))
  | 0 => (h.k.2 0 (X.E 0, .byte) rfl).2
  | 1 => (h.k.2 3 (X.E 3, .short) rfl).2
  | 2 => (h.k.2 1 (X.E 1, .int) rfl).2
  | n + 3 => (h.k.2 2 (X.E 2, .long) rfl).2
def castT (a b h1 : String) : String := toString "class " ++ toString a ++ toString " cannot be cast to class " ++ toString b ++ toString " (" ++ toString h1 ++ toString ")"
theorem cast_text {a b h1 : String} (ha : a.toList.length ≤ 2) (hb : b.toList.length ≤ 2) (hh : h1.toList.length ≤ 110) : (castT a b h1).toList.length ≤ 160 := by
  show (toString "class " ++ toString a ++ toString " cannot be cast to class " ++ toString b ++ toString " (" ++ toString h1 ++ toString ")").toList.length ≤ 160
  simp only [String.toList_append, List.length_append]
  have a1 : (toString "class ").toList.length = 6 := by decide
  have a2 : (toString " cannot be cast to class ").toList.length = 25 := by decide
  have a3 : (toString " (").toList.length = 2 := by decide
  have a4 : (toString ")").toList.length = 1 := by decide
  have b1 : (toString a).toList.length ≤ 2 := ha
  have b2 : (toString b).toList.length ≤ 2 := hb
  have b3 : (toString h1).toList.length ≤ 110 := hh
  omega
theorem cast_mod (a b h1 : String) : ((castT a b h1) == notModelled) = false := by
  refine txt_mod (c := 'c') (l := "lass ".toList ++ (toString a).toList ++ " cannot be cast to class ".toList ++ (toString b).toList ++ " (".toList ++ (toString h1).toList ++ ")".toList) ?_ (by decide)
  show (toString "class " ++ toString a ++ toString " cannot be cast to class " ++ toString b ++ toString " (" ++ toString h1 ++ toString ")").toList = _
  simp only [String.toList_append]
  rfl
theorem homes_len {U : State} (hm : modulesRight_1 U = true) {a b : Class} (ha : a.loader = none) (hb : b.loader = none) (na : packageOf a.name = "") (nb : packageOf b.name = "") (sa : a.shown.toList.length ≤ 2) (sb : b.shown.toList.length ≤ 2) : (U.vm.homes a b).toList.length ≤ 110 := by
  have h1 : (U.vm.home a).toList.length ≤ 40 := by rcases home_of hm ha na with e | e <;> rw [e] <;> decide
  have h2 : (U.vm.home b).toList.length ≤ 40 := by rcases home_of hm hb nb with e | e <;> rw [e] <;> decide
  unfold Vm.homes
  split
  · show (toString a.shown ++ toString " and " ++ toString b.shown ++ toString " are in " ++ toString (U.vm.home a)).toList.length ≤ 110
    simp only [String.toList_append, List.length_append]
    have a1 : (toString " and ").toList.length = 5 := by decide
    have a2 : (toString " are in ").toList.length = 8 := by decide
    have b1 : (toString a.shown).toList.length ≤ 2 := sa
    have b2 : (toString b.shown).toList.length ≤ 2 := sb
    have b3 : (toString (U.vm.home a)).toList.length ≤ 40 := h1
    omega
  · show (toString a.shown ++ toString " is in " ++ toString (U.vm.home a) ++ toString "; " ++ toString b.shown ++ toString " is in " ++ toString (U.vm.home b)).toList.length ≤ 110
    simp only [String.toList_append, List.length_append]
    have a1 : (toString " is in ").toList.length = 7 := by decide
    have a2 : (toString "; ").toList.length = 2 := by decide
    have b1 : (toString a.shown).toList.length ≤ 2 := sa
    have b2 : (toString b.shown).toList.length ≤ 2 := sb
    have b3 : (toString (U.vm.home a)).toList.length ≤ 40 := h1
    have b4 : (toString (U.vm.home b)).toList.length ≤ 40 := h2
    omega
theorem lane_pk : ∀ t : Nat, packageOf (lnm t) = "" ∧ (dotted (lnm t)).toList.length ≤ 2
  | 0 => by decide +kernel
  | 1 => by decide +kernel
  | 2 => by decide +kernel
  | n + 3 => by show packageOf "[J" = "" ∧ (dotted "[J").toList.length ≤ 2; decide +kernel
/-- a checkcast that fails: a row of lane t taken as of lane t2 -/
theorem t_cce (h : Ok X cc own) (hR : Rm X fr lo mc ms) (hfl : X.l.flags = flags0) (hx : X.c.exceptionTable.toList = []) (hF : FinT X mc ms Po) {a idx t t2 q0 : Nat} {x : vp_A} (he : ws[q0]? = some (a, .inl (X.E (lE t), x))) (hlk : Cond.classLink own idx (lnm t2) ∈ lw_all) (hnc : va_Nc (lnm t) (lnm t2) X.s)
    (hfr : 6 < fr) (hlo : ((Value.ref a :: st).map fun v => v.category).sum + 10240 ≤ lo) (hce : ce + 3 ≤ mc) (hsl : sl + (640 + 10) ≤ ms) (is : List Nat) (hn : va_nd is = true) (hs : is.map (fun i => ws[i]?) = w.map some) (hq : ∀ x, Po "java/lang/ClassCastException" x w) (d : decode cc pc = .ok (.checkcast idx, 3)) : G X ws lv ce sl pc (.ref a :: st) := by
  refine t_msg (cls := "java/lang/ClassCastException") (names := ["java/lang/RuntimeException", "java/lang/Exception"]) (nb := 640) (st' := .ref a :: st) h hR hfl hx hF (by decide +kernel) (by decide +kernel) (by decide) (by decide) (fun s args A h1 h2 h3 h4 => at_cce h1 h2 h3 h4) (by decide) hfr hlo (by decide) hce hsl is hn hs hq ?_
  intro H locs ls T hP hT Z
  have hvm0 : (vp_cell (X.E (lE t)) x).vm = .none := by
    obtain ⟨n, f | f | f | f | f⟩ := x <;> rfl
  have hcl0 : (vp_cell (X.E (lE t)) x).cls = X.E (lE t) := by
    obtain ⟨n, f | f | f | f | f⟩ := x <;> rfl
  have hcell : T.heap[a]? = some (vp_cell (X.E (lE t)) x) := by rw [hT]; exact hP q0 _ (apL he)
  have hpl : X.e.platform.magicAccessors = ({} : Platform).magicAccessors := by rw [Z.admits.platform]
  obtain ⟨c0, cT, f1, f2, f3⟩ := hnc
  cases (lane_fc h t).symm.trans f1
  obtain ⟨c', hc', hcl⟩ := Cond.classLink_spec h.own (h.ts _ hlk) X.e.platform hpl
  cases f2.symm.trans hc'
  obtain ⟨dk, _, _, kt, hd, _, _, _, _, hkt, _, hopen⟩ := hcl.here
  have hcl₀ := Z.warmed.classLinks hcl
  have hW' : X.s.WarmedH (T.vm.noted X.m.cls idx (.cls cT)) := Z.warmed.noted hd hopen (State.rightAt_cls hcl)
  have fa : (T.vm.noted X.m.cls idx (.cls cT)).findClass (lnm t) = some (X.E (lE t)) := by rw [hW'.alike.findClass]; exact f1
  have fb : (T.vm.noted X.m.cls idx (.cls cT)).findClass (lnm t2) = some cT := by rw [hW'.alike.findClass]; exact f2
  obtain ⟨ks', hks', nks, hks0, hksl⟩ := fc_all fa
  obtain ⟨kt', hkt', nkt, hkt0, hktl⟩ := fc_all fb
  have hm : modulesRight_1 (T.setVm (T.vm.noted X.m.cls idx (.cls cT))) = true := mods_alike (u := X.s) (U := T.setVm (T.vm.noted X.m.cls idx (.cls cT))) hW'.alike h.nw.2.2.2.2.2
  have sa : ks'.shown = dotted (lnm t) := by unfold Class.shown; rw [hks0, nks]
  have sb : kt'.shown = dotted (lnm t2) := by unfold Class.shown; rw [hkt0, nkt]
  refine ⟨T.setVm (T.vm.noted X.m.cls idx (.cls cT)), castT ks'.shown kt'.shown ((T.vm.noted X.m.cls idx (.cls cT)).homes ks' kt'), hT, Z.noted hW', cast_mod _ _ _, txt_bytes (cast_text (by rw [sa]; exact (lane_pk t).2) (by rw [sb]; exact (lane_pk t2).2) (homes_len hm hksl hktl (by rw [nks]; exact (lane_pk t).1) (by rw [nkt]; exact (lane_pk t2).1) (by rw [sa]; exact (lane_pk t).2) (by rw [sb]; exact (lane_pk t2).2))), fun target hrest => ?_⟩
  have hex := h.x
  have hdg : decode X.c.code (F0 X.m pc ls (.ref a :: st)).pc = .ok (.checkcast idx, 3) := by rw [h.b]; exact d
  jvm_step Z.here [hex, hdg, checkcast.wp_cold (e := X.e) (s := T) (f := F0 X.m pc ls (.ref a :: st)) Z.here.top rfl (resolveClass_links X.e.toSetting hcl₀) hcl₀.ready,
    checkcast.wp_ready (e := X.e) (s := T.setVm (T.vm.noted X.m.cls idx (.cls cT))) (f := F0 X.m pc ls (.ref a :: st)) Z.here.top hcl₀.ready rfl]
  refine ⟨_, hcell, VmData.noStatics_of (by rw [hvm0]; rfl), ks', by rw [hcl0]; exact hks', kt', hkt', ?_⟩
  rw [if_neg (by rw [hcl0, hW'.alike.assignable, f3]; decide)]
  exact hrest
end
