/-! THE LAYER: a judgement G over symbolic states (world, locals, pc, stack), its rows out of the kit's rows; contracts Ct -/
set_option maxRecDepth 100000
def TZ : u_T := fun _ => ("", "", "", false)
def TP : u_T := fun _ => ("OneElastic$Fault", "place", "I", true)
abbrev vwCl : List vw_C := [(RX0, TX0, 16), (RX1, TZ, 0), (RX2, TZ, 0), (RX3, TZ, 0), (RX4, TZ, 0), (RX5, TZ, 0), (RX6, TX6, 14), (RX7, TX7, 1), (RX8, TX8, 21), (RX9, TX9, 2), (RX10, TX10, 7), (RJ1, TJ1, 3), (RJ14, TJ14, 4), (RX10, TP, 1)]
abbrev Ety : Type := Nat → ClassId
abbrev Ty (E : Ety) : List (ClassId × FieldType) := [(E 0, .byte), (E 1, .int), (E 2, .long), (E 3, .short), (E 4, .object "java/lang/Object"), (E 5, .object "OneElastic$Person"), (E 6, .object "OneElastic$Held")]
/-- the words of the tables that don't ride in lw_all, but can be taken along -/
def nwk : Cond → Bool
  | .fieldLinkNest _ _ _ _ _ _ => true
  | .methodLinkNest _ _ _ _ => true
  | .castable _ _ => true
  | .declares _ => true
  | _ => false
def yPerson : MethodName := ⟨"OneElastic$Person", "out", "(III)I"⟩
def yHasNext : MethodName := ⟨"java/util/Iterator", "hasNext", "()Z"⟩
def yNext : MethodName := ⟨"java/util/Iterator", "next", "()Ljava/lang/Object;"⟩

def ncs : List (String × String) := [("OneElastic", "OneElastic$Fault"), ("OneElastic$Plain", "OneElastic$Fault"), ("OneElastic$Stout", "OneElastic$Fault"), ("OneElastic$Parson", "OneElastic$Fault"), ("OneElastic$Player", "OneElastic$Fault"), ("OneElastic$Tactful", "OneElastic$Fault"), ("OneElastic$Town", "OneElastic$Fault"), ("java/util/ArrayDeque", "OneElastic$Fault"), ("OneElastic$Held", "OneElastic$Fault"), ("OneElasticModel", "OneElastic$Fault"), ("OneElastic$Part", "OneElastic$Fault"), ("java/lang/NullPointerException", "OneElastic$Fault"), ("java/util/ArrayDeque$DeqIterator", "OneElastic$Fault"), ("java/lang/ClassCastException", "OneElastic$Fault"), ("java/lang/ArrayIndexOutOfBoundsException", "OneElastic$Fault"), ("java/lang/NegativeArraySizeException", "OneElastic$Fault"), ("java/lang/ArrayStoreException", "OneElastic$Fault"), ("OneElastic", "java/lang/NegativeArraySizeException"), ("OneElastic$Plain", "java/lang/NegativeArraySizeException"), ("OneElastic$Stout", "java/lang/NegativeArraySizeException"), ("OneElastic$Parson", "java/lang/NegativeArraySizeException"), ("OneElastic$Player", "java/lang/NegativeArraySizeException"), ("OneElastic$Tactful", "java/lang/NegativeArraySizeException"), ("OneElastic$Town", "java/lang/NegativeArraySizeException"), ("java/util/ArrayDeque", "java/lang/NegativeArraySizeException"), ("OneElastic$Held", "java/lang/NegativeArraySizeException"), ("OneElasticModel", "java/lang/NegativeArraySizeException"), ("OneElastic$Part", "java/lang/NegativeArraySizeException"), ("OneElastic$Fault", "java/lang/NegativeArraySizeException"), ("java/lang/NullPointerException", "java/lang/NegativeArraySizeException"), ("java/util/ArrayDeque$DeqIterator", "java/lang/NegativeArraySizeException"), ("java/lang/ClassCastException", "java/lang/NegativeArraySizeException"), ("java/lang/ArrayIndexOutOfBoundsException", "java/lang/NegativeArraySizeException"), ("java/lang/ArrayStoreException", "java/lang/NegativeArraySizeException"), ("OneElastic", "java/lang/NullPointerException"), ("OneElastic$Plain", "java/lang/NullPointerException"), ("OneElastic$Stout", "java/lang/NullPointerException"), ("OneElastic$Parson", "java/lang/NullPointerException"), ("OneElastic$Player", "java/lang/NullPointerException"), ("OneElastic$Tactful", "java/lang/NullPointerException"), ("OneElastic$Town", "java/lang/NullPointerException"), ("java/util/ArrayDeque", "java/lang/NullPointerException"), ("OneElastic$Held", "java/lang/NullPointerException"), ("OneElasticModel", "java/lang/NullPointerException"), ("OneElastic$Part", "java/lang/NullPointerException"), ("OneElastic$Fault", "java/lang/NullPointerException"), ("java/util/ArrayDeque$DeqIterator", "java/lang/NullPointerException"), ("java/lang/ClassCastException", "java/lang/NullPointerException"), ("java/lang/ArrayIndexOutOfBoundsException", "java/lang/NullPointerException"), ("java/lang/NegativeArraySizeException", "java/lang/NullPointerException"), ("java/lang/ArrayStoreException", "java/lang/NullPointerException"), ("OneElastic", "java/lang/ClassCastException"), ("OneElastic$Plain", "java/lang/ClassCastException"), ("OneElastic$Stout", "java/lang/ClassCastException"), ("OneElastic$Parson", "java/lang/ClassCastException"), ("OneElastic$Player", "java/lang/ClassCastException"), ("OneElastic$Tactful", "java/lang/ClassCastException"), ("OneElastic$Town", "java/lang/ClassCastException"), ("java/util/ArrayDeque", "java/lang/ClassCastException"), ("OneElastic$Held", "java/lang/ClassCastException"), ("OneElasticModel", "java/lang/ClassCastException"), ("OneElastic$Part", "java/lang/ClassCastException"), ("OneElastic$Fault", "java/lang/ClassCastException"), ("java/lang/NullPointerException", "java/lang/ClassCastException"), ("java/util/ArrayDeque$DeqIterator", "java/lang/ClassCastException"), ("java/lang/ArrayIndexOutOfBoundsException", "java/lang/ClassCastException"), ("java/lang/NegativeArraySizeException", "java/lang/ClassCastException"), ("java/lang/ArrayStoreException", "java/lang/ClassCastException"), ("OneElastic", "java/lang/ArrayIndexOutOfBoundsException"), ("OneElastic$Plain", "java/lang/ArrayIndexOutOfBoundsException"), ("OneElastic$Stout", "java/lang/ArrayIndexOutOfBoundsException"), ("OneElastic$Parson", "java/lang/ArrayIndexOutOfBoundsException"), ("OneElastic$Player", "java/lang/ArrayIndexOutOfBoundsException"), ("OneElastic$Tactful", "java/lang/ArrayIndexOutOfBoundsException"), ("OneElastic$Town", "java/lang/ArrayIndexOutOfBoundsException"), ("java/util/ArrayDeque", "java/lang/ArrayIndexOutOfBoundsException"), ("OneElastic$Held", "java/lang/ArrayIndexOutOfBoundsException"), ("OneElasticModel", "java/lang/ArrayIndexOutOfBoundsException"), ("OneElastic$Part", "java/lang/ArrayIndexOutOfBoundsException"), ("OneElastic$Fault", "java/lang/ArrayIndexOutOfBoundsException"), ("java/lang/NullPointerException", "java/lang/ArrayIndexOutOfBoundsException"), ("java/util/ArrayDeque$DeqIterator", "java/lang/ArrayIndexOutOfBoundsException"), ("java/lang/ClassCastException", "java/lang/ArrayIndexOutOfBoundsException"), ("java/lang/NegativeArraySizeException", "java/lang/ArrayIndexOutOfBoundsException"), ("java/lang/ArrayStoreException", "java/lang/ArrayIndexOutOfBoundsException"), ("OneElastic", "java/lang/ArrayStoreException"), ("OneElastic$Plain", "java/lang/ArrayStoreException"), ("OneElastic$Stout", "java/lang/ArrayStoreException"), ("OneElastic$Parson", "java/lang/ArrayStoreException"), ("OneElastic$Player", "java/lang/ArrayStoreException"), ("OneElastic$Tactful", "java/lang/ArrayStoreException"), ("OneElastic$Town", "java/lang/ArrayStoreException"), ("java/util/ArrayDeque", "java/lang/ArrayStoreException"), ("OneElastic$Held", "java/lang/ArrayStoreException"), ("OneElasticModel", "java/lang/ArrayStoreException"), ("OneElastic$Part", "java/lang/ArrayStoreException"), ("OneElastic$Fault", "java/lang/ArrayStoreException"), ("java/lang/NullPointerException", "java/lang/ArrayStoreException"), ("java/util/ArrayDeque$DeqIterator", "java/lang/ArrayStoreException"), ("java/lang/ClassCastException", "java/lang/ArrayStoreException"), ("java/lang/ArrayIndexOutOfBoundsException", "java/lang/ArrayStoreException"), ("java/lang/NegativeArraySizeException", "java/lang/ArrayStoreException"), ("OneElastic", "java/lang/IndexOutOfBoundsException"), ("OneElastic$Plain", "java/lang/IndexOutOfBoundsException"), ("OneElastic$Stout", "java/lang/IndexOutOfBoundsException"), ("OneElastic$Parson", "java/lang/IndexOutOfBoundsException"), ("OneElastic$Player", "java/lang/IndexOutOfBoundsException"), ("OneElastic$Tactful", "java/lang/IndexOutOfBoundsException"), ("OneElastic$Town", "java/lang/IndexOutOfBoundsException"), ("java/util/ArrayDeque", "java/lang/IndexOutOfBoundsException"), ("OneElastic$Held", "java/lang/IndexOutOfBoundsException"), ("OneElasticModel", "java/lang/IndexOutOfBoundsException"), ("OneElastic$Part", "java/lang/IndexOutOfBoundsException"), ("OneElastic$Fault", "java/lang/IndexOutOfBoundsException"), ("java/lang/NullPointerException", "java/lang/IndexOutOfBoundsException"), ("java/util/ArrayDeque$DeqIterator", "java/lang/IndexOutOfBoundsException"), ("java/lang/ClassCastException", "java/lang/IndexOutOfBoundsException"), ("java/lang/NegativeArraySizeException", "java/lang/IndexOutOfBoundsException"), ("java/lang/ArrayStoreException", "java/lang/IndexOutOfBoundsException"), ("OneElastic", "OneElastic$Town"), ("OneElastic$Plain", "OneElastic$Town"), ("OneElastic$Stout", "OneElastic$Town"), ("OneElastic$Parson", "OneElastic$Town"), ("OneElastic$Player", "OneElastic$Town"), ("OneElastic$Tactful", "OneElastic$Town"), ("java/util/ArrayDeque", "OneElastic$Town"), ("OneElastic$Held", "OneElastic$Town"), ("OneElasticModel", "OneElastic$Town"), ("OneElastic$Part", "OneElastic$Town"), ("OneElastic$Fault", "OneElastic$Town"), ("java/lang/NullPointerException", "OneElastic$Town"), ("java/util/ArrayDeque$DeqIterator", "OneElastic$Town"), ("java/lang/ClassCastException", "OneElastic$Town"), ("java/lang/ArrayIndexOutOfBoundsException", "OneElastic$Town"), ("java/lang/NegativeArraySizeException", "OneElastic$Town"), ("java/lang/ArrayStoreException", "OneElastic$Town"), ("java/lang/Throwable", "OneElastic$Town"), ("java/lang/String", "OneElastic$Town"), ("[B", "OneElastic$Town"), ("[I", "OneElastic$Town"), ("[Ljava/lang/Object;", "OneElastic$Town"), ("[S", "OneElastic$Town"), ("[J", "OneElastic$Town"), ("[LOneElastic$Person;", "OneElastic$Town"), ("[LOneElastic$Held;", "OneElastic$Town"), ("OneElastic", "[B"), ("OneElastic$Plain", "[B"), ("OneElastic$Stout", "[B"), ("OneElastic$Parson", "[B"), ("OneElastic$Player", "[B"), ("OneElastic$Tactful", "[B"), ("OneElastic$Town", "[B"), ("java/util/ArrayDeque", "[B"), ("OneElastic$Held", "[B"), ("OneElasticModel", "[B"), ("OneElastic$Part", "[B"), ("OneElastic$Fault", "[B"), ("java/lang/NullPointerException", "[B"), ("java/util/ArrayDeque$DeqIterator", "[B"), ("java/lang/ClassCastException", "[B"), ("java/lang/ArrayIndexOutOfBoundsException", "[B"), ("java/lang/NegativeArraySizeException", "[B"), ("java/lang/ArrayStoreException", "[B"), ("java/lang/Throwable", "[B"), ("java/lang/String", "[B"), ("[I", "[B"), ("[Ljava/lang/Object;", "[B"), ("[S", "[B"), ("[J", "[B"), ("[LOneElastic$Person;", "[B"), ("[LOneElastic$Held;", "[B"), ("OneElastic", "[S"), ("OneElastic$Plain", "[S"), ("OneElastic$Stout", "[S"), ("OneElastic$Parson", "[S"), ("OneElastic$Player", "[S"), ("OneElastic$Tactful", "[S"), ("OneElastic$Town", "[S"), ("java/util/ArrayDeque", "[S"), ("OneElastic$Held", "[S"), ("OneElasticModel", "[S"), ("OneElastic$Part", "[S"), ("OneElastic$Fault", "[S"), ("java/lang/NullPointerException", "[S"), ("java/util/ArrayDeque$DeqIterator", "[S"), ("java/lang/ClassCastException", "[S"), ("java/lang/ArrayIndexOutOfBoundsException", "[S"), ("java/lang/NegativeArraySizeException", "[S"), ("java/lang/ArrayStoreException", "[S"), ("java/lang/Throwable", "[S"), ("java/lang/String", "[S"), ("[B", "[S"), ("[I", "[S"), ("[Ljava/lang/Object;", "[S"), ("[J", "[S"), ("[LOneElastic$Person;", "[S"), ("[LOneElastic$Held;", "[S"), ("OneElastic", "[I"), ("OneElastic$Plain", "[I"), ("OneElastic$Stout", "[I"), ("OneElastic$Parson", "[I"), ("OneElastic$Player", "[I"), ("OneElastic$Tactful", "[I"), ("OneElastic$Town", "[I"), ("java/util/ArrayDeque", "[I"), ("OneElastic$Held", "[I"), ("OneElasticModel", "[I"), ("OneElastic$Part", "[I"), ("OneElastic$Fault", "[I"), ("java/lang/NullPointerException", "[I"), ("java/util/ArrayDeque$DeqIterator", "[I"), ("java/lang/ClassCastException", "[I"), ("java/lang/ArrayIndexOutOfBoundsException", "[I"), ("java/lang/NegativeArraySizeException", "[I"), ("java/lang/ArrayStoreException", "[I"), ("java/lang/Throwable", "[I"), ("java/lang/String", "[I"), ("[B", "[I"), ("[Ljava/lang/Object;", "[I"), ("[S", "[I"), ("[J", "[I"), ("[LOneElastic$Person;", "[I"), ("[LOneElastic$Held;", "[I"), ("OneElastic", "[J"), ("OneElastic$Plain", "[J"), ("OneElastic$Stout", "[J"), ("OneElastic$Parson", "[J"), ("OneElastic$Player", "[J"), ("OneElastic$Tactful", "[J"), ("OneElastic$Town", "[J"), ("java/util/ArrayDeque", "[J"), ("OneElastic$Held", "[J"), ("OneElasticModel", "[J"), ("OneElastic$Part", "[J"), ("OneElastic$Fault", "[J"), ("java/lang/NullPointerException", "[J"), ("java/util/ArrayDeque$DeqIterator", "[J"), ("java/lang/ClassCastException", "[J"), ("java/lang/ArrayIndexOutOfBoundsException", "[J"), ("java/lang/NegativeArraySizeException", "[J"), ("java/lang/ArrayStoreException", "[J"), ("java/lang/Throwable", "[J"), ("java/lang/String", "[J"), ("[B", "[J"), ("[I", "[J"), ("[Ljava/lang/Object;", "[J"), ("[S", "[J"), ("[LOneElastic$Person;", "[J"), ("[LOneElastic$Held;", "[J"), ("OneElastic", "OneElastic$Person"), ("OneElastic$Town", "OneElastic$Person"), ("java/util/ArrayDeque", "OneElastic$Person"), ("OneElastic$Held", "OneElastic$Person"), ("OneElasticModel", "OneElastic$Person"), ("OneElastic$Part", "OneElastic$Person"), ("OneElastic$Fault", "OneElastic$Person"), ("java/lang/NullPointerException", "OneElastic$Person"), ("java/util/ArrayDeque$DeqIterator", "OneElastic$Person"), ("java/lang/ClassCastException", "OneElastic$Person"), ("java/lang/ArrayIndexOutOfBoundsException", "OneElastic$Person"), ("java/lang/NegativeArraySizeException", "OneElastic$Person"), ("java/lang/ArrayStoreException", "OneElastic$Person"), ("java/lang/Throwable", "OneElastic$Person"), ("java/lang/String", "OneElastic$Person"), ("OneElastic", "OneElastic$Held"), ("OneElastic$Plain", "OneElastic$Held"), ("OneElastic$Stout", "OneElastic$Held"), ("OneElastic$Parson", "OneElastic$Held"), ("OneElastic$Player", "OneElastic$Held"), ("OneElastic$Tactful", "OneElastic$Held"), ("OneElastic$Town", "OneElastic$Held"), ("java/util/ArrayDeque", "OneElastic$Held"), ("OneElasticModel", "OneElastic$Held"), ("OneElastic$Part", "OneElastic$Held"), ("OneElastic$Fault", "OneElastic$Held"), ("java/lang/NullPointerException", "OneElastic$Held"), ("java/util/ArrayDeque$DeqIterator", "OneElastic$Held"), ("java/lang/ClassCastException", "OneElastic$Held"), ("java/lang/ArrayIndexOutOfBoundsException", "OneElastic$Held"), ("java/lang/NegativeArraySizeException", "OneElastic$Held"), ("java/lang/ArrayStoreException", "OneElastic$Held"), ("java/lang/Throwable", "OneElastic$Held"), ("java/lang/String", "OneElastic$Held"), ("[B", "OneElastic$Person"), ("[I", "OneElastic$Person"), ("[Ljava/lang/Object;", "OneElastic$Person"), ("[S", "OneElastic$Person"), ("[J", "OneElastic$Person"), ("[LOneElastic$Person;", "OneElastic$Person"), ("[LOneElastic$Held;", "OneElastic$Person"), ("[B", "OneElastic$Held"), ("[I", "OneElastic$Held"), ("[Ljava/lang/Object;", "OneElastic$Held"), ("[S", "OneElastic$Held"), ("[J", "OneElastic$Held"), ("[LOneElastic$Person;", "OneElastic$Held"), ("[LOneElastic$Held;", "OneElastic$Held"), ("OneElastic$Person", "OneElastic$Held")]
def NW (U : State) : Prop := (∀ w ∈ lw_tbl, nwk w = true → va_Nw w U) ∧ (va_AO "java/lang/Object" U ∧ va_AO "OneElastic$Person" U ∧ va_AO "OneElastic$Held" U) ∧
  (va_Fw RX1 yPerson yX1_out U ∧ va_Fw RX2 yPerson yX2_out U ∧ va_Fw RX3 yPerson yX3_out U ∧ va_Fw RX4 yPerson yX4_out U ∧ va_Fw RX5 yPerson yX5_out U) ∧
  (va_Fw RJ14 yHasNext yJ14_hasNext U ∧ va_Fw RJ14 yNext yJ14_next U) ∧ (∀ q ∈ ncs, va_Nc q.1 q.2 U) ∧ modulesRight_1 U = true
theorem nw_w {w : Cond} {s U : State} (hk : nwk w = true) (hW : s.WarmedH U.vm) (h : va_Nw w s) : va_Nw w U := by
  cases w <;> first
    | exact absurd (show false = true from hk) Bool.false_ne_true
    | exact va_Nw.warmF hW h
    | exact va_Nw.warmM hW h
    | exact va_Nw.warmC hW h
    | exact va_Nw.warmD hW h
theorem nw_s {w : Cond} {u U : State} (hk : nwk w = true) (e : u.vm = U.vm) (h : va_Nw w u) : va_Nw w U := by
  cases w <;> first
    | exact absurd (show false = true from hk) Bool.false_ne_true
    | exact va_Nw.same rfl e h
theorem nm_any (x : MethodName) (h : x.cls = "OneElastic$Person" ∨ x.cls = "java/util/Iterator") : x.cls ≠ "java/lang/invoke/MethodHandle" ∧ x.cls ≠ "java/lang/invoke/VarHandle" := by
  rcases h with e | e <;> rw [e] <;> decide
theorem mods_alike {u U : State} (h : u.vm.Alike U.vm) (k : modulesRight_1 u = true) : modulesRight_1 U = true := by
  unfold modulesRight_1 at k ⊢
  rw [h.1]
  exact k
theorem NW.moved {s U : State} (hW : s.WarmedH U.vm) (h : NW s) : NW U := by
  obtain ⟨h1, ⟨a1, a2, a3⟩, ⟨f1, f2, f3, f4, f5⟩, ⟨i1, i2⟩, hn, hm⟩ := h
  have hA := hW.alike
  have hp := nm_any yPerson (Or.inl rfl)
  refine ⟨fun w hw hk => nw_w hk hW (h1 w hw hk), ⟨a1.moved hA, a2.moved hA, a3.moved hA⟩, ⟨f1.moved hp hA, f2.moved hp hA, f3.moved hp hA, f4.moved hp hA, f5.moved hp hA⟩, ⟨i1.moved (nm_any _ (Or.inr rfl)) hA, i2.moved (nm_any _ (Or.inr rfl)) hA⟩, fun q hq => (hn q hq).moved hA, mods_alike hA hm⟩
theorem NW.same {u U : State} (e : u.vm = U.vm) (h : NW u) : NW U := by
  obtain ⟨h1, ⟨a1, a2, a3⟩, ⟨f1, f2, f3, f4, f5⟩, ⟨i1, i2⟩, hn, hm⟩ := h
  have hA : u.vm.Alike U.vm := e ▸ Vm.Alike.refl u.vm
  have hp := nm_any yPerson (Or.inl rfl)
  refine ⟨fun w hw hk => nw_s hk e (h1 w hw hk), ⟨a1.moved hA, a2.moved hA, a3.moved hA⟩, ⟨f1.moved hp hA, f2.moved hp hA, f3.moved hp hA, f4.moved hp hA, f5.moved hp hA⟩, ⟨i1.moved (nm_any _ (Or.inr rfl)) hA, i2.moved (nm_any _ (Or.inr rfl)) hA⟩, fun q hq => (hn q hq).moved hA, mods_alike hA hm⟩
def KK (D : va_G) (E : Ety) (U : State) : Prop := va_K D vwCl (Ty E) U ∧ NW U
theorem KK.moved {D : va_G} {E : Ety} {s U : State} (hW : s.WarmedH U.vm) (h : KK D E s) : KK D E U := ⟨va_K.moved hW.alike h.1, h.2.moved hW⟩
theorem KK.same {D : va_G} {E : Ety} {u U : State} (e : u.vm = U.vm) (h : KK D E u) : KK D E U := ⟨va_K.moved (e ▸ Vm.Alike.refl u.vm) h.1, h.2.same e⟩
/-- a static that holds a reference or null, at an address outside A -/
def va_Y (C n d : String) (A : Nat → Prop) (U : State) (H : Heap) : Prop := ∃ (c : ClassId) (k : Class) (i : Nat) (f : Field) (a : Nat) (cell : Cell) (v : Value), U.vm.findClass C = some c ∧ U.fieldFound? C n d = some (c, k, i, f) ∧ f.isStatic = true ∧ k.statics = some a ∧ k.staticTypes[f.slot]? = some f.type ∧ H[a]? = some cell ∧ cell.vm.isStatics = true ∧ cell.cls = c ∧ f.slot < cell.slots.size ∧ cell.slots[f.slot]? = some v ∧ (v = .null ∨ ∃ r, v = .ref r) ∧ ¬ A a
theorem va_Y.moved {C n d : String} {A : Nat → Prop} {u U : State} {H : Heap} (hvm : u.vm.Alike U.vm) (h : va_Y C n d A u H) : va_Y C n d A U H := by
  obtain ⟨c, k, i, f, a, cell, v, h0, h1, h2, h3, h4, h5⟩ := h
  obtain ⟨k', hi', he⟩ := State.fieldFound?_setVm hvm h1
  exact ⟨c, k', i, f, a, cell, v, by rw [hvm.findClass]; exact h0, hi', h2, by rw [he]; exact h3, by rw [he]; exact h4, h5⟩
theorem va_Y.kept {C n d : String} {A : Nat → Prop} {U : State} {H H1 : Heap} (h : va_Y C n d A U H) (hq : ∀ a : Nat, a < H.size → ¬ A a → H1[a]? = H[a]?) : va_Y C n d A U H1 := by
  obtain ⟨c, k, i, f, a, cell, v, h0, h1, h2, h3, h4, h5, h6, h7, h8, h9, h10, h11⟩ := h
  exact ⟨c, k, i, f, a, cell, v, h0, h1, h2, h3, h4, by rw [hq a (Array.getElem?_eq_some_iff.mp h5).1 h11]; exact h5, h6, h7, h8, h9, h10, h11⟩
theorem va_Y.narrow {C n d : String} {A B : Nat → Prop} {U : State} {H : Heap} (h : va_Y C n d A U H) (hAB : ∀ q, B q → A q) : va_Y C n d B U H := by
  obtain ⟨c, k, i, f, a, cell, v, h0, h1, h2, h3, h4, h5, h6, h7, h8, h9, h10, h11⟩ := h
  exact ⟨c, k, i, f, a, cell, v, h0, h1, h2, h3, h4, h5, h6, h7, h8, h9, h10, fun z => h11 (hAB a z)⟩
theorem va_Y.lays {C n d : String} {A : Nat → Prop} {U : State} {args : Array Value} (h : va_Y C n d A U U.heap) : (Cond.laysStatic C n d).before args U = true := by
  obtain ⟨c, k, i, f, a, cell, v, hc, hf, hst, hsta, hty, hcell, hiss, hcls, hlt, h9, h10, h11⟩ := h
  simp [Cond.before, Cond.holds, Cond.value, hc, hf, hst, hsta, hcell, hiss, hcls, hlt, hty]
theorem va_Y.isRef {C n d : String} {A : Nat → Prop} {U : State} {args : Array Value} (h : va_Y C n d A U U.heap) : (Cond.isRef (.static C n d)).before args U = true := by
  obtain ⟨c, k, i, f, a, cell, v, hc, hf, hst, hsta, hty, hcell, hiss, hcls, hlt, hv, h10, h11⟩ := h
  have he : (Term.static C n d).eval args U none [] U = some v := by
    simp [Term.eval, State.fieldNamed?, hf, hst, hsta, hcell, hiss, hv]
  simp only [Cond.before, Cond.holds, Cond.value, he]
  rcases h10 with e | ⟨x, e⟩ <;> simp [e]
theorem va_Yof {args : Array Value} {s : State} {C n d : String} {A : Nat → Prop} (hl : (Cond.laysStatic C n d).before args s = true) (hr : (Cond.isRef (.static C n d)).before args s = true) (hA : ∀ a : Nat, a < s.heap.size → ¬ A a) : va_Y C n d A s s.heap := by
  obtain ⟨c, k, i, f, a, cell, hc, hi, hst, ha, hcell, hs, hcls, hlt, hty⟩ := Cond.laysStatic_spec hl
  obtain ⟨v, hv, hr2⟩ := Cond.isRef_spec hr
  obtain ⟨hst', a', cell', ha', hcell', -, hslot⟩ := Term.static_spec hi hv
  cases ha.symm.trans ha'
  cases hcell.symm.trans hcell'
  refine ⟨c, k, i, f, a, cell, v, hc, hi, hst, ha, hty, hcell, hs, hcls, hlt, hslot, ?_, hA a (Array.getElem?_eq_some_iff.mp hcell).1⟩
  cases v <;> simp_all [Value.isRef]
/-- what is known of cells that no walk touches: the text "psryt" (its object at E 100, its bytes at E 101), statics of the JDK -/
def HH (E : Ety) (A : Nat → Prop) (U : State) : Prop :=
  vk_S 1 [5] [[112, 115, 114, 121, 116]] (fun _ => E 100) (fun _ => E 101) A U U.heap ∧ vk_R "OneElastic" 181 "psryt" (E 100) U ∧ va_Z "java/lang/String" "COMPACT_STRINGS" "Z" (.int 1) A U U.heap ∧
  va_Y "java/lang/Throwable" "UNASSIGNED_STACK" "[Ljava/lang/StackTraceElement;" A U U.heap ∧ va_Y "java/lang/Throwable" "SUPPRESSED_SENTINEL" "Ljava/util/List;" A U U.heap
theorem HH.go {E : Ety} {A B : Nat → Prop} {s U : State} (hW : s.WarmedH U.vm) (hAB : ∀ q, B q → A q) (hk : ∀ q : Nat, q < s.heap.size → ¬ A q → U.heap[q]? = s.heap[q]?) (h : HH E A s) : HH E B U := by
  obtain ⟨h1, h2, h3, h4, h5⟩ := h
  exact ⟨((h1.kept hk).moved hW.alike).narrow hAB, h2.warm hW, ((h3.kept hk).moved hW.alike).narrow hAB, ((h4.kept hk).moved hW.alike).narrow hAB, ((h5.kept hk).moved hW.alike).narrow hAB⟩
theorem HH.same {E : Ety} {A : Nat → Prop} {s U : State} (e : s.vm = U.vm) (eh : U.heap = s.heap) (h : HH E A s) : HH E A U := by
  obtain ⟨h1, h2, h3, h4, h5⟩ := h
  have hA : s.vm.Alike U.vm := e ▸ Vm.Alike.refl s.vm
  have hk : ∀ q : Nat, q < s.heap.size → ¬ A q → U.heap[q]? = s.heap[q]? := fun q _ _ => by rw [eh]
  exact ⟨(h1.kept hk).moved hA, h2.same e.symm, (h3.kept hk).moved hA, (h4.kept hk).moved hA, (h5.kept hk).moved hA⟩
theorem at_ns {D : va_G} {cl : List vw_C} {q : Nat × va_E} {H : Heap} {cell : Cell} (h : va_at D cl q H) (hc : H[q.1]? = some cell) : cell.vm.isStatics = false := by
  obtain ⟨q1, q2⟩ := q
  cases q2 with
  | inl a =>
    have h1 : H[q1]? = some (vp_cell a.1 a.2) := h
    cases hc.symm.trans h1
    unfold vp_cell
    split <;> rfl
  | inr o =>
    obtain ⟨r, -, cell', g1, -, g3, -⟩ := h
    cases hc.symm.trans g1
    rw [g3]; rfl
theorem ns_of {D : va_G} {ws : va_W} {H : Heap} (hP : va_P D vwCl ws H) : ∀ (q : Nat) (cell : Cell), va_A ws H.size q → H[q]? = some cell → cell.vm.isStatics = false := by
  rintro q cell (⟨k, e, hk⟩ | hq) hc
  · exact at_ns (hP k _ hk) hc
  · rw [Array.getElem?_eq_none hq] at hc; cases hc
abbrev Cx : Type := (Program × Launch × Env × Room × State × MethodId × Array Value) × (List Frame × Method × Code) × (va_G × Ety) × ((Nat → Prop) × Nat × (State → Prop) × va_W)
abbrev Cx.p (X : Cx) : Program := X.1.1
abbrev Cx.l (X : Cx) : Launch := X.1.2.1
abbrev Cx.e (X : Cx) : Env := X.1.2.2.1
abbrev Cx.R (X : Cx) : Room := X.1.2.2.2.1
abbrev Cx.s (X : Cx) : State := X.1.2.2.2.2.1
abbrev Cx.m (X : Cx) : MethodId := X.1.2.2.2.2.2.1
abbrev Cx.args (X : Cx) : Array Value := X.1.2.2.2.2.2.2
abbrev Cx.below (X : Cx) : List Frame := X.2.1.1
abbrev Cx.meth (X : Cx) : Method := X.2.1.2.1
abbrev Cx.c (X : Cx) : Code := X.2.1.2.2
abbrev Cx.D (X : Cx) : va_G := X.2.2.1.1
abbrev Cx.E (X : Cx) : Ety := X.2.2.1.2
abbrev Cx.A (X : Cx) : Nat → Prop := X.2.2.2.1
abbrev Cx.nL (X : Cx) : Nat := X.2.2.2.2.1
abbrev Cx.Q (X : Cx) : State → Prop := X.2.2.2.2.2.1
/-- the frame: cells that are held beside the world's list -/
abbrev Cx.F (X : Cx) : va_W := X.2.2.2.2.2.2
abbrev Cx.wF (X : Cx) (F : va_W) : Cx := (X.1, X.2.1, X.2.2.1, (X.A, X.nL, X.Q, F))
abbrev LV : Type := List (Nat × Value)
def G (X : Cx) (ws : va_W) (lv : LV) (ce sl pc : Nat) (st : List Value) : Prop :=
  ∀ (H : Heap) (locs : List Loc) (ls : Array Slot), va_P X.D vwCl (ws ++ X.F) H → va_D X.A (ws ++ X.F) → va_S X.A X.s.heap H locs → lv_has ls X.nL lv → W X.p X.l X.e X.R X.s X.m X.args X.below X.meth X.c H locs ce sl X.Q (F0 X.m pc ls st)
def Ok (X : Cx) (cc : ByteArray) (own : String) : Prop :=
  X.p.tables.exec = Jvm.exec ∧ X.c.code = cc ∧ X.c.maxLocals = X.nL ∧ X.s.vm.findClass own = some X.m.cls ∧ (∀ w ∈ lw_all, w.before X.args X.s = true) ∧ KK X.D X.E X.s ∧ (∀ q, X.s.heap.size ≤ q → X.A q) ∧ X.meth.locks = false ∧ HH X.E X.A X.s ∧ ∀ (q : Nat) (cell : Cell), X.A q → X.s.heap[q]? = some cell → cell.vm.isStatics = false
theorem Ok.x {X : Cx} {cc : ByteArray} {own : String} (h : Ok X cc own) : X.p.tables.exec = Jvm.exec := h.1
theorem Ok.b {X : Cx} {cc : ByteArray} {own : String} (h : Ok X cc own) : X.c.code = cc := h.2.1
theorem Ok.ml {X : Cx} {cc : ByteArray} {own : String} (h : Ok X cc own) : X.c.maxLocals = X.nL := h.2.2.1
theorem Ok.own {X : Cx} {cc : ByteArray} {own : String} (h : Ok X cc own) : X.s.vm.findClass own = some X.m.cls := h.2.2.2.1
theorem Ok.ts {X : Cx} {cc : ByteArray} {own : String} (h : Ok X cc own) : ∀ w ∈ lw_all, w.before X.args X.s = true := h.2.2.2.2.1
theorem Ok.k {X : Cx} {cc : ByteArray} {own : String} (h : Ok X cc own) : va_K X.D vwCl (Ty X.E) X.s := h.2.2.2.2.2.1.1
theorem Ok.nw {X : Cx} {cc : ByteArray} {own : String} (h : Ok X cc own) : NW X.s := h.2.2.2.2.2.1.2
theorem Ok.kk {X : Cx} {cc : ByteArray} {own : String} (h : Ok X cc own) : KK X.D X.E X.s := h.2.2.2.2.2.1
theorem Ok.a {X : Cx} {cc : ByteArray} {own : String} (h : Ok X cc own) : ∀ q, X.s.heap.size ≤ q → X.A q := h.2.2.2.2.2.2.1
theorem Ok.lk {X : Cx} {cc : ByteArray} {own : String} (h : Ok X cc own) : X.meth.locks = false := h.2.2.2.2.2.2.2.1
theorem Ok.hh {X : Cx} {cc : ByteArray} {own : String} (h : Ok X cc own) : HH X.E X.A X.s := h.2.2.2.2.2.2.2.2.1
theorem Ok.ns {X : Cx} {cc : ByteArray} {own : String} (h : Ok X cc own) : ∀ (q : Nat) (cell : Cell), X.A q → X.s.heap[q]? = some cell → cell.vm.isStatics = false := h.2.2.2.2.2.2.2.2.2
def Rm (X : Cx) (fr lo ce sl : Nat) : Prop := fr ≤ X.R.frames ∧ lo ≤ X.R.locals ∧ ce ≤ X.R.cells ∧ sl ≤ X.R.slots
theorem fm_of {ws w : va_W} {is : List Nat} (h : is.map (fun i => ws[i]?) = w.map some) : is.filterMap (fun i => ws[i]?) = w := by
  have := congrArg (List.filterMap id) h
  simpa [List.filterMap_map, Function.comp_def] using this
theorem apL {α : Type} {l F : List α} {i : Nat} {x : α} (h : l[i]? = some x) : (l ++ F)[i]? = some x := by
  rw [List.getElem?_append_left (List.getElem?_eq_some_iff.mp h).1]; exact h
theorem apS {α : Type} {l F : List α} {i : Nat} {x y : α} (h : l[i]? = some x) : (l ++ F).set i y = l.set i y ++ F :=
  List.set_append_left _ _ (List.getElem?_eq_some_iff.mp h).1
theorem vnd_iff : ∀ l : List Nat, va_nd l = true ↔ l.Nodup
  | [] => by simp [va_nd]
  | a :: l => by simp [va_nd, vnd_iff l]
theorem pl_in {ws w : va_W} {is : List Nat} (h : is.map (fun i => ws[i]?) = w.map some) : ∀ q ∈ w, q ∈ ws := by
  intro q hq
  have : some q ∈ is.map (fun i => ws[i]?) := by rw [h]; exact List.mem_map.mpr ⟨q, hq, rfl⟩
  obtain ⟨i, -, hi⟩ := List.mem_map.mp this
  exact List.mem_of_getElem? hi
theorem pl_lt {ws w : va_W} {is : List Nat} (h : is.map (fun i => ws[i]?) = w.map some) : ∀ i ∈ is, i < ws.length := by
  intro i hi
  have : ws[i]? ∈ w.map some := by rw [← h]; exact List.mem_map.mpr ⟨i, hi, rfl⟩
  obtain ⟨q, -, hq⟩ := List.mem_map.mp this
  exact (List.getElem?_eq_some_iff.mp hq.symm).1
theorem pl_L {ws w F : va_W} {is : List Nat} (h : is.map (fun i => ws[i]?) = w.map some) : is.map (fun i => (ws ++ F)[i]?) = w.map some := by
  rw [← h]
  exact List.map_congr_left fun i hi => List.getElem?_append_left (pl_lt h i hi)
theorem pl_rng (ws F : va_W) : (List.range' ws.length F.length).map (fun i => (ws ++ F)[i]?) = F.map some := by
  apply List.ext_getElem
  · simp
  · intro j h1 h2
    simp at h1 h2
    simp [List.getElem?_append_right, h1]
theorem pP {D : va_G} {cl : List vw_C} {a b : va_W} {H : Heap} (h : ∀ q ∈ b, q ∈ a) (hP : va_P D cl a H) : va_P D cl b H := by
  intro k q hk
  obtain ⟨i, hi⟩ := List.getElem?_of_mem (h q (List.mem_of_getElem? hk))
  exact hP i q hi
theorem nd_of_D {A : Nat → Prop} {a : va_W} (h : va_D A a) : (a.map Prod.fst).Nodup := by
  rw [List.nodup_iff_pairwise_ne, List.pairwise_iff_getElem]
  intro i j hi hj hij e
  simp at hi hj e
  have := h.1 i j a[i] a[j] (List.getElem?_eq_getElem hi) (List.getElem?_eq_getElem hj) e
  omega
theorem D_of_nd {A : Nat → Prop} {a : va_W} (h : (a.map Prod.fst).Nodup) (hA : ∀ q ∈ a, A q.1) : va_D A a := by
  refine ⟨fun i j p q hi hj e => ?_, fun k q hk => hA q (List.mem_of_getElem? hk)⟩
  obtain ⟨hi1, hi2⟩ := List.getElem?_eq_some_iff.mp hi
  obtain ⟨hj1, hj2⟩ := List.getElem?_eq_some_iff.mp hj
  rw [List.nodup_iff_pairwise_ne, List.pairwise_iff_getElem] at h
  rcases Nat.lt_trichotomy i j with z | z | z
  · exact absurd (by rw [List.getElem_map, List.getElem_map, hi2, hj2]; exact e) (h i j (by simpa using hi1) (by simpa using hj1) z)
  · exact z
  · exact absurd (by rw [List.getElem_map, List.getElem_map, hi2, hj2]; exact e.symm) (h j i (by simpa using hj1) (by simpa using hi1) z)
theorem D_in {A : Nat → Prop} {a : va_W} (h : va_D A a) : ∀ q ∈ a, A q.1 := by
  intro q hq
  obtain ⟨i, hi⟩ := List.getElem?_of_mem hq
  exact h.2 i q hi
theorem pD {A : Nat → Prop} {a b : va_W} (h : a.Perm b) (hD : va_D A a) : va_D A b :=
  D_of_nd ((h.map Prod.fst).nodup_iff.mp (nd_of_D hD)) fun q hq => D_in hD q (h.mem_iff.mpr hq)
theorem pPp {D : va_G} {cl : List vw_C} {a b : va_W} {H : Heap} (h : a.Perm b) (hP : va_P D cl a H) : va_P D cl b H := pP (fun _ hq => h.mem_iff.mpr hq) hP
theorem lD {A : Nat → Prop} {a b : va_W} (hD : va_D A (a ++ b)) : va_D A a :=
  D_of_nd (by have := nd_of_D hD; rw [List.map_append, List.nodup_append] at this; exact this.1) fun q hq => D_in hD q (List.mem_append_left _ hq)
theorem lP {D : va_G} {cl : List vw_C} {a b : va_W} {H : Heap} (hP : va_P D cl (a ++ b) H) : va_P D cl a H := pP (fun _ hq => List.mem_append_left _ hq) hP
theorem subP {D : va_G} {cl : List vw_C} {ws w F : va_W} {H : Heap} {is : List Nat} (hs : is.map (fun i => ws[i]?) = w.map some) (hP : va_P D cl (ws ++ F) H) : va_P D cl (w ++ F) H := by
  refine pP (fun q hq => ?_) hP
  rcases List.mem_append.mp hq with z | z
  · exact List.mem_append_left _ (pl_in hs q z)
  · exact List.mem_append_right _ z
theorem subD {A : Nat → Prop} {ws w F : va_W} {is : List Nat} (hn : va_nd is = true) (hs : is.map (fun i => ws[i]?) = w.map some) (hD : va_D A (ws ++ F)) : va_D A (w ++ F) := by
  refine hD.sub (is ++ List.range' ws.length F.length) ?_ ?_
  · rw [vnd_iff, List.nodup_append]
    refine ⟨(vnd_iff is).mp hn, List.nodup_range', ?_⟩
    intro a ha b hb e
    have h1 := pl_lt hs a ha
    have h2 := List.mem_range'_1.mp hb
    omega
  · rw [List.map_append, List.map_append, pl_L hs, pl_rng]
theorem pmv (ws F c : va_W) : ((ws ++ F) ++ c).Perm ((ws ++ c) ++ F) := by
  rw [List.append_assoc, List.append_assoc]
  exact List.perm_append_comm.append_left ws
section GR
variable {X : Cx} {cc : ByteArray} {own : String} {ws : va_W} {lv : LV} {ce sl pc : Nat} {st : List Value}
theorem G.wk {ce' sl' : Nat} (h1 : ce ≤ ce') (h2 : sl ≤ sl') (k : G X ws lv ce' sl' pc st) : G X ws lv ce sl pc st := fun H locs ls hP hD hS hl => W.widen h1 h2 (k H locs ls hP hD hS hl)
theorem G.sub {ws' : va_W} (is : List Nat) (hn : va_nd is = true) (hs : is.map (fun i => ws[i]?) = ws'.map some) (k : G X ws' lv ce sl pc st) : G X ws lv ce sl pc st :=
  fun H locs ls hP hD hS hl => k H locs ls (subP hs hP) (subD hn hs hD) hS hl
theorem G.lsub {lv' : LV} (ks : List Nat) (hs : lv_pick lv ks = lv') (k : G X ws lv' ce sl pc st) : G X ws lv ce sl pc st :=
  fun H locs ls hP hD hS hl => k H locs ls hP hD hS (lv_sub hl ks hs)
theorem nm_i {v : Int32} (k : ∀ x : Int32, x = v → G X ws lv ce sl pc (.int x :: st)) : G X ws lv ce sl pc (.int v :: st) := k v rfl
theorem nm_l {v : Int64} (k : ∀ x : Int64, x = v → G X ws lv ce sl pc (.long x :: st)) : G X ws lv ce sl pc (.long v :: st) := k v rfl

theorem g_iconst (h : Ok X cc own) {n : Int} {v : Int32} (d : decode cc pc = .ok (.iconst n, 1)) (hv : Int32.ofInt n = v) (k : G X ws lv ce sl (pc + 1) (.int v :: st)) : G X ws lv ce sl pc (st) := fun H locs ls hP hD hS hl => lv_iconst h.x h.b d hv (k H locs ls hP hD hS hl)
theorem g_bipush (h : Ok X cc own) {n : Int} {v : Int32} (d : decode cc pc = .ok (.bipush n, 2)) (hv : (Int8.ofInt n).toInt32 = v) (k : G X ws lv ce sl (pc + 2) (.int v :: st)) : G X ws lv ce sl pc (st) := fun H locs ls hP hD hS hl => lv_bipush h.x h.b d hv (k H locs ls hP hD hS hl)
theorem g_sipush (h : Ok X cc own) {n : Int} {v : Int32} (d : decode cc pc = .ok (.sipush n, 3)) (hv : (Int16.ofInt n).toInt32 = v) (k : G X ws lv ce sl (pc + 3) (.int v :: st)) : G X ws lv ce sl pc (st) := fun H locs ls hP hD hS hl => lv_sipush h.x h.b d hv (k H locs ls hP hD hS hl)
theorem g_lconst (h : Ok X cc own) {n : Fin 2} {v : Int64} (d : decode cc pc = .ok (.lconst n, 1)) (hv : Int64.ofNat (n : Nat) = v) (k : G X ws lv ce sl (pc + 1) (.long v :: st)) : G X ws lv ce sl pc (st) := fun H locs ls hP hD hS hl => lv_lconst h.x h.b d hv (k H locs ls hP hD hS hl)
theorem g_iload_n (h : Ok X cc own) {k0 : Fin 4} {i : Nat} {x : Int32} (j : Nat) (d : decode cc pc = .ok (.iload_n k0, 1)) (hi : (k0 : Nat) = i) (hj : lv[j]? = some (i, .int x)) (k : G X ws lv ce sl (pc + 1) (.int x :: st)) : G X ws lv ce sl pc (st) := fun H locs ls hP hD hS hl => lv_iload_n h.x h.b d hi (lv_at hl j hj) (k H locs ls hP hD hS hl)
theorem g_iload (h : Ok X cc own) {i : Nat} {x : Int32} (j : Nat) (d : decode cc pc = .ok (.iload i, 2)) (hj : lv[j]? = some (i, .int x)) (k : G X ws lv ce sl (pc + 2) (.int x :: st)) : G X ws lv ce sl pc (st) := fun H locs ls hP hD hS hl => lv_iload h.x h.b d (lv_at hl j hj) (k H locs ls hP hD hS hl)
theorem g_lload_n (h : Ok X cc own) {k0 : Fin 4} {i : Nat} {x : Int64} (j : Nat) (d : decode cc pc = .ok (.lload_n k0, 1)) (hi : (k0 : Nat) = i) (hj : lv[j]? = some (i, .long x)) (k : G X ws lv ce sl (pc + 1) (.long x :: st)) : G X ws lv ce sl pc (st) := fun H locs ls hP hD hS hl => lv_lload_n h.x h.b d hi (lv_at hl j hj) (k H locs ls hP hD hS hl)
theorem g_lload (h : Ok X cc own) {i : Nat} {x : Int64} (j : Nat) (d : decode cc pc = .ok (.lload i, 2)) (hj : lv[j]? = some (i, .long x)) (k : G X ws lv ce sl (pc + 2) (.long x :: st)) : G X ws lv ce sl pc (st) := fun H locs ls hP hD hS hl => lv_lload h.x h.b d (lv_at hl j hj) (k H locs ls hP hD hS hl)
theorem g_aload_n (h : Ok X cc own) {k0 : Fin 4} {i : Nat} {x : Nat} (j : Nat) (d : decode cc pc = .ok (.aload_n k0, 1)) (hi : (k0 : Nat) = i) (hj : lv[j]? = some (i, .ref x)) (k : G X ws lv ce sl (pc + 1) (.ref x :: st)) : G X ws lv ce sl pc (st) := fun H locs ls hP hD hS hl => lv_aload_n h.x h.b d hi (lv_at hl j hj) (k H locs ls hP hD hS hl)
theorem g_aload (h : Ok X cc own) {i : Nat} {x : Nat} (j : Nat) (d : decode cc pc = .ok (.aload i, 2)) (hj : lv[j]? = some (i, .ref x)) (k : G X ws lv ce sl (pc + 2) (.ref x :: st)) : G X ws lv ce sl pc (st) := fun H locs ls hP hD hS hl => lv_aload h.x h.b d (lv_at hl j hj) (k H locs ls hP hD hS hl)
theorem g_aload_nN (h : Ok X cc own) {k0 : Fin 4} {i : Nat} (j : Nat) (d : decode cc pc = .ok (.aload_n k0, 1)) (hi : (k0 : Nat) = i) (hj : lv[j]? = some (i, .null)) (k : G X ws lv ce sl (pc + 1) (.null :: st)) : G X ws lv ce sl pc (st) := fun H locs ls hP hD hS hl => lv_aload_nN h.x h.b d hi (lv_at hl j hj) (k H locs ls hP hD hS hl)
theorem g_istore_n (h : Ok X cc own) {k0 : Fin 4} {i : Nat} {x : Int32} {lv' : LV} (d : decode cc pc = .ok (.istore_n k0, 1)) (hi : (k0 : Nat) = i) (hn : i < X.nL) (hl2 : (i, Value.int x) :: lv.filter (fun q => !(q.1 == i) && !(q.1 + 1 == i && q.2.category == 2)) = lv') (k : G X ws lv' ce sl (pc + 1) st) : G X ws lv ce sl pc (.int x :: st) := fun H locs ls hP hD hS hl => lv_istore_n h.x h.b d hi hl hn hl2 (fun ls2 hl => k H locs ls2 hP hD hS hl)
theorem g_istore (h : Ok X cc own) {i : Nat} {x : Int32} {lv' : LV} (d : decode cc pc = .ok (.istore i, 2)) (hn : i < X.nL) (hl2 : (i, Value.int x) :: lv.filter (fun q => !(q.1 == i) && !(q.1 + 1 == i && q.2.category == 2)) = lv') (k : G X ws lv' ce sl (pc + 2) st) : G X ws lv ce sl pc (.int x :: st) := fun H locs ls hP hD hS hl => lv_istore h.x h.b d hl hn hl2 (fun ls2 hl => k H locs ls2 hP hD hS hl)
theorem g_astore_n (h : Ok X cc own) {k0 : Fin 4} {i : Nat} {x : Nat} {lv' : LV} (d : decode cc pc = .ok (.astore_n k0, 1)) (hi : (k0 : Nat) = i) (hn : i < X.nL) (hl2 : (i, Value.ref x) :: lv.filter (fun q => !(q.1 == i) && !(q.1 + 1 == i && q.2.category == 2)) = lv') (k : G X ws lv' ce sl (pc + 1) st) : G X ws lv ce sl pc (.ref x :: st) := fun H locs ls hP hD hS hl => lv_astore_n h.x h.b d hi hl hn hl2 (fun ls2 hl => k H locs ls2 hP hD hS hl)
theorem g_astore (h : Ok X cc own) {i : Nat} {x : Nat} {lv' : LV} (d : decode cc pc = .ok (.astore i, 2)) (hn : i < X.nL) (hl2 : (i, Value.ref x) :: lv.filter (fun q => !(q.1 == i) && !(q.1 + 1 == i && q.2.category == 2)) = lv') (k : G X ws lv' ce sl (pc + 2) st) : G X ws lv ce sl pc (.ref x :: st) := fun H locs ls hP hD hS hl => lv_astore h.x h.b d hl hn hl2 (fun ls2 hl => k H locs ls2 hP hD hS hl)
theorem g_lstore_n (h : Ok X cc own) {k0 : Fin 4} {i : Nat} {x : Int64} {lv' : LV} (d : decode cc pc = .ok (.lstore_n k0, 1)) (hi : (k0 : Nat) = i) (hn : i + 1 < X.nL) (hl2 : (i, Value.long x) :: lv.filter (fun q => !(q.1 == i) && (!(q.1 == i + 1) && !(q.1 + 1 == i && q.2.category == 2))) = lv') (k : G X ws lv' ce sl (pc + 1) st) : G X ws lv ce sl pc (.long x :: st) := fun H locs ls hP hD hS hl => lv_lstore_n h.x h.b d hi hl hn hl2 (fun ls2 hl => k H locs ls2 hP hD hS hl)
theorem g_lstore (h : Ok X cc own) {i : Nat} {x : Int64} {lv' : LV} (d : decode cc pc = .ok (.lstore i, 2)) (hn : i + 1 < X.nL) (hl2 : (i, Value.long x) :: lv.filter (fun q => !(q.1 == i) && (!(q.1 == i + 1) && !(q.1 + 1 == i && q.2.category == 2))) = lv') (k : G X ws lv' ce sl (pc + 2) st) : G X ws lv ce sl pc (.long x :: st) := fun H locs ls hP hD hS hl => lv_lstore h.x h.b d hl hn hl2 (fun ls2 hl => k H locs ls2 hP hD hS hl)
theorem g_iinc (h : Ok X cc own) {i j : Nat} {n : Int} {x v : Int32} {lv' : LV} (d : decode cc pc = .ok (.iinc i n, 3)) (hj : lv[j]? = some (i, .int x)) (hv : x + Int32.ofInt n = v) (hn : i < X.nL) (hl2 : (i, Value.int v) :: lv.filter (fun q => !(q.1 == i) && !(q.1 + 1 == i && q.2.category == 2)) = lv') (k : G X ws lv' ce sl (pc + 3) st) : G X ws lv ce sl pc st := fun H locs ls hP hD hS hl => lv_iinc h.x h.b d hl hj hv hn hl2 (fun ls2 hl => k H locs ls2 hP hD hS hl)
theorem g_iadd (h : Ok X cc own) {x y : Int32} (d : decode cc pc = .ok (.iadd, 1)) (k : G X ws lv ce sl (pc + 1) (.int (x + y) :: st)) : G X ws lv ce sl pc (.int y :: .int x :: st) := fun H locs ls hP hD hS hl => lv_iadd h.x h.b d (k H locs ls hP hD hS hl)
theorem g_isub (h : Ok X cc own) {x y : Int32} (d : decode cc pc = .ok (.isub, 1)) (k : G X ws lv ce sl (pc + 1) (.int (x - y) :: st)) : G X ws lv ce sl pc (.int y :: .int x :: st) := fun H locs ls hP hD hS hl => lv_isub h.x h.b d (k H locs ls hP hD hS hl)
theorem g_imul (h : Ok X cc own) {x y : Int32} (d : decode cc pc = .ok (.imul, 1)) (k : G X ws lv ce sl (pc + 1) (.int (x * y) :: st)) : G X ws lv ce sl pc (.int y :: .int x :: st) := fun H locs ls hP hD hS hl => lv_imul h.x h.b d (k H locs ls hP hD hS hl)
theorem g_iand (h : Ok X cc own) {x y : Int32} (d : decode cc pc = .ok (.iand, 1)) (k : G X ws lv ce sl (pc + 1) (.int (x &&& y) :: st)) : G X ws lv ce sl pc (.int y :: .int x :: st) := fun H locs ls hP hD hS hl => lv_iand h.x h.b d (k H locs ls hP hD hS hl)
theorem g_ior (h : Ok X cc own) {x y : Int32} (d : decode cc pc = .ok (.ior, 1)) (k : G X ws lv ce sl (pc + 1) (.int (x ||| y) :: st)) : G X ws lv ce sl pc (.int y :: .int x :: st) := fun H locs ls hP hD hS hl => lv_ior h.x h.b d (k H locs ls hP hD hS hl)
theorem g_ixor (h : Ok X cc own) {x y : Int32} (d : decode cc pc = .ok (.ixor, 1)) (k : G X ws lv ce sl (pc + 1) (.int (x ^^^ y) :: st)) : G X ws lv ce sl pc (.int y :: .int x :: st) := fun H locs ls hP hD hS hl => lv_ixor h.x h.b d (k H locs ls hP hD hS hl)
theorem g_ishl (h : Ok X cc own) {x y : Int32} (d : decode cc pc = .ok (.ishl, 1)) (k : G X ws lv ce sl (pc + 1) (.int (x <<< (y &&& 31)) :: st)) : G X ws lv ce sl pc (.int y :: .int x :: st) := fun H locs ls hP hD hS hl => lv_ishl h.x h.b d (k H locs ls hP hD hS hl)
theorem g_ishr (h : Ok X cc own) {x y : Int32} (d : decode cc pc = .ok (.ishr, 1)) (k : G X ws lv ce sl (pc + 1) (.int (x >>> (y &&& 31)) :: st)) : G X ws lv ce sl pc (.int y :: .int x :: st) := fun H locs ls hP hD hS hl => lv_ishr h.x h.b d (k H locs ls hP hD hS hl)
theorem g_ladd (h : Ok X cc own) {x y : Int64} (d : decode cc pc = .ok (.ladd, 1)) (k : G X ws lv ce sl (pc + 1) (.long (x + y) :: st)) : G X ws lv ce sl pc (.long y :: .long x :: st) := fun H locs ls hP hD hS hl => lv_ladd h.x h.b d (k H locs ls hP hD hS hl)
theorem g_lsub (h : Ok X cc own) {x y : Int64} (d : decode cc pc = .ok (.lsub, 1)) (k : G X ws lv ce sl (pc + 1) (.long (x - y) :: st)) : G X ws lv ce sl pc (.long y :: .long x :: st) := fun H locs ls hP hD hS hl => lv_lsub h.x h.b d (k H locs ls hP hD hS hl)
theorem g_lmul (h : Ok X cc own) {x y : Int64} (d : decode cc pc = .ok (.lmul, 1)) (k : G X ws lv ce sl (pc + 1) (.long (x * y) :: st)) : G X ws lv ce sl pc (.long y :: .long x :: st) := fun H locs ls hP hD hS hl => lv_lmul h.x h.b d (k H locs ls hP hD hS hl)
theorem g_land (h : Ok X cc own) {x y : Int64} (d : decode cc pc = .ok (.land, 1)) (k : G X ws lv ce sl (pc + 1) (.long (x &&& y) :: st)) : G X ws lv ce sl pc (.long y :: .long x :: st) := fun H locs ls hP hD hS hl => lv_land h.x h.b d (k H locs ls hP hD hS hl)
theorem g_lor (h : Ok X cc own) {x y : Int64} (d : decode cc pc = .ok (.lor, 1)) (k : G X ws lv ce sl (pc + 1) (.long (x ||| y) :: st)) : G X ws lv ce sl pc (.long y :: .long x :: st) := fun H locs ls hP hD hS hl => lv_lor h.x h.b d (k H locs ls hP hD hS hl)
theorem g_lxor (h : Ok X cc own) {x y : Int64} (d : decode cc pc = .ok (.lxor, 1)) (k : G X ws lv ce sl (pc + 1) (.long (x ^^^ y) :: st)) : G X ws lv ce sl pc (.long y :: .long x :: st) := fun H locs ls hP hD hS hl => lv_lxor h.x h.b d (k H locs ls hP hD hS hl)
theorem g_idiv (h : Ok X cc own) {x y : Int32} (d : decode cc pc = .ok (.idiv, 1)) (hne : ¬ y = 0) (k : G X ws lv ce sl (pc + 1) (.int (x / y) :: st)) : G X ws lv ce sl pc (.int y :: .int x :: st) := fun H locs ls hP hD hS hl => lv_idiv h.x h.b d hne (k H locs ls hP hD hS hl)
theorem g_irem (h : Ok X cc own) {x y : Int32} (d : decode cc pc = .ok (.irem, 1)) (hne : ¬ y = 0) (k : G X ws lv ce sl (pc + 1) (.int (x - x / y * y) :: st)) : G X ws lv ce sl pc (.int y :: .int x :: st) := fun H locs ls hP hD hS hl => lv_irem h.x h.b d hne (k H locs ls hP hD hS hl)
theorem g_ineg (h : Ok X cc own) {x : Int32} (d : decode cc pc = .ok (.ineg, 1)) (k : G X ws lv ce sl (pc + 1) (.int (-x) :: st)) : G X ws lv ce sl pc (.int x :: st) := fun H locs ls hP hD hS hl => lv_ineg h.x h.b d (k H locs ls hP hD hS hl)
theorem g_ldiv (h : Ok X cc own) {x y : Int64} (d : decode cc pc = .ok (.ldiv, 1)) (hne : ¬ y = 0) (k : G X ws lv ce sl (pc + 1) (.long (x / y) :: st)) : G X ws lv ce sl pc (.long y :: .long x :: st) := fun H locs ls hP hD hS hl => lv_ldiv h.x h.b d hne (k H locs ls hP hD hS hl)
theorem g_lrem (h : Ok X cc own) {x y : Int64} (d : decode cc pc = .ok (.lrem, 1)) (hne : ¬ y = 0) (k : G X ws lv ce sl (pc + 1) (.long (x - x / y * y) :: st)) : G X ws lv ce sl pc (.long y :: .long x :: st) := fun H locs ls hP hD hS hl => lv_lrem h.x h.b d hne (k H locs ls hP hD hS hl)
theorem g_lneg (h : Ok X cc own) {x : Int64} (d : decode cc pc = .ok (.lneg, 1)) (k : G X ws lv ce sl (pc + 1) (.long (-x) :: st)) : G X ws lv ce sl pc (.long x :: st) := fun H locs ls hP hD hS hl => lv_lneg h.x h.b d (k H locs ls hP hD hS hl)
theorem g_i2l (h : Ok X cc own) {x : Int32} (d : decode cc pc = .ok (.i2l, 1)) (k : G X ws lv ce sl (pc + 1) (.long x.toInt64 :: st)) : G X ws lv ce sl pc (.int x :: st) := fun H locs ls hP hD hS hl => lv_i2l h.x h.b d rfl (k H locs ls hP hD hS hl)
theorem g_l2i (h : Ok X cc own) {x : Int64} (d : decode cc pc = .ok (.l2i, 1)) (k : G X ws lv ce sl (pc + 1) (.int x.toInt32 :: st)) : G X ws lv ce sl pc (.long x :: st) := fun H locs ls hP hD hS hl => lv_l2i h.x h.b d rfl (k H locs ls hP hD hS hl)
theorem g_i2b (h : Ok X cc own) {x : Int32} (d : decode cc pc = .ok (.i2b, 1)) (k : G X ws lv ce sl (pc + 1) (.int x.toInt8.toInt32 :: st)) : G X ws lv ce sl pc (.int x :: st) := fun H locs ls hP hD hS hl => lv_i2b h.x h.b d rfl (k H locs ls hP hD hS hl)
theorem g_i2s (h : Ok X cc own) {x : Int32} (d : decode cc pc = .ok (.i2s, 1)) (k : G X ws lv ce sl (pc + 1) (.int x.toInt16.toInt32 :: st)) : G X ws lv ce sl pc (.int x :: st) := fun H locs ls hP hD hS hl => lv_i2s h.x h.b d rfl (k H locs ls hP hD hS hl)
theorem g_i2c (h : Ok X cc own) {x : Int32} (d : decode cc pc = .ok (.i2c, 1)) (k : G X ws lv ce sl (pc + 1) (.int (x.toUInt32 % 65536).toInt32 :: st)) : G X ws lv ce sl pc (.int x :: st) := fun H locs ls hP hD hS hl => lv_i2c h.x h.b d rfl (k H locs ls hP hD hS hl)
theorem g_iushr (h : Ok X cc own) {x y : Int32} (d : decode cc pc = .ok (.iushr, 1)) (k : G X ws lv ce sl (pc + 1) (.int (x.toUInt32 >>> (y.toUInt32 &&& Int32.toUInt32 31)).toInt32 :: st)) : G X ws lv ce sl pc (.int y :: .int x :: st) := fun H locs ls hP hD hS hl => lv_iushr h.x h.b d rfl (k H locs ls hP hD hS hl)
theorem g_lshl (h : Ok X cc own) {x : Int64} {y : Int32} (d : decode cc pc = .ok (.lshl, 1)) (k : G X ws lv ce sl (pc + 1) (.long (x <<< (y.toInt64 &&& 63)) :: st)) : G X ws lv ce sl pc (.int y :: .long x :: st) := fun H locs ls hP hD hS hl => lv_lshl h.x h.b d rfl (k H locs ls hP hD hS hl)
theorem g_lcmp (h : Ok X cc own) {x y : Int64} (d : decode cc pc = .ok (.lcmp, 1)) (k : G X ws lv ce sl (pc + 1) (.int (lg_cmp x y) :: st)) : G X ws lv ce sl pc (.long y :: .long x :: st) := fun H locs ls hP hD hS hl => W.lcmp h.x h.b d (k H locs ls hP hD hS hl)
theorem g_dup (h : Ok X cc own) {v : Value} (d : decode cc pc = .ok (.dup, 1)) (hv : v.category = 1) (k : G X ws lv ce sl (pc + 1) (v :: v :: st)) : G X ws lv ce sl pc (v :: st) := fun H locs ls hP hD hS hl => lv_dup h.x h.b d hv (k H locs ls hP hD hS hl)
theorem g_pop (h : Ok X cc own) {v : Value} (d : decode cc pc = .ok (.pop, 1)) (hv : v.category = 1) (k : G X ws lv ce sl (pc + 1) (st)) : G X ws lv ce sl pc (v :: st) := fun H locs ls hP hD hS hl => lv_pop h.x h.b d hv (k H locs ls hP hD hS hl)
theorem g_dup_x1 (h : Ok X cc own) {v u : Value} (d : decode cc pc = .ok (.dup_x1, 1)) (hv : v.category = 1) (hu : u.category = 1) (k : G X ws lv ce sl (pc + 1) (v :: u :: v :: st)) : G X ws lv ce sl pc (v :: u :: st) := fun H locs ls hP hD hS hl => lv_dup_x1 h.x h.b d hv hu (k H locs ls hP hD hS hl)
theorem g_dup_x2 (h : Ok X cc own) {v u z : Value} (d : decode cc pc = .ok (.dup_x2, 1)) (hv : v.category = 1) (hu : u.category = 1) (hz : z.category = 1) (k : G X ws lv ce sl (pc + 1) (v :: u :: z :: v :: st)) : G X ws lv ce sl pc (v :: u :: z :: st) := fun H locs ls hP hD hS hl => lv_dup_x2 h.x h.b d hv hu hz (k H locs ls hP hD hS hl)
theorem g_dup2 (h : Ok X cc own) {v u : Value} (d : decode cc pc = .ok (.dup2, 1)) (hv : v.category = 1) (hu : u.category = 1) (k : G X ws lv ce sl (pc + 1) (v :: u :: v :: u :: st)) : G X ws lv ce sl pc (v :: u :: st) := fun H locs ls hP hD hS hl => lv_dup2_11 h.x h.b d hv hu (k H locs ls hP hD hS hl)
theorem g_dup2l (h : Ok X cc own) {v : Value} (d : decode cc pc = .ok (.dup2, 1)) (hv : v.category = 2) (k : G X ws lv ce sl (pc + 1) (v :: v :: st)) : G X ws lv ce sl pc (v :: st) := fun H locs ls hP hD hS hl => lv_dup2_2 h.x h.b d hv (k H locs ls hP hD hS hl)
theorem g_null (h : Ok X cc own) (d : decode cc pc = .ok (.aconst_null, 1)) (k : G X ws lv ce sl (pc + 1) (.null :: st)) : G X ws lv ce sl pc (st) := fun H locs ls hP hD hS hl => lv_null h.x h.b d (k H locs ls hP hD hS hl)
theorem g_goto (h : Ok X cc own) {off : Int} {tgt : Nat} (d : decode cc pc = .ok (.goto off, 3)) (ht : (pc : Int) + off = (tgt : Int)) (k : G X ws lv ce sl tgt st) : G X ws lv ce sl pc st := fun H locs ls hP hD hS hl => lv_goto h.x h.b d ht (k H locs ls hP hD hS hl)
theorem g_ldc (h : Ok X cc own) {i : Nat} {v : Int32} (w : Jvm.Cond.constant own i v ∈ lw_all) (d : decode cc pc = .ok (.ldc i, 2)) (k : G X ws lv ce sl (pc + 2) (.int v :: st)) : G X ws lv ce sl pc st := fun H locs ls hP hD hS hl => lv_ldc h.x h.b h.own (h.ts _ w) d (k H locs ls hP hD hS hl)
theorem g_ldcw (h : Ok X cc own) {i : Nat} {v : Int32} (w : Jvm.Cond.constant own i v ∈ lw_all) (d : decode cc pc = .ok (.ldc_w i, 3)) (k : G X ws lv ce sl (pc + 3) (.int v :: st)) : G X ws lv ce sl pc st := fun H locs ls hP hD hS hl => lv_ldcw h.x h.b h.own (h.ts _ w) d (k H locs ls hP hD hS hl)
theorem g_ldc2 (h : Ok X cc own) {i : Nat} {v : Int64} (w : Jvm.Cond.constantLong own i v ∈ lw_all) (d : decode cc pc = .ok (.ldc2_w i, 3)) (k : G X ws lv ce sl (pc + 3) (.long v :: st)) : G X ws lv ce sl pc st := fun H locs ls hP hD hS hl => lv_ldc2 h.x h.b h.own (h.ts _ w) d (k H locs ls hP hD hS hl)
theorem g_if_eq {α : Type} (h : Ok X cc own) {x : Int32} {off : Int} {tgt : Nat} {u v : Option α} {r : α} (d : decode cc pc = .ok (.ifCond .eq off, 3)) (ht : (pc : Int) + off = (tgt : Int)) (hf : (if x = 0 then u else v) = some r) (kt : x = 0 → u = some r → G X ws lv ce sl tgt st) (kf : ¬ (x = 0) → v = some r → G X ws lv ce sl (pc + 3) st) : G X ws lv ce sl pc (.int x :: st) := fun H locs ls hP hD hS hl => lv_if_eq h.x h.b d ht (fun c1 => (kt c1 ((if_pos c1).symm.trans hf)) H locs ls hP hD hS hl) (fun c1 => (kf c1 ((if_neg c1).symm.trans hf)) H locs ls hP hD hS hl)
theorem b_if_eq (h : Ok X cc own) {x : Int32} {off : Int} {tgt : Nat} (d : decode cc pc = .ok (.ifCond .eq off, 3)) (ht : (pc : Int) + off = (tgt : Int)) (kt : x = 0 → G X ws lv ce sl tgt st) (kf : ¬ (x = 0) → G X ws lv ce sl (pc + 3) st) : G X ws lv ce sl pc (.int x :: st) := fun H locs ls hP hD hS hl => lv_if_eq h.x h.b d ht (fun c1 => (kt c1) H locs ls hP hD hS hl) (fun c1 => (kf c1) H locs ls hP hD hS hl)
theorem g_icmp_eq {α : Type} (h : Ok X cc own) {x y : Int32} {off : Int} {tgt : Nat} {u v : Option α} {r : α} (d : decode cc pc = .ok (.if_icmp .eq off, 3)) (ht : (pc : Int) + off = (tgt : Int)) (hf : (if x = y then u else v) = some r) (kt : x = y → u = some r → G X ws lv ce sl tgt st) (kf : ¬ (x = y) → v = some r → G X ws lv ce sl (pc + 3) st) : G X ws lv ce sl pc (.int y :: .int x :: st) := fun H locs ls hP hD hS hl => lv_icmp_eq h.x h.b d ht (fun c1 => (kt c1 ((if_pos c1).symm.trans hf)) H locs ls hP hD hS hl) (fun c1 => (kf c1 ((if_neg c1).symm.trans hf)) H locs ls hP hD hS hl)
theorem b_icmp_eq (h : Ok X cc own) {x y : Int32} {off : Int} {tgt : Nat} (d : decode cc pc = .ok (.if_icmp .eq off, 3)) (ht : (pc : Int) + off = (tgt : Int)) (kt : x = y → G X ws lv ce sl tgt st) (kf : ¬ (x = y) → G X ws lv ce sl (pc + 3) st) : G X ws lv ce sl pc (.int y :: .int x :: st) := fun H locs ls hP hD hS hl => lv_icmp_eq h.x h.b d ht (fun c1 => (kt c1) H locs ls hP hD hS hl) (fun c1 => (kf c1) H locs ls hP hD hS hl)
theorem g_if_ne {α : Type} (h : Ok X cc own) {x : Int32} {off : Int} {tgt : Nat} {u v : Option α} {r : α} (d : decode cc pc = .ok (.ifCond .ne off, 3)) (ht : (pc : Int) + off = (tgt : Int)) (hf : (if x = 0 then u else v) = some r) (kt : x = 0 → u = some r → G X ws lv ce sl (pc + 3) st) (kf : ¬ (x = 0) → v = some r → G X ws lv ce sl tgt st) : G X ws lv ce sl pc (.int x :: st) := fun H locs ls hP hD hS hl => lv_if_ne h.x h.b d ht (fun c1 => (kf c1 ((if_neg c1).symm.trans hf)) H locs ls hP hD hS hl) (fun c1 => (kt c1 ((if_pos c1).symm.trans hf)) H locs ls hP hD hS hl)
theorem b_if_ne (h : Ok X cc own) {x : Int32} {off : Int} {tgt : Nat} (d : decode cc pc = .ok (.ifCond .ne off, 3)) (ht : (pc : Int) + off = (tgt : Int)) (kt : x = 0 → G X ws lv ce sl (pc + 3) st) (kf : ¬ (x = 0) → G X ws lv ce sl tgt st) : G X ws lv ce sl pc (.int x :: st) := fun H locs ls hP hD hS hl => lv_if_ne h.x h.b d ht (fun c1 => (kf c1) H locs ls hP hD hS hl) (fun c1 => (kt c1) H locs ls hP hD hS hl)
theorem g_icmp_ne {α : Type} (h : Ok X cc own) {x y : Int32} {off : Int} {tgt : Nat} {u v : Option α} {r : α} (d : decode cc pc = .ok (.if_icmp .ne off, 3)) (ht : (pc : Int) + off = (tgt : Int)) (hf : (if x = y then u else v) = some r) (kt : x = y → u = some r → G X ws lv ce sl (pc + 3) st) (kf : ¬ (x = y) → v = some r → G X ws lv ce sl tgt st) : G X ws lv ce sl pc (.int y :: .int x :: st) := fun H locs ls hP hD hS hl => lv_icmp_ne h.x h.b d ht (fun c1 => (kf c1 ((if_neg c1).symm.trans hf)) H locs ls hP hD hS hl) (fun c1 => (kt c1 ((if_pos c1).symm.trans hf)) H locs ls hP hD hS hl)
theorem b_icmp_ne (h : Ok X cc own) {x y : Int32} {off : Int} {tgt : Nat} (d : decode cc pc = .ok (.if_icmp .ne off, 3)) (ht : (pc : Int) + off = (tgt : Int)) (kt : x = y → G X ws lv ce sl (pc + 3) st) (kf : ¬ (x = y) → G X ws lv ce sl tgt st) : G X ws lv ce sl pc (.int y :: .int x :: st) := fun H locs ls hP hD hS hl => lv_icmp_ne h.x h.b d ht (fun c1 => (kf c1) H locs ls hP hD hS hl) (fun c1 => (kt c1) H locs ls hP hD hS hl)
theorem g_if_lt {α : Type} (h : Ok X cc own) {x : Int32} {off : Int} {tgt : Nat} {u v : Option α} {r : α} (d : decode cc pc = .ok (.ifCond .lt off, 3)) (ht : (pc : Int) + off = (tgt : Int)) (hf : (if x < 0 then u else v) = some r) (kt : x < 0 → u = some r → G X ws lv ce sl tgt st) (kf : ¬ (x < 0) → v = some r → G X ws lv ce sl (pc + 3) st) : G X ws lv ce sl pc (.int x :: st) := fun H locs ls hP hD hS hl => lv_if_lt h.x h.b d ht (fun c1 => (kt c1 ((if_pos c1).symm.trans hf)) H locs ls hP hD hS hl) (fun c1 => (kf c1 ((if_neg c1).symm.trans hf)) H locs ls hP hD hS hl)
theorem b_if_lt (h : Ok X cc own) {x : Int32} {off : Int} {tgt : Nat} (d : decode cc pc = .ok (.ifCond .lt off, 3)) (ht : (pc : Int) + off = (tgt : Int)) (kt : x < 0 → G X ws lv ce sl tgt st) (kf : ¬ (x < 0) → G X ws lv ce sl (pc + 3) st) : G X ws lv ce sl pc (.int x :: st) := fun H locs ls hP hD hS hl => lv_if_lt h.x h.b d ht (fun c1 => (kt c1) H locs ls hP hD hS hl) (fun c1 => (kf c1) H locs ls hP hD hS hl)
theorem g_icmp_lt {α : Type} (h : Ok X cc own) {x y : Int32} {off : Int} {tgt : Nat} {u v : Option α} {r : α} (d : decode cc pc = .ok (.if_icmp .lt off, 3)) (ht : (pc : Int) + off = (tgt : Int)) (hf : (if x < y then u else v) = some r) (kt : x < y → u = some r → G X ws lv ce sl tgt st) (kf : ¬ (x < y) → v = some r → G X ws lv ce sl (pc + 3) st) : G X ws lv ce sl pc (.int y :: .int x :: st) := fun H locs ls hP hD hS hl => lv_icmp_lt h.x h.b d ht (fun c1 => (kt c1 ((if_pos c1).symm.trans hf)) H locs ls hP hD hS hl) (fun c1 => (kf c1 ((if_neg c1).symm.trans hf)) H locs ls hP hD hS hl)
theorem b_icmp_lt (h : Ok X cc own) {x y : Int32} {off : Int} {tgt : Nat} (d : decode cc pc = .ok (.if_icmp .lt off, 3)) (ht : (pc : Int) + off = (tgt : Int)) (kt : x < y → G X ws lv ce sl tgt st) (kf : ¬ (x < y) → G X ws lv ce sl (pc + 3) st) : G X ws lv ce sl pc (.int y :: .int x :: st) := fun H locs ls hP hD hS hl => lv_icmp_lt h.x h.b d ht (fun c1 => (kt c1) H locs ls hP hD hS hl) (fun c1 => (kf c1) H locs ls hP hD hS hl)
theorem g_if_ge {α : Type} (h : Ok X cc own) {x : Int32} {off : Int} {tgt : Nat} {u v : Option α} {r : α} (d : decode cc pc = .ok (.ifCond .ge off, 3)) (ht : (pc : Int) + off = (tgt : Int)) (hf : (if 0 ≤ x then u else v) = some r) (kt : 0 ≤ x → u = some r → G X ws lv ce sl tgt st) (kf : ¬ (0 ≤ x) → v = some r → G X ws lv ce sl (pc + 3) st) : G X ws lv ce sl pc (.int x :: st) := fun H locs ls hP hD hS hl => lv_if_ge h.x h.b d ht (fun c1 => (kt c1 ((if_pos c1).symm.trans hf)) H locs ls hP hD hS hl) (fun c1 => (kf c1 ((if_neg c1).symm.trans hf)) H locs ls hP hD hS hl)
theorem b_if_ge (h : Ok X cc own) {x : Int32} {off : Int} {tgt : Nat} (d : decode cc pc = .ok (.ifCond .ge off, 3)) (ht : (pc : Int) + off = (tgt : Int)) (kt : 0 ≤ x → G X ws lv ce sl tgt st) (kf : ¬ (0 ≤ x) → G X ws lv ce sl (pc + 3) st) : G X ws lv ce sl pc (.int x :: st) := fun H locs ls hP hD hS hl => lv_if_ge h.x h.b d ht (fun c1 => (kt c1) H locs ls hP hD hS hl) (fun c1 => (kf c1) H locs ls hP hD hS hl)
theorem g_icmp_ge {α : Type} (h : Ok X cc own) {x y : Int32} {off : Int} {tgt : Nat} {u v : Option α} {r : α} (d : decode cc pc = .ok (.if_icmp .ge off, 3)) (ht : (pc : Int) + off = (tgt : Int)) (hf : (if y ≤ x then u else v) = some r) (kt : y ≤ x → u = some r → G X ws lv ce sl tgt st) (kf : ¬ (y ≤ x) → v = some r → G X ws lv ce sl (pc + 3) st) : G X ws lv ce sl pc (.int y :: .int x :: st) := fun H locs ls hP hD hS hl => lv_icmp_ge h.x h.b d ht (fun c1 => (kt c1 ((if_pos c1).symm.trans hf)) H locs ls hP hD hS hl) (fun c1 => (kf c1 ((if_neg c1).symm.trans hf)) H locs ls hP hD hS hl)
theorem b_icmp_ge (h : Ok X cc own) {x y : Int32} {off : Int} {tgt : Nat} (d : decode cc pc = .ok (.if_icmp .ge off, 3)) (ht : (pc : Int) + off = (tgt : Int)) (kt : y ≤ x → G X ws lv ce sl tgt st) (kf : ¬ (y ≤ x) → G X ws lv ce sl (pc + 3) st) : G X ws lv ce sl pc (.int y :: .int x :: st) := fun H locs ls hP hD hS hl => lv_icmp_ge h.x h.b d ht (fun c1 => (kt c1) H locs ls hP hD hS hl) (fun c1 => (kf c1) H locs ls hP hD hS hl)
theorem g_if_gt {α : Type} (h : Ok X cc own) {x : Int32} {off : Int} {tgt : Nat} {u v : Option α} {r : α} (d : decode cc pc = .ok (.ifCond .gt off, 3)) (ht : (pc : Int) + off = (tgt : Int)) (hf : (if 0 < x then u else v) = some r) (kt : 0 < x → u = some r → G X ws lv ce sl tgt st) (kf : ¬ (0 < x) → v = some r → G X ws lv ce sl (pc + 3) st) : G X ws lv ce sl pc (.int x :: st) := fun H locs ls hP hD hS hl => lv_if_gt h.x h.b d ht (fun c1 => (kt c1 ((if_pos c1).symm.trans hf)) H locs ls hP hD hS hl) (fun c1 => (kf c1 ((if_neg c1).symm.trans hf)) H locs ls hP hD hS hl)
theorem b_if_gt (h : Ok X cc own) {x : Int32} {off : Int} {tgt : Nat} (d : decode cc pc = .ok (.ifCond .gt off, 3)) (ht : (pc : Int) + off = (tgt : Int)) (kt : 0 < x → G X ws lv ce sl tgt st) (kf : ¬ (0 < x) → G X ws lv ce sl (pc + 3) st) : G X ws lv ce sl pc (.int x :: st) := fun H locs ls hP hD hS hl => lv_if_gt h.x h.b d ht (fun c1 => (kt c1) H locs ls hP hD hS hl) (fun c1 => (kf c1) H locs ls hP hD hS hl)
theorem g_icmp_gt {α : Type} (h : Ok X cc own) {x y : Int32} {off : Int} {tgt : Nat} {u v : Option α} {r : α} (d : decode cc pc = .ok (.if_icmp .gt off, 3)) (ht : (pc : Int) + off = (tgt : Int)) (hf : (if y < x then u else v) = some r) (kt : y < x → u = some r → G X ws lv ce sl tgt st) (kf : ¬ (y < x) → v = some r → G X ws lv ce sl (pc + 3) st) : G X ws lv ce sl pc (.int y :: .int x :: st) := fun H locs ls hP hD hS hl => lv_icmp_gt h.x h.b d ht (fun c1 => (kt c1 ((if_pos c1).symm.trans hf)) H locs ls hP hD hS hl) (fun c1 => (kf c1 ((if_neg c1).symm.trans hf)) H locs ls hP hD hS hl)
theorem b_icmp_gt (h : Ok X cc own) {x y : Int32} {off : Int} {tgt : Nat} (d : decode cc pc = .ok (.if_icmp .gt off, 3)) (ht : (pc : Int) + off = (tgt : Int)) (kt : y < x → G X ws lv ce sl tgt st) (kf : ¬ (y < x) → G X ws lv ce sl (pc + 3) st) : G X ws lv ce sl pc (.int y :: .int x :: st) := fun H locs ls hP hD hS hl => lv_icmp_gt h.x h.b d ht (fun c1 => (kt c1) H locs ls hP hD hS hl) (fun c1 => (kf c1) H locs ls hP hD hS hl)
theorem g_if_le {α : Type} (h : Ok X cc own) {x : Int32} {off : Int} {tgt : Nat} {u v : Option α} {r : α} (d : decode cc pc = .ok (.ifCond .le off, 3)) (ht : (pc : Int) + off = (tgt : Int)) (hf : (if x ≤ 0 then u else v) = some r) (kt : x ≤ 0 → u = some r → G X ws lv ce sl tgt st) (kf : ¬ (x ≤ 0) → v = some r → G X ws lv ce sl (pc + 3) st) : G X ws lv ce sl pc (.int x :: st) := fun H locs ls hP hD hS hl => lv_if_le h.x h.b d ht (fun c1 => (kt c1 ((if_pos c1).symm.trans hf)) H locs ls hP hD hS hl) (fun c1 => (kf c1 ((if_neg c1).symm.trans hf)) H locs ls hP hD hS hl)
theorem b_if_le (h : Ok X cc own) {x : Int32} {off : Int} {tgt : Nat} (d : decode cc pc = .ok (.ifCond .le off, 3)) (ht : (pc : Int) + off = (tgt : Int)) (kt : x ≤ 0 → G X ws lv ce sl tgt st) (kf : ¬ (x ≤ 0) → G X ws lv ce sl (pc + 3) st) : G X ws lv ce sl pc (.int x :: st) := fun H locs ls hP hD hS hl => lv_if_le h.x h.b d ht (fun c1 => (kt c1) H locs ls hP hD hS hl) (fun c1 => (kf c1) H locs ls hP hD hS hl)
theorem g_icmp_le {α : Type} (h : Ok X cc own) {x y : Int32} {off : Int} {tgt : Nat} {u v : Option α} {r : α} (d : decode cc pc = .ok (.if_icmp .le off, 3)) (ht : (pc : Int) + off = (tgt : Int)) (hf : (if x ≤ y then u else v) = some r) (kt : x ≤ y → u = some r → G X ws lv ce sl tgt st) (kf : ¬ (x ≤ y) → v = some r → G X ws lv ce sl (pc + 3) st) : G X ws lv ce sl pc (.int y :: .int x :: st) := fun H locs ls hP hD hS hl => lv_icmp_le h.x h.b d ht (fun c1 => (kt c1 ((if_pos c1).symm.trans hf)) H locs ls hP hD hS hl) (fun c1 => (kf c1 ((if_neg c1).symm.trans hf)) H locs ls hP hD hS hl)
theorem b_icmp_le (h : Ok X cc own) {x y : Int32} {off : Int} {tgt : Nat} (d : decode cc pc = .ok (.if_icmp .le off, 3)) (ht : (pc : Int) + off = (tgt : Int)) (kt : x ≤ y → G X ws lv ce sl tgt st) (kf : ¬ (x ≤ y) → G X ws lv ce sl (pc + 3) st) : G X ws lv ce sl pc (.int y :: .int x :: st) := fun H locs ls hP hD hS hl => lv_icmp_le h.x h.b d ht (fun c1 => (kt c1) H locs ls hP hD hS hl) (fun c1 => (kf c1) H locs ls hP hD hS hl)
theorem g_ifnonnull (h : Ok X cc own) {x : Nat} {off : Int} {tgt : Nat} (d : decode cc pc = .ok (.ifnonnull off, 3)) (ht : (pc : Int) + off = (tgt : Int)) (k : G X ws lv ce sl tgt st) : G X ws lv ce sl pc (.ref x :: st) := fun H locs ls hP hD hS hl => lv_ifnonnull h.x h.b d ht (k H locs ls hP hD hS hl)
theorem g_ifnull (h : Ok X cc own) {x : Nat} {off : Int} (d : decode cc pc = .ok (.ifnull off, 3)) (k : G X ws lv ce sl (pc + 3) st) : G X ws lv ce sl pc (.ref x :: st) := fun H locs ls hP hD hS hl => lv_ifnull h.x h.b d (k H locs ls hP hD hS hl)
theorem g_ifnonnullN (h : Ok X cc own) {off : Int} (d : decode cc pc = .ok (.ifnonnull off, 3)) (k : G X ws lv ce sl (pc + 3) st) : G X ws lv ce sl pc (.null :: st) := fun H locs ls hP hD hS hl => lv_ifnonnullN h.x h.b d (k H locs ls hP hD hS hl)
theorem g_ifnullN (h : Ok X cc own) {off : Int} {tgt : Nat} (d : decode cc pc = .ok (.ifnull off, 3)) (ht : (pc : Int) + off = (tgt : Int)) (k : G X ws lv ce sl tgt st) : G X ws lv ce sl pc (.null :: st) := fun H locs ls hP hD hS hl => lv_ifnullN h.x h.b d ht (k H locs ls hP hD hS hl)
theorem g_get (h : Ok X cc own) {a idx ci N : Nat} {C : String} {T : u_T} {fs : List Value} {v : Value} (hin : ∀ w ∈ u_ws C T N, w ∈ lw_all) (q0 j : Nat) (he : ws[q0]? = some (a, .inr (ci, fs))) (hc : vwCl[ci]? = some (C, T, N)) (hj : j < N) (hT : (T j).1 = C) (w : Cond.fieldLink own idx C (T j).2.1 (T j).2.2.1 ∈ lw_all) (hv : fs[j]? = some v) (d : decode cc pc = .ok (.getfield idx, 3)) (k : G X ws lv ce sl (pc + 3) (v :: st)) : G X ws lv ce sl pc (.ref a :: st) := fun H locs ls hP hD hS hl => va_get h.x h.b h.ts hin h.own h.k hP q0 (apL he) hc j hj (h.ts _ w) (fun _ e => by rw [← hT]; exact e) hv d (k H locs ls hP hD hS hl)
theorem g_put (h : Ok X cc own) {a idx ci N : Nat} {C : String} {T : u_T} {fs : List Value} {v : Value} {ty : FieldType} {ws' : va_W} (hin : ∀ w ∈ u_ws C T N, w ∈ lw_all) (ty0 : Nat → FieldType) (hty : ∀ k, k < N → parseFieldDescriptor (T k).2.2.1 = some (ty0 k)) (hnm : ∀ a, a < N → ∀ b, b < N → a ≠ b → (T a).2.1 ≠ (T b).2.1) (q0 j : Nat) (he : ws[q0]? = some (a, .inr (ci, fs))) (hc : vwCl[ci]? = some (C, T, N)) (hj : j < N) (hT : (T j).1 = C ∧ (T j).2.2.2 = false) (w : Cond.fieldLink own idx C (T j).2.1 (T j).2.2.1 ∈ lw_all) (hty2 : ty0 j = ty) (hn : narrow ty v = v) (hfit : fits ty v = true) (hl9 : j < fs.length) (hws : ws.set q0 (a, .inr (ci, fs.set j v)) = ws') (d : decode cc pc = .ok (.putfield idx, 3)) (k : G X ws' lv ce sl (pc + 3) st) : G X ws lv ce sl pc (v :: .ref a :: st) := fun H locs ls hP hD hS hl => va_put h.x h.b h.ts hin ty0 hty hnm h.own h.k hP hD hS q0 (apL he) hc j hj (h.ts _ w) (fun _ e => by rw [← hT.1]; exact e) hT.2 (by rw [hty j hj, hty2]) hn hfit hl9 d (fun H1 locs1 hP hD hS => k H1 locs1 ls (by rw [apS he, hws] at hP; exact hP) (by rw [apS he, hws] at hD; exact hD) hS hl)
theorem g_getN (h : Ok X cc own) {host : String} {a idx ci N : Nat} {C : String} {T : u_T} {fs : List Value} {v : Value} (hin : ∀ w ∈ u_ws C T N, w ∈ lw_all) (q0 j : Nat) (he : ws[q0]? = some (a, .inr (ci, fs))) (hc : vwCl[ci]? = some (C, T, N)) (hj : j < N) (hT : (T j).1 = C) (w : Cond.fieldLinkNest own idx C (T j).2.1 (T j).2.2.1 host ∈ lw_tbl) (hv : fs[j]? = some v) (d : decode cc pc = .ok (.getfield idx, 3)) (k : G X ws lv ce sl (pc + 3) (v :: st)) : G X ws lv ce sl pc (.ref a :: st) := fun H locs ls hP hD hS hl => va_getN h.x h.b h.ts hin h.own h.k hP q0 (apL he) hc j hj (va_Nw.use rfl (h.nw.1 _ w rfl)) (fun _ e => by rw [← hT]; exact e) hv d (k H locs ls hP hD hS hl)
theorem g_putN (h : Ok X cc own) {host : String} {a idx ci N : Nat} {C : String} {T : u_T} {fs : List Value} {v : Value} {ty : FieldType} {ws' : va_W} (hin : ∀ w ∈ u_ws C T N, w ∈ lw_all) (ty0 : Nat → FieldType) (hty : ∀ k, k < N → parseFieldDescriptor (T k).2.2.1 = some (ty0 k)) (hnm : ∀ a, a < N → ∀ b, b < N → a ≠ b → (T a).2.1 ≠ (T b).2.1) (q0 j : Nat) (he : ws[q0]? = some (a, .inr (ci, fs))) (hc : vwCl[ci]? = some (C, T, N)) (hj : j < N) (hT : (T j).1 = C ∧ (T j).2.2.2 = false) (w : Cond.fieldLinkNest own idx C (T j).2.1 (T j).2.2.1 host ∈ lw_tbl) (hty2 : ty0 j = ty) (hn : narrow ty v = v) (hfit : fits ty v = true) (hl9 : j < fs.length) (hws : ws.set q0 (a, .inr (ci, fs.set j v)) = ws') (d : decode cc pc = .ok (.putfield idx, 3)) (k : G X ws' lv ce sl (pc + 3) st) : G X ws lv ce sl pc (v :: .ref a :: st) := fun H locs ls hP hD hS hl => va_putN h.x h.b h.ts hin ty0 hty hnm h.own h.k hP hD hS q0 (apL he) hc j hj (va_Nw.use rfl (h.nw.1 _ w rfl)) (fun _ e => by rw [← hT.1]; exact e) hT.2 (by rw [hty j hj, hty2]) hn hfit hl9 d (fun H1 locs1 hP hD hS => k H1 locs1 ls (by rw [apS he, hws] at hP; exact hP) (by rw [apS he, hws] at hD; exact hD) hS hl)
theorem g_putF (h : Ok X cc own) {a idx ci N : Nat} {C : String} {T : u_T} {fs : List Value} {v : Value} {ty : FieldType} {ws' : va_W} (hin : ∀ w ∈ u_ws C T N, w ∈ lw_all) (ty0 : Nat → FieldType) (hty : ∀ k, k < N → parseFieldDescriptor (T k).2.2.1 = some (ty0 k)) (hnm : ∀ a, a < N → ∀ b, b < N → a ≠ b → (T a).2.1 ≠ (T b).2.1) (hin2 : X.meth.name = "<init>") (q0 j : Nat) (he : ws[q0]? = some (a, .inr (ci, fs))) (hc : vwCl[ci]? = some (C, T, N)) (hj : j < N) (hT : (T j).1 = C ∧ (T j).2.2.2 = true ∧ (T j).1 = own) (w : Cond.fieldLink own idx C (T j).2.1 (T j).2.2.1 ∈ lw_all) (hty2 : ty0 j = ty) (hn : narrow ty v = v) (hfit : fits ty v = true) (hl9 : j < fs.length) (hws : ws.set q0 (a, .inr (ci, fs.set j v)) = ws') (d : decode cc pc = .ok (.putfield idx, 3)) (k : G X ws' lv ce sl (pc + 3) st) : G X ws lv ce sl pc (v :: .ref a :: st) := fun H locs ls hP hD hS hl => va_putF h.x h.b h.ts hin ty0 hty hnm h.own h.k hP hD hS q0 (apL he) hc j hj (h.ts _ w) (fun _ e => by rw [← hT.1]; exact e) hT.2.1 hin2 hT.2.2 (by rw [hty j hj, hty2]) hn hfit hl9 d (fun H1 locs1 hP hD hS => k H1 locs1 ls (by rw [apS he, hws] at hP; exact hP) (by rw [apS he, hws] at hD; exact hD) hS hl)
theorem g_iaload (h : Ok X cc own) {a n : Nat} {f : Nat → Int32} {i : Int32} (q0 : Nat) (ha : ws[q0]? = some (a, .inl (X.E 1, n, .inl f))) (hi : ¬ (i < 0 ∨ n ≤ i.toNatClampNeg)) (d : decode cc pc = .ok (.iaload, 1)) (k : G X ws lv ce sl (pc + 1) (.int (f i.toNatClampNeg) :: st)) : G X ws lv ce sl pc (.int i :: .ref a :: st) := fun H locs ls hP hD hS hl => va_iald h.x h.b h.k hP q0 1 (apL ha) rfl hi d (k H locs ls hP hD hS hl)
theorem g_iastore (h : Ok X cc own) {a n : Nat} {f : Nat → Int32} {i : Int32} {x : Int32} {ws' : va_W} (q0 : Nat) (ha : ws[q0]? = some (a, .inl (X.E 1, n, .inl f))) (hi : ¬ (i < 0 ∨ n ≤ i.toNatClampNeg)) (hws : ws.set q0 (a, .inl (X.E 1, n, .inl (upd f i.toNatClampNeg x))) = ws') (d : decode cc pc = .ok (.iastore, 1)) (k : G X ws' lv ce sl (pc + 1) st) : G X ws lv ce sl pc (.int x :: .int i :: .ref a :: st) := fun H locs ls hP hD hS hl => va_iast h.x h.b h.k hP hD hS q0 1 (apL ha) rfl hi d (fun H1 locs1 hP hD hS => k H1 locs1 ls (by rw [apS ha, hws] at hP; exact hP) (by rw [apS ha, hws] at hD; exact hD) hS hl)
theorem g_baload (h : Ok X cc own) {a n : Nat} {f : Nat → Int32} {i : Int32} (q0 : Nat) (ha : ws[q0]? = some (a, .inl (X.E 0, n, .inl f))) (hi : ¬ (i < 0 ∨ n ≤ i.toNatClampNeg)) (d : decode cc pc = .ok (.baload, 1)) (k : G X ws lv ce sl (pc + 1) (.int (f i.toNatClampNeg) :: st)) : G X ws lv ce sl pc (.int i :: .ref a :: st) := fun H locs ls hP hD hS hl => va_bald h.x h.b h.k hP q0 0 (apL ha) rfl hi d (k H locs ls hP hD hS hl)
theorem g_bastore (h : Ok X cc own) {a n : Nat} {f : Nat → Int32} {i : Int32} {x : Int32} {ws' : va_W} (q0 : Nat) (ha : ws[q0]? = some (a, .inl (X.E 0, n, .inl f))) (hi : ¬ (i < 0 ∨ n ≤ i.toNatClampNeg)) (hws : ws.set q0 (a, .inl (X.E 0, n, .inl (upd f i.toNatClampNeg (vp_nar .byte x)))) = ws') (d : decode cc pc = .ok (.bastore, 1)) (k : G X ws' lv ce sl (pc + 1) st) : G X ws lv ce sl pc (.int x :: .int i :: .ref a :: st) := fun H locs ls hP hD hS hl => va_bast h.x h.b h.k hP hD hS q0 0 (apL ha) rfl hi d (fun H1 locs1 hP hD hS => k H1 locs1 ls (by rw [apS ha, hws] at hP; exact hP) (by rw [apS ha, hws] at hD; exact hD) hS hl)
theorem g_saload (h : Ok X cc own) {a n : Nat} {f : Nat → Int32} {i : Int32} (q0 : Nat) (ha : ws[q0]? = some (a, .inl (X.E 3, n, .inl f))) (hi : ¬ (i < 0 ∨ n ≤ i.toNatClampNeg)) (d : decode cc pc = .ok (.saload, 1)) (k : G X ws lv ce sl (pc + 1) (.int (f i.toNatClampNeg) :: st)) : G X ws lv ce sl pc (.int i :: .ref a :: st) := fun H locs ls hP hD hS hl => va_sald h.x h.b h.k hP q0 3 (apL ha) rfl hi d (k H locs ls hP hD hS hl)
theorem g_sastore (h : Ok X cc own) {a n : Nat} {f : Nat → Int32} {i : Int32} {x : Int32} {ws' : va_W} (q0 : Nat) (ha : ws[q0]? = some (a, .inl (X.E 3, n, .inl f))) (hi : ¬ (i < 0 ∨ n ≤ i.toNatClampNeg)) (hws : ws.set q0 (a, .inl (X.E 3, n, .inl (upd f i.toNatClampNeg (vp_nar .short x)))) = ws') (d : decode cc pc = .ok (.sastore, 1)) (k : G X ws' lv ce sl (pc + 1) st) : G X ws lv ce sl pc (.int x :: .int i :: .ref a :: st) := fun H locs ls hP hD hS hl => va_sast h.x h.b h.k hP hD hS q0 3 (apL ha) rfl hi d (fun H1 locs1 hP hD hS => k H1 locs1 ls (by rw [apS ha, hws] at hP; exact hP) (by rw [apS ha, hws] at hD; exact hD) hS hl)
theorem g_laload (h : Ok X cc own) {a n : Nat} {f : Nat → Int64} {i : Int32} (q0 : Nat) (ha : ws[q0]? = some (a, .inl (X.E 2, n, .inr (.inl f)))) (hi : ¬ (i < 0 ∨ n ≤ i.toNatClampNeg)) (d : decode cc pc = .ok (.laload, 1)) (k : G X ws lv ce sl (pc + 1) (.long (f i.toNatClampNeg) :: st)) : G X ws lv ce sl pc (.int i :: .ref a :: st) := fun H locs ls hP hD hS hl => va_lald h.x h.b h.k hP q0 2 (apL ha) rfl hi d (k H locs ls hP hD hS hl)
theorem g_lastore (h : Ok X cc own) {a n : Nat} {f : Nat → Int64} {i : Int32} {x : Int64} {ws' : va_W} (q0 : Nat) (ha : ws[q0]? = some (a, .inl (X.E 2, n, .inr (.inl f)))) (hi : ¬ (i < 0 ∨ n ≤ i.toNatClampNeg)) (hws : ws.set q0 (a, .inl (X.E 2, n, .inr (.inl (vp_updL f i.toNatClampNeg x)))) = ws') (d : decode cc pc = .ok (.lastore, 1)) (k : G X ws' lv ce sl (pc + 1) st) : G X ws lv ce sl pc (.long x :: .int i :: .ref a :: st) := fun H locs ls hP hD hS hl => va_last h.x h.b h.k hP hD hS q0 2 (apL ha) rfl hi d (fun H1 locs1 hP hD hS => k H1 locs1 ls (by rw [apS ha, hws] at hP; exact hP) (by rw [apS ha, hws] at hD; exact hD) hS hl)
theorem g_alen (h : Ok X cc own) {a t0 : Nat} {x : vp_A} {ty : FieldType} {v : Int32} (q0 : Nat) (ha : ws[q0]? = some (a, .inl (X.E t0, x))) (ht : (Ty X.E)[t0]? = some (X.E t0, ty)) (hv : Int32.ofNat x.1 = v) (d : decode cc pc = .ok (.arraylength, 1)) (k : G X ws lv ce sl (pc + 1) (.int v :: st)) : G X ws lv ce sl pc (.ref a :: st) := fun H locs ls hP hD hS hl => va_alen h.x h.b h.k hP q0 t0 (apL ha) ht hv d (k H locs ls hP hD hS hl)
theorem g_aaload (h : Ok X cc own) {a n t0 : Nat} {C : String} {f : Nat → Option Nat} {i : Int32} (q0 : Nat) (ha : ws[q0]? = some (a, .inl (X.E t0, n, .inr (.inr (.inr (.inr f)))))) (ht : (Ty X.E)[t0]? = some (X.E t0, .object C)) (hi : ¬ (i < 0 ∨ n ≤ i.toNatClampNeg)) (d : decode cc pc = .ok (.aaload, 1)) (k : G X ws lv ce sl (pc + 1) (va_rf (f i.toNatClampNeg) :: st)) : G X ws lv ce sl pc (.int i :: .ref a :: st) := fun H locs ls hP hD hS hl => va_aldq h.x h.b h.k hP q0 t0 (apL ha) ht hi d (k H locs ls hP hD hS hl)
theorem g_new (h : Ok X cc own) {fr lo mc ms : Nat} (hR : Rm X fr lo mc ms) {C : String} {T : u_T} {N ci idx : Nat} {fs : List Value} (hin : ∀ w ∈ u_ws C T N, w ∈ lw_all) (ty0 : Nat → FieldType) (hty : ∀ k, k < N → parseFieldDescriptor (T k).2.2.1 = some (ty0 k)) (w1 : Cond.classLink own idx C ∈ lw_all) (w2 : Cond.instantiable C N ∈ lw_all) (w3 : Cond.initialized C ∈ lw_all) (hc : vwCl[ci]? = some (C, T, N)) (hfs : ∀ j, j < N → defaultValue (ty0 j) = vp_V fs j) (h1 : ce + 1 ≤ mc) (h2 : sl + N ≤ ms) (d : decode cc pc = .ok (.new idx, 3)) (k : ∀ q : Nat, G X (ws ++ [(q, .inr (ci, fs))]) lv (ce + 1) (sl + N) (pc + 3) (.ref q :: st)) : G X ws lv ce sl pc st := fun H locs ls hP hD hS hl => va_new h.x h.b h.ts hin ty0 hty h.own (h.ts _ w1) (h.ts _ w2) (h.ts _ w3) h.k hP hD hS h.a hc hfs (Nat.le_trans h1 hR.2.2.1) (Nat.le_trans h2 hR.2.2.2) d (fun q H1 hP hD hS => k q H1 locs ls (pPp (pmv _ _ _) hP) (pD (pmv _ _ _) hD) hS hl)
theorem ra_eq {E : Ety} {D : va_G} {U : State} {t0 : Nat} {ty : FieldType} {cA : ClassId} (hK : va_K D vwCl (Ty E) U) (ht : (Ty E)[t0]? = some (E t0, ty)) (hp : refKind ty = false) (h : va_RA U cA ty) : cA = E t0 := by
  have h0 := (hK.2 t0 _ ht).2
  cases ty <;> first | (exact absurd (show true = false from hp) (fun z => Bool.false_ne_true z.symm)) | (have h1 : U.vm.findClass _ = some cA := h; have h2 : U.vm.findClass _ = some (E t0) := h0; exact Option.some.inj (h1.symm.trans h2))
theorem ra_eqo {E : Ety} {D : va_G} {U : State} {t0 : Nat} {C : String} {cA : ClassId} (hK : va_K D vwCl (Ty E) U) (ht : (Ty E)[t0]? = some (E t0, .object C)) (h : va_RA U cA (.object C)) : cA = E t0 := by
  obtain ⟨_, _, -, -, -, h0⟩ := (hK.2 t0 _ ht).2
  obtain ⟨_, _, -, -, -, h1⟩ := h
  exact Option.some.inj (h1.symm.trans h0)
theorem g_newa (h : Ok X cc own) {fr lo mc ms : Nat} (hR : Rm X fr lo mc ms) {at0 : ArrayType} {ty : FieldType} {n : Int32} {N t0 : Nat} {a0 : vp_A} (w1 : Cond.arrayClass (newarray.typeOf at0) ∈ lw_all) (hty : newarray.typeOf at0 = ty) (ht : (Ty X.E)[t0]? = some (X.E t0, ty)) (hp : refKind ty = false) (ha : ∀ cA : ClassId, vp_cell cA a0 = arrV cA N (fun _ => defaultValue ty)) (hn : ¬ n < 0) (hN : n.toNatClampNeg = N) (hby : N * componentBytes ty ≤ 536870912) (h1 : ce + 1 ≤ mc) (h2 : sl + N ≤ ms) (d : decode cc pc = .ok (.newarray at0, 2)) (k : ∀ q : Nat, G X (ws ++ [(q, .inl (X.E t0, a0))]) lv (ce + 1) (sl + N) (pc + 2) (.ref q :: st)) : G X ws lv ce sl pc (.int n :: st) := fun H locs ls hP hD hS hl =>
  va_newa h.x h.b (h.ts _ w1) hty h.k hP hD hS h.a ha hn hN hby (Nat.le_trans h1 hR.2.2.1) (Nat.le_trans h2 hR.2.2.2) d (fun q cA H1 hK hP hD hS => by
    have e : cA = X.E t0 := ra_eq h.k ht hp (hK.2 (Ty X.E).length (cA, ty) (by simp)).2
    subst e
    exact k q H1 locs ls (pPp (pmv _ _ _) hP) (pD (pmv _ _ _) hD) hS hl)
theorem g_newq (h : Ok X cc own) {fr lo mc ms : Nat} (hR : Rm X fr lo mc ms) {C : String} {idx : Nat} {n : Int32} {N t0 : Nat} (w1 : Cond.classLink own idx C ∈ lw_all) (hAO : va_AO C X.s) (ht : (Ty X.E)[t0]? = some (X.E t0, .object C)) (hn : ¬ n < 0) (hN : n.toNatClampNeg = N) (hby : N * 4 ≤ 536870912) (h1 : ce + 1 ≤ mc) (h2 : sl + N ≤ ms) (d : decode cc pc = .ok (.anewarray idx, 3)) (k : ∀ q : Nat, G X (ws ++ [(q, .inl (X.E t0, N, .inr (.inr (.inr (.inr (fun _ => none))))))]) lv (ce + 1) (sl + N) (pc + 3) (.ref q :: st)) : G X ws lv ce sl pc (.int n :: st) := fun H locs ls hP hD hS hl =>
  va_newq h.x h.b h.own (h.ts _ w1) hAO h.k hP hD hS h.a hn hN hby (Nat.le_trans h1 hR.2.2.1) (Nat.le_trans h2 hR.2.2.2) d (fun q cA H1 hK hP hD hS => by
    have e : cA = X.E t0 := ra_eqo h.k ht (hK.2 (Ty X.E).length (cA, .object C) (by simp)).2
    subst e
    exact k q H1 locs ls (pPp (pmv _ _ _) hP) (pD (pmv _ _ _) hD) hS hl)
theorem g_objInit (h : Ok X cc own) {fr lo mc ms : Nat} (hR : Rm X fr lo mc ms) {a idx : Nat} (w : Cond.methodLink own idx objectInit ∈ lw_all) (w2 : Cond.instanceMethod objectInit ∈ lw_all) (w3 : Cond.code objectInit ⟨#[0xb1]⟩ 1 none ∈ lw_all) (h1 : 1 ≤ fr) (h2 : (st.map fun v => v.category).sum + 12 ≤ lo) (d : decode cc pc = .ok (.invokespecial idx, 3)) (k : G X ws lv ce sl (pc + 3) st) : G X ws lv ce sl pc (.ref a :: st) := fun H locs ls hP hD hS hl =>
  W.objInit (rest := st) h.x h.b h.own (h.ts _ w) (h.ts _ w2) (h.ts _ w3) rfl (by rw [h.ml]; exact hl.1) rfl d (Nat.le_trans h1 hR.1) (by have := hR.2.1; simp only [JFrame.monitorRoom, F0] at *; simp; omega) (k H locs ls hP hD hS hl)

end GR
/-- a contract: from the world ws with arguments av the method y returns; Po of what it answers and of the world then -/
def Ct (l : Launch) (y : MethodName) (cc : ByteArray) (nL : Nat) (ret : Option FieldType) (fr lo mc ms : Nat) (D : va_G) (E : Ety) (av : List Value) (ws : va_W) (Po : Option Value → va_W → Prop) : Prop :=
  ∀ sz : Nat, Met l y (ws_ y cc nL ret) ({ frames := fr, cells := mc, slots := ms, locals := lo }) (va_Pc av (fun U => U.heap.size = sz ∧ va_P D vwCl ws U.heap ∧ KK D E U ∧ va_D (fun _ => True) ws ∧ HH E (va_A ws sz) U))
    (fun _ s o t => (∃ (v : Option Value) (w : va_W), o = .returned v ∧ Po v w ∧ va_P D vwCl w t.heap ∧ va_D (va_A ws sz) w) ∧ va_F (va_A ws sz) s t) mc ms (va_A ws sz)
/-- the end of a method's walk -/
def FinQ (X : Cx) (ret : Option FieldType) (mc ms : Nat) (Po : Option Value → va_W → Prop) : Prop :=
  X.meth.sig.returnType = ret ∧ X.Q = MQ X.below (fun _ s o t => (∃ (v : Option Value) (w : va_W), o = .returned v ∧ Po v w ∧ va_P X.D vwCl w t.heap ∧ va_D X.A w) ∧ va_F X.A s t) X.args X.s mc ms X.A
/-- a pinned end: just this answer, just this world -/
def Pn (v : Option Value) (w : va_W) : Option Value → va_W → Prop := fun v' w' => v' = v ∧ w' = w
theorem ct_ofF {l : Launch} {y : MethodName} {cc : ByteArray} {nL : Nat} {ret : Option FieldType} {fr lo mc ms : Nat} {D : va_G} {E : Ety} {av : List Value} {ws : va_W} {Po : Option Value → va_W → Prop} {F wsF : va_W} {lv : LV} {own : String} (hwF : ws ++ F = wsF) (hy : plainFor y = true) (ho : y.cls = own) (hn : (lg_sl av).length ≤ nL) (hlv : lv_args 0 av = lv)
    (body : ∀ X : Cx, X.l = l → X.D = D → X.E = E → X.nL = nL → X.F = F → Ok X cc own → Rm X fr lo mc ms → FinQ X ret mc ms Po → X.meth.name = y.name → G X ws lv 0 0 0 []) : Ct l y cc nL ret fr lo mc ms D E av wsF Po := by
  intro sz
  subst ho
  subst hwF
  refine va_MetF (cc := cc) (maxL := nL) (ret := ret) hy rfl ?_
  intro p e s m args below meth c s₁ B hml hv
  obtain ⟨rfl, hsz, hP, hK, hD0, hH⟩ := hv
  subst hsz
  have hts := atoms_spec (ws := ws_ y cc nL ret) B.pre
  have hts : ∀ w ∈ lw_all, w.before _ s = true := fun w h => hts w (List.mem_cons_of_mem _ h)
  have hD := hD0.self (sz := s.heap.size)
  rw [lg_entry_eq]
  have hl := lv_entry av (n := nL) hn
  exact body ((p, l, e, _, s, m, av.toArray), (below, meth, c), (D, E), (va_A (ws ++ F) s.heap.size, nL, _, F)) rfl rfl rfl rfl rfl ⟨B.exec, B.bytes, hml, findClass_of_methodNamed B.named, hts, hK, fun q h => Or.inr h, B.notSynchronized, hH, ns_of hP⟩ ⟨Nat.le_refl _, Nat.le_refl _, Nat.le_refl _, Nat.le_refl _⟩ ⟨B.returns, rfl⟩ (name_of_methodNamed B.named B.method).1 s.heap [] _ hP hD va_S.rf (hlv ▸ hl)
theorem ct_of {l : Launch} {y : MethodName} {cc : ByteArray} {nL : Nat} {ret : Option FieldType} {fr lo mc ms : Nat} {D : va_G} {E : Ety} {av : List Value} {ws : va_W} {Po : Option Value → va_W → Prop} {lv : LV} {own : String} (hy : plainFor y = true) (ho : y.cls = own) (hn : (lg_sl av).length ≤ nL) (hlv : lv_args 0 av = lv)
    (body : ∀ X : Cx, X.l = l → X.D = D → X.E = E → X.nL = nL → X.F = [] → Ok X cc own → Rm X fr lo mc ms → FinQ X ret mc ms Po → X.meth.name = y.name → G X ws lv 0 0 0 []) : Ct l y cc nL ret fr lo mc ms D E av ws Po :=
  ct_ofF (F := []) (List.append_nil ws) hy ho hn hlv body
section GE
variable {X : Cx} {cc : ByteArray} {own : String} {ws w : va_W} {lv : LV} {ce sl pc mc ms : Nat} {Po : Option Value → va_W → Prop}
theorem g_iret (h : Ok X cc own) {v : Int32} (hF : FinQ X (some .int) mc ms Po) (is : List Nat) (hn : va_nd is = true) (hs : is.map (fun i => ws[i]?) = w.map some) (hq : Po (some (.int v)) w) (h1 : ce ≤ mc) (h2 : sl ≤ ms) (d : decode cc pc = .ok (.ireturn, 1)) : G X ws lv ce sl pc [.int v] := by
  intro H locs ls hP hD hS hl
  refine W.widen h1 h2 ?_
  rw [hF.2]
  exact W.iret h.x h.b hF.1 (fun t ht hW => ⟨⟨_, w, rfl, hq, by rw [ht]; exact lP (subP hs hP), lD (subD hn hs hD)⟩, hS.F ht⟩) hS.2.2 d h.lk
theorem g_zret (h : Ok X cc own) {v : Int32} (hF : FinQ X (some .boolean) mc ms Po) (hz : narrow .boolean (.int v) = .int v) (is : List Nat) (hn : va_nd is = true) (hs : is.map (fun i => ws[i]?) = w.map some) (hq : Po (some (.int v)) w) (h1 : ce ≤ mc) (h2 : sl ≤ ms) (d : decode cc pc = .ok (.ireturn, 1)) : G X ws lv ce sl pc [.int v] := by
  intro H locs ls hP hD hS hl
  refine W.widen h1 h2 ?_
  rw [hF.2]
  exact W.zret h.x h.b hF.1 hz (fun t ht hW => ⟨⟨_, w, rfl, hq, by rw [ht]; exact lP (subP hs hP), lD (subD hn hs hD)⟩, hS.F ht⟩) hS.2.2 d h.lk
theorem g_lret (h : Ok X cc own) {v : Int64} (hF : FinQ X (some .long) mc ms Po) (is : List Nat) (hn : va_nd is = true) (hs : is.map (fun i => ws[i]?) = w.map some) (hq : Po (some (.long v)) w) (h1 : ce ≤ mc) (h2 : sl ≤ ms) (d : decode cc pc = .ok (.lreturn, 1)) : G X ws lv ce sl pc [.long v] := by
  intro H locs ls hP hD hS hl
  refine W.widen h1 h2 ?_
  rw [hF.2]
  exact W.lret h.x h.b hF.1 (fun t ht hW => ⟨⟨_, w, rfl, hq, by rw [ht]; exact lP (subP hs hP), lD (subD hn hs hD)⟩, hS.F ht⟩) hS.2.2 d h.lk
theorem g_vret (h : Ok X cc own) (hF : FinQ X none mc ms Po) (is : List Nat) (hn : va_nd is = true) (hs : is.map (fun i => ws[i]?) = w.map some) (hq : Po none w) (h1 : ce ≤ mc) (h2 : sl ≤ ms) (d : decode cc pc = .ok (.return_, 1)) : G X ws lv ce sl pc [] := by
  intro H locs ls hP hD hS hl
  refine W.widen h1 h2 ?_
  rw [hF.2]
  exact W.vret h.x h.b hF.1 (fun t ht hW => ⟨⟨_, w, rfl, hq, by rw [ht]; exact lP (subP hs hP), lD (subD hn hs hD)⟩, hS.F ht⟩) hS.2.2 d h.lk
theorem g_aret (h : Ok X cc own) {v : Value} {rt : FieldType} (hF : FinQ X (some rt) mc ms Po) (hrt : (∃ n, rt = .object n) ∨ ∃ t, rt = .array t) (hv : v = .null ∨ ∃ a, v = .ref a) (is : List Nat) (hn : va_nd is = true) (hs : is.map (fun i => ws[i]?) = w.map some) (hq : Po (some v) w) (h1 : ce ≤ mc) (h2 : sl ≤ ms) (d : decode cc pc = .ok (.areturn, 1)) : G X ws lv ce sl pc [v] := by
  intro H locs ls hP hD hS hl
  refine W.widen h1 h2 ?_
  rw [hF.2]
  exact W.aret h.x h.b hF.1 hrt hv (fun t ht hW => ⟨⟨_, w, rfl, hq, by rw [ht]; exact lP (subP hs hP), lD (subD hn hs hD)⟩, hS.F ht⟩) hS.2.2 d h.lk
end GE
/-! calls -/
theorem fb_pc {av : List Value} {D : va_G} {E : Ety} {ws : va_W} {sz : Nat} : FrameBlind (va_Pc av (fun U => U.heap.size = sz ∧ va_P D vwCl ws U.heap ∧ KK D E U ∧ va_D (fun _ => True) ws ∧ HH E (va_A ws sz) U)) := by
  intro a U g mk q
  obtain ⟨q0, q1, qP, qK, qD, qH⟩ := q
  exact ⟨q0, q1, qP, KK.same (u := U) (U := U.calling g mk a) rfl qK, qD, HH.same (s := U) (U := U.calling g mk a) rfl rfl qH⟩
section GC
variable {X : Cx} {cc : ByteArray} {own : String} {ws wc wr : va_W} {lv : LV} {ce sl pc fr lo mc ms : Nat} {st : List Value}
variable {y : MethodName} {cy : ByteArray} {nLy : Nat} {ry : Option FieldType} {fry loy mcy msy idx n : Nat} {As : List Value} {Po : Option Value → va_W → Prop}
/-- behind a call that runs -/
theorem va_gon {v0 : List Value} {isC isR : List Nat} (h : Ok X cc own) (hC : isC.map (fun i => ws[i]?) = wc.map some) (hW : isR.map (fun i => ws[i]?) = wr.map some) (hn : va_nd isR = true) (hd : ∀ i ∈ isR, i ∉ isC)
    {H : Heap} {locs : List Loc} {ls : Array Slot} (hP : va_P X.D vwCl (ws ++ X.F) H) (hD : va_D X.A (ws ++ X.F)) (hS : va_S X.A X.s.heap H locs) (hl : lv_has ls X.nL lv)
    (hr : va_Run X.p X.l X.e X.R X.s X.m X.args X.below X.meth X.c H locs ce sl mcy msy (F0 X.m pc ls v0) st (fun s o t => (∃ (v : Option Value) (w : va_W), o = .returned v ∧ Po v w ∧ va_P X.D vwCl w t.heap ∧ va_D (va_A wc H.size) w) ∧ va_F (va_A wc H.size) s t) (va_A wc H.size))
    (k : ∀ (v : Option Value) (w : va_W), Po v w → G X (wr ++ w) lv (ce + mcy) (sl + msy) (pc + 3) (v.toList ++ st)) : W X.p X.l X.e X.R X.s X.m X.args X.below X.meth X.c H locs ce sl X.Q (F0 X.m pc ls v0) := by
  intro T hT Z
  have hF := va_free (wc := wc) hD hS h.a isC (pl_L hC)
  obtain ⟨v, s0, t, T', L, hs0, Z', hL, hh, hvm, ⟨⟨v', w, he, hPo, hP1, hD1⟩, hF1⟩, hgo⟩ := hr T hT Z
  cases he
  obtain ⟨hP2, hD2⟩ := va_join (wr := wr ++ X.F) (w1 := w) hP hD isC (isR ++ List.range' ws.length X.F.length) (pl_L hC) (by rw [List.map_append, List.map_append, pl_L hW, pl_rng]) (by
      rw [vnd_iff, List.nodup_append]
      refine ⟨(vnd_iff isR).mp hn, List.nodup_range', ?_⟩
      intro a ha b hb e
      have h1 := pl_lt hW a ha
      have h2 := List.mem_range'_1.mp hb
      omega) (by
      intro i hi z
      rcases List.mem_append.mp hi with y | y
      · exact hd i y z
      · have h1 := pl_lt hC i z
        have h2 := List.mem_range'_1.mp y
        omega) (H1 := t.heap) (fun q h1 h2 => by have := hF1.2 q (by rw [hs0]; exact h1) h2; rw [hs0] at this; exact this) hF hP1 hD1
  have hP2 := pPp (pmv _ _ _) hP2
  have hD2 := pD (pmv _ _ _) hD2
  have hS2 : va_S X.A X.s.heap t.heap (locs ++ L) := by
    refine ⟨Nat.le_trans hS.1 (by have := hF1.1; rw [hs0] at this; exact this), fun q h1 h2 => ?_, fun q hq => ?_⟩
    · have h3 : q < H.size := Nat.lt_of_lt_of_le h1 hS.1
      have := hF1.2 q (by rw [hs0]; exact h3) (fun z => h2 (hF q z))
      rw [hs0] at this
      rw [this]
      exact hS.2.1 q h1 h2
    · rcases List.mem_append.mp hq with z | z
      · exact hS.2.2 q z
      · exact hF _ (hL q z)
  obtain ⟨t2, a1, b1⟩ := k v w hPo t.heap (locs ++ L) ls hP2 hD2 hS2 hl T' hh Z'
  exact ⟨t2, hgo _ a1, b1⟩
theorem pre_S (h : Ok X cc own) {H : Heap} {locs : List Loc} {isC : List Nat} (hn : va_nd isC = true) (hC : isC.map (fun i => ws[i]?) = wc.map some) (hP : va_P X.D vwCl (ws ++ X.F) H) (hD : va_D X.A (ws ++ X.F)) (hS : va_S X.A X.s.heap H locs) {av : List Value} : PreS X.s H (va_Pc av (fun U => U.heap.size = H.size ∧ va_P X.D vwCl wc U.heap ∧ KK X.D X.E U ∧ va_D (fun _ => True) wc ∧ HH X.E (va_A wc H.size) U)) av := by
  exact ⟨fb_pc, fun U hU hW => ⟨rfl, by rw [hU], by rw [hU]; exact lP (subP hC hP), h.kk.moved hW, (lD (subD hn hC hD)).weaken (fun _ _ _ _ => trivial), h.hh.go hW (va_free hD hS h.a isC (pl_L hC)) (fun q h1 h2 => by rw [hU]; exact hS.2.1 q h1 h2)⟩⟩
abbrev Dsc (y : MethodName) (n : Nat) : Prop := y.cls ≠ "java/lang/invoke/MethodHandle" ∧ y.cls ≠ "java/lang/invoke/VarHandle" ∧ (parseMethodDescriptor y.desc).map (fun d => d.parameters.length) = some n
abbrev Pla (ws wc wr : va_W) (isC isR : List Nat) : Prop := va_nd isC = true ∧ isC.map (fun i => ws[i]?) = wc.map some ∧ isR.map (fun i => ws[i]?) = wr.map some ∧ va_nd isR = true ∧ ∀ i ∈ isR, i ∉ isC
abbrev Fits (ce sl mcy msy mc ms fry loy nLy fr lo : Nat) (st : List Value) : Prop := ce + mcy ≤ mc ∧ sl + msy ≤ ms ∧ fry + 1 ≤ fr ∧ 8 + (nLy + 11) + loy ≤ lo ∧ (st.map fun v => v.category).sum ≤ 8
theorem g_callS {isC isR : List Nat} {stk : List Value} (h : Ok X cc own) (hR : Rm X fr lo mc ms) (hM : Ct X.l y cy nLy ry fry loy mcy msy X.D X.E As wc Po) (w : GoodIn lw_all (va_wsS own idx y (ws_ y cy nLy ry))) (hd : Dsc y n) (hn : As.length = n) (hp : Pla ws wc wr isC isR) (hf : Fits ce sl mcy msy mc ms fry loy nLy fr lo st) (hstk : As.reverse ++ st = stk) (d : decode cc pc = .ok (.invokestatic idx, 3))
    (k : ∀ (v : Option Value) (w : va_W), Po v w → G X (wr ++ w) lv (ce + mcy) (sl + msy) (pc + 3) (v.toList ++ st)) : G X ws lv ce sl pc stk := by
  intro H locs ls hP hD hS hl
  obtain ⟨p0, p1, p2, p3, p4⟩ := hp
  obtain ⟨f1, f2, f3, f4, f5⟩ := hf
  subst hstk
  exact va_gon h p1 p2 p3 p4 hP hD hS hl (va_runS (As := As) (rest := st) ⟨h.x, h.b, h.ml, h.own, h.ts⟩ (hM H.size) (va_cwS n h.ts w rfl rfl rfl hd ⟨Nat.le_trans f3 hR.1, Nat.le_trans f4 hR.2.1⟩) (pre_S h p0 p1 hP hD hS) rfl hn hl.1 rfl (lv_room f5) d ⟨Nat.le_trans f1 hR.2.2.1, Nat.le_trans f2 hR.2.2.2⟩) k
theorem g_callV {isC isR : List Nat} {stk : List Value} {b ci q0 : Nat} {r : vw_C} {fs : List Value} (h : Ok X cc own) (hR : Rm X fr lo mc ms) (hM : Ct X.l y cy nLy ry fry loy mcy msy X.D X.E (.ref b :: As) wc Po) (hc : vwCl[ci]? = some r) (hb0 : ws[q0]? = some (b, .inr (ci, fs))) (w : GoodIn lw_all (wsV own idx r.1 y (ws_ y cy nLy ry))) (hd : y.cls = r.1 ∧ Dsc y n) (hn : As.length = n) (hp : Pla ws wc wr isC isR) (hf : Fits ce sl mcy msy mc ms fry loy nLy fr lo st) (hstk : As.reverse ++ .ref b :: st = stk) (d : decode cc pc = .ok (.invokevirtual idx, 3))
    (k : ∀ (v : Option Value) (w : va_W), Po v w → G X (wr ++ w) lv (ce + mcy) (sl + msy) (pc + 3) (v.toList ++ st)) : G X ws lv ce sl pc stk := by
  intro H locs ls hP hD hS hl
  obtain ⟨p0, p1, p2, p3, p4⟩ := hp
  obtain ⟨f1, f2, f3, f4, f5⟩ := hf
  subst hstk
  have hpre := pre_S (av := .ref b :: As) h p0 p1 hP hD hS
  exact va_gon h p1 p2 p3 p4 hP hD hS hl (va_runV (As := As) (rest := st) ⟨h.x, h.b, h.ml, h.own, h.ts⟩ (hM H.size) (cwV n h.ts w rfl rfl rfl hd ⟨Nat.le_trans f3 hR.1, Nat.le_trans f4 hR.2.1⟩) ⟨hpre.1, va_recv h.k hP hc (apL hb0), hpre.2⟩ rfl hn hl.1 rfl (lv_room f5) d ⟨Nat.le_trans f1 hR.2.2.1, Nat.le_trans f2 hR.2.2.2⟩) k
theorem g_callI {isC isR : List Nat} {stk : List Value} {b : Nat} (h : Ok X cc own) (hR : Rm X fr lo mc ms) (hM : Ct X.l y cy nLy none fry loy mcy msy X.D X.E (.ref b :: As) wc Po) (w : Cond.code y cy nLy none ∈ lw_all) (w1 : Cond.initialized y.cls ∈ lw_all) (w2 : Cond.methodLink own idx y ∈ lw_all) (w3 : Cond.instanceMethod y ∈ lw_all) (hy : y.name = "<init>") (hd : Dsc y n) (hn : As.length = n) (hp : Pla ws wc wr isC isR) (hf : Fits ce sl mcy msy mc ms fry loy nLy fr lo st) (hstk : As.reverse ++ .ref b :: st = stk) (d : decode cc pc = .ok (.invokespecial idx, 3))
    (k : ∀ (v : Option Value) (w : va_W), Po v w → G X (wr ++ w) lv (ce + mcy) (sl + msy) (pc + 3) (v.toList ++ st)) : G X ws lv ce sl pc stk := by
  intro H locs ls hP hD hS hl
  obtain ⟨p0, p1, p2, p3, p4⟩ := hp
  obtain ⟨f1, f2, f3, f4, f5⟩ := hf
  subst hstk
  exact va_gon h p1 p2 p3 p4 hP hD hS hl (va_runI (As := As) (rest := st) ⟨h.x, h.b, h.ml, h.own, h.ts⟩ (hM H.size) (cwI n h.ts (lw_meth w) rfl rfl rfl (h.ts _ w1) (h.ts _ w2) (h.ts _ w3) hy hd ⟨Nat.le_trans f3 hR.1, Nat.le_trans f4 hR.2.1⟩) (pre_S h p0 p1 hP hD hS) rfl hn hl.1 rfl (lv_room f5) d ⟨Nat.le_trans f1 hR.2.2.1, Nat.le_trans f2 hR.2.2.2⟩) k
theorem g_callIN {isC isR : List Nat} {stk : List Value} {b : Nat} {host : String} (h : Ok X cc own) (hR : Rm X fr lo mc ms) (hM : Ct X.l y cy nLy none fry loy mcy msy X.D X.E (.ref b :: As) wc Po) (w : Cond.code y cy nLy none ∈ lw_all) (w1 : Cond.initialized y.cls ∈ lw_all) (w2 : Cond.methodLinkNest own idx y host ∈ lw_tbl) (w3 : Cond.instanceMethod y ∈ lw_all) (hy : y.name = "<init>") (hd : Dsc y n) (hn : As.length = n) (hp : Pla ws wc wr isC isR) (hf : Fits ce sl mcy msy mc ms fry loy nLy fr lo st) (hstk : As.reverse ++ .ref b :: st = stk) (d : decode cc pc = .ok (.invokespecial idx, 3))
    (k : ∀ (v : Option Value) (w : va_W), Po v w → G X (wr ++ w) lv (ce + mcy) (sl + msy) (pc + 3) (v.toList ++ st)) : G X ws lv ce sl pc stk := by
  intro H locs ls hP hD hS hl
  obtain ⟨p0, p1, p2, p3, p4⟩ := hp
  obtain ⟨f1, f2, f3, f4, f5⟩ := hf
  subst hstk
  exact va_gon h p1 p2 p3 p4 hP hD hS hl (va_runIN (As := As) (rest := st) ⟨h.x, h.b, h.ml, h.own, h.ts⟩ (hM H.size) ⟨va_cnB n h.ts (lw_meth w) rfl rfl rfl (h.nw.1 _ w2 rfl) (h.ts _ w1) hd ⟨Nat.le_trans f3 hR.1, Nat.le_trans f4 hR.2.1⟩, hy, h.ts _ w3⟩ (pre_S h p0 p1 hP hD hS) rfl hn hl.1 rfl (lv_room f5) d ⟨Nat.le_trans f1 hR.2.2.1, Nat.le_trans f2 hR.2.2.2⟩) k
theorem g_callSN {isC isR : List Nat} {stk : List Value} {host : String} (h : Ok X cc own) (hR : Rm X fr lo mc ms) (hM : Ct X.l y cy nLy ry fry loy mcy msy X.D X.E As wc Po) (w : Cond.code y cy nLy ry ∈ lw_all) (w1 : Cond.initialized y.cls ∈ lw_all) (w2 : Cond.methodLinkNest own idx y host ∈ lw_tbl) (w3 : Cond.static y ∈ lw_all) (hd : Dsc y n) (hn : As.length = n) (hp : Pla ws wc wr isC isR) (hf : Fits ce sl mcy msy mc ms fry loy nLy fr lo st) (hstk : As.reverse ++ st = stk) (d : decode cc pc = .ok (.invokestatic idx, 3))
    (k : ∀ (v : Option Value) (w : va_W), Po v w → G X (wr ++ w) lv (ce + mcy) (sl + msy) (pc + 3) (v.toList ++ st)) : G X ws lv ce sl pc stk := by
  intro H locs ls hP hD hS hl
  obtain ⟨p0, p1, p2, p3, p4⟩ := hp
  obtain ⟨f1, f2, f3, f4, f5⟩ := hf
  subst hstk
  exact va_gon h p1 p2 p3 p4 hP hD hS hl (va_runSN (As := As) (rest := st) ⟨h.x, h.b, h.ml, h.own, h.ts⟩ (hM H.size) ⟨va_cnB n h.ts (lw_meth w) rfl rfl rfl (h.nw.1 _ w2 rfl) (h.ts _ w1) hd ⟨Nat.le_trans f3 hR.1, Nat.le_trans f4 hR.2.1⟩, h.ts _ w3, trivial⟩ (pre_S h p0 p1 hP hD hS) rfl hn hl.1 rfl (lv_room f5) d ⟨Nat.le_trans f1 hR.2.2.1, Nat.le_trans f2 hR.2.2.2⟩) k
theorem g_callSU {isC isR : List Nat} {stk : List Value} {b ci q0 : Nat} {r : vw_C} {fs : List Value} (h : Ok X cc own) (hR : Rm X fr lo mc ms) (hM : Ct X.l y cy nLy ry fry loy mcy msy X.D X.E (.ref b :: As) wc Po) (hc : vwCl[ci]? = some r) (hb0 : ws[q0]? = some (b, .inr (ci, fs))) (w1 : Cond.methodLink own idx y ∈ lw_all) (w2 : Cond.sameMethod y.cls y.cls y.name y.desc ∈ lw_all) (w3 : Cond.superclass own y.cls ∈ lw_all) (w4 : Cond.instanceMethod y ∈ lw_all) (w5 : Cond.initialized y.cls ∈ lw_all) (w6 : Cond.code y cy nLy ry ∈ lw_all) (hd : y.name ≠ "<init>" ∧ (parseMethodDescriptor y.desc).map (fun d => d.parameters.length) = some n) (hn : As.length = n) (hp : Pla ws wc wr isC isR) (hf : Fits ce sl mcy msy mc ms fry loy nLy fr lo st) (hstk : As.reverse ++ .ref b :: st = stk) (d : decode cc pc = .ok (.invokespecial idx, 3))
    (k : ∀ (v : Option Value) (w : va_W), Po v w → G X (wr ++ w) lv (ce + mcy) (sl + msy) (pc + 3) (v.toList ++ st)) : G X ws lv ce sl pc stk := by
  intro H locs ls hP hD hS hl
  obtain ⟨p0, p1, p2, p3, p4⟩ := hp
  obtain ⟨f1, f2, f3, f4, f5⟩ := hf
  subst hstk
  have hpre := pre_S (av := .ref b :: As) h p0 p1 hP hD hS
  have hg : GoodIn lw_all (va_wsSU own idx y (ws_ y cy nLy ry)) := lw_app (by
    intro w hw
    simp only [List.mem_cons, List.not_mem_nil, or_false] at hw
    rcases hw with e | e | e | e | e <;> rw [e] <;> assumption) (lw_meth w6)
  exact va_gon h p1 p2 p3 p4 hP hD hS hl (va_runSU (C := r.1) (As := As) (rest := st) (h.k.1 ci r hc).2 ⟨h.x, h.b, h.ml, h.own, h.ts⟩ (hM H.size) (va_cwSU n h.ts hg rfl rfl rfl hd ⟨Nat.le_trans f3 hR.1, Nat.le_trans f4 hR.2.1⟩) ⟨hpre.1, va_recv h.k hP hc (apL hb0), hpre.2⟩ rfl hn hl.1 rfl (lv_room f5) d ⟨Nat.le_trans f1 hR.2.2.1, Nat.le_trans f2 hR.2.2.2⟩) k
/-- behind an interface's call -/
theorem va_gon5 {v0 : List Value} {isC isR : List Nat} (h : Ok X cc own) (hC : isC.map (fun i => ws[i]?) = wc.map some) (hW : isR.map (fun i => ws[i]?) = wr.map some) (hn : va_nd isR = true) (hd : ∀ i ∈ isR, i ∉ isC)
    {H : Heap} {locs : List Loc} {ls : Array Slot} (hP : va_P X.D vwCl (ws ++ X.F) H) (hD : va_D X.A (ws ++ X.F)) (hS : va_S X.A X.s.heap H locs) (hl : lv_has ls X.nL lv)
    (hr : va_Run5 X.p X.l X.e X.R X.s X.m X.args X.below X.meth X.c H locs ce sl mcy msy (F0 X.m pc ls v0) st (fun s o t => (∃ (v : Option Value) (w : va_W), o = .returned v ∧ Po v w ∧ va_P X.D vwCl w t.heap ∧ va_D (va_A wc H.size) w) ∧ va_F (va_A wc H.size) s t) (va_A wc H.size))
    (k : ∀ (v : Option Value) (w : va_W), Po v w → G X (wr ++ w) lv (ce + mcy) (sl + msy) (pc + 5) (v.toList ++ st)) : W X.p X.l X.e X.R X.s X.m X.args X.below X.meth X.c H locs ce sl X.Q (F0 X.m pc ls v0) := by
  intro T hT Z
  have hF := va_free (wc := wc) hD hS h.a isC (pl_L hC)
  obtain ⟨v, s0, t, T', L, hs0, Z', hL, hh, hvm, ⟨⟨v', w, he, hPo, hP1, hD1⟩, hF1⟩, hgo⟩ := hr T hT Z
  cases he
  obtain ⟨hP2, hD2⟩ := va_join (wr := wr ++ X.F) (w1 := w) hP hD isC (isR ++ List.range' ws.length X.F.length) (pl_L hC) (by rw [List.map_append, List.map_append, pl_L hW, pl_rng]) (by
      rw [vnd_iff, List.nodup_append]
      refine ⟨(vnd_iff isR).mp hn, List.nodup_range', ?_⟩
      intro a ha b hb e
      have h1 := pl_lt hW a ha
      have h2 := List.mem_range'_1.mp hb
      omega) (by
      intro i hi z
      rcases List.mem_append.mp hi with y | y
      · exact hd i y z
      · have h1 := pl_lt hC i z
        have h2 := List.mem_range'_1.mp y
        omega) (H1 := t.heap) (fun q h1 h2 => by have := hF1.2 q (by rw [hs0]; exact h1) h2; rw [hs0] at this; exact this) hF hP1 hD1
  have hP2 := pPp (pmv _ _ _) hP2
  have hD2 := pD (pmv _ _ _) hD2
  have hS2 : va_S X.A X.s.heap t.heap (locs ++ L) := by
    refine ⟨Nat.le_trans hS.1 (by have := hF1.1; rw [hs0] at this; exact this), fun q h1 h2 => ?_, fun q hq => ?_⟩
    · have h3 : q < H.size := Nat.lt_of_lt_of_le h1 hS.1
      have := hF1.2 q (by rw [hs0]; exact h3) (fun z => h2 (hF q z))
      rw [hs0] at this
      rw [this]
      exact hS.2.1 q h1 h2
    · rcases List.mem_append.mp hq with z | z
      · exact hS.2.2 q z
      · exact hF _ (hL q z)
  obtain ⟨t2, a1, b1⟩ := k v w hPo t.heap (locs ++ L) ls hP2 hD2 hS2 hl T' hh Z'
  exact ⟨t2, hgo _ a1, b1⟩
theorem g_callF {isC isR : List Nat} {stk : List Value} {b ci q0 cnt : Nat} {r : vw_C} {fs : List Value} {x : MethodName} (h : Ok X cc own) (hR : Rm X fr lo mc ms) (hM : Ct X.l y cy nLy ry fry loy mcy msy X.D X.E (.ref b :: As) wc Po) (hc : vwCl[ci]? = some r) (hb0 : ws[q0]? = some (b, .inr (ci, fs))) (w1 : Cond.methodLink own idx x ∈ lw_all) (w2 : Cond.selects r.1 x y ∈ lw_all) (w3 : Cond.instanceMethod y ∈ lw_all) (w4 : Cond.initialized y.cls ∈ lw_all) (w5 : Cond.code y cy nLy ry ∈ lw_all) (hFw : va_Fw r.1 x y X.s) (hd : Dsc x n) (hn : As.length = n) (hp : Pla ws wc wr isC isR) (hf : Fits ce sl mcy msy mc ms fry loy nLy fr lo st) (hstk : As.reverse ++ .ref b :: st = stk) (d : decode cc pc = .ok (.invokeinterface idx cnt, 5))
    (k : ∀ (v : Option Value) (w : va_W), Po v w → G X (wr ++ w) lv (ce + mcy) (sl + msy) (pc + 5) (v.toList ++ st)) : G X ws lv ce sl pc stk := by
  intro H locs ls hP hD hS hl
  obtain ⟨p0, p1, p2, p3, p4⟩ := hp
  obtain ⟨f1, f2, f3, f4, f5⟩ := hf
  subst hstk
  have hpre := pre_S (av := .ref b :: As) h p0 p1 hP hD hS
  have hg : GoodIn lw_all (va_wsF own idx r.1 x y (ws_ y cy nLy ry)) := lw_app (by
    intro w hw
    simp only [List.mem_cons, List.not_mem_nil, or_false] at hw
    rcases hw with e | e | e | e <;> rw [e] <;> assumption) (lw_meth w5)
  exact va_gon5 h p1 p2 p3 p4 hP hD hS hl (va_runF (C := r.1) (As := As) (rest := st) (h.k.1 ci r hc).2 ⟨h.x, h.b, h.ml, h.own, h.ts⟩ (hM H.size) (va_cwF n h.ts hg rfl rfl rfl hFw hd ⟨Nat.le_trans f3 hR.1, Nat.le_trans f4 hR.2.1⟩) ⟨hpre.1, va_recv h.k hP hc (apL hb0), hpre.2⟩ rfl hn hl.1 rfl (lv_room f5) d ⟨Nat.le_trans f1 hR.2.2.1, Nat.le_trans f2 hR.2.2.2⟩) k
theorem pin {perm : List Nat} {ws' w1 : va_W} {v : Option Value} (hn : va_nd perm = true) (hp : perm.map (fun i => (wr ++ w1)[i]?) = ws'.map some) {stk : List Value} (hs : v.toList ++ st = stk) (k : G X ws' lv ce sl pc stk) : ∀ (v' : Option Value) (w' : va_W), Pn v w1 v' w' → G X (wr ++ w') lv ce sl pc (v'.toList ++ st) := by
  rintro _ _ ⟨rfl, rfl⟩
  subst hs
  exact G.sub perm hn hp k
/-- an answer that is a fresh reference -/
def Pr (w : Nat → va_W) : Option Value → va_W → Prop := fun v' w' => ∃ q : Nat, v' = some (.ref q) ∧ w' = w q
theorem pinr {w1 : Nat → va_W} (k : ∀ q : Nat, G X (wr ++ w1 q) lv ce sl pc (.ref q :: st)) : ∀ (v' : Option Value) (w' : va_W), Pr w1 v' w' → G X (wr ++ w') lv ce sl pc (v'.toList ++ st) := by
  rintro _ _ ⟨q, rfl, rfl⟩
  exact k q

end GC
