/-! WHAT THE EXCEPTIONS' METHODS AND THE LENT BODY ASK of the start, beside sK0: it stays -/
def xNcL : List (String × String) := [("[B", "[S"), ("[B", "[I"), ("[S", "[B"), ("[S", "[I"), ("[I", "[B"), ("[I", "[S"), ("TowerTell$Person", "TowerTell$Proud"), ("TowerTell$Person", "TowerTell$Abject"), ("TowerTell$Proud", "TowerTell$Abject"),
  ("java/lang/ClassCastException", "java/lang/NullPointerException"), ("java/lang/ArrayIndexOutOfBoundsException", "java/lang/NullPointerException"), ("java/lang/ArrayIndexOutOfBoundsException", "java/lang/ClassCastException"), ("java/lang/ArrayStoreException", "java/lang/NullPointerException"), ("java/lang/ArrayStoreException", "java/lang/ClassCastException"), ("java/lang/NegativeArraySizeException", "java/lang/NullPointerException"), ("java/lang/NegativeArraySizeException", "java/lang/ClassCastException"), ("java/lang/NegativeArraySizeException", "java/lang/ArrayStoreException"), ("java/lang/ArrayIndexOutOfBoundsException", "java/lang/ArrayStoreException"), ("java/lang/ArrayIndexOutOfBoundsException", "java/lang/NegativeArraySizeException"), ("java/lang/IndexOutOfBoundsException", "java/lang/NullPointerException"), ("java/lang/IndexOutOfBoundsException", "java/lang/ClassCastException"), ("java/lang/IndexOutOfBoundsException", "java/lang/ArrayStoreException"), ("java/lang/IndexOutOfBoundsException", "java/lang/NegativeArraySizeException")]
/-- a call through an interface that lands in the interface's own body -/
def nLD (C : String) (x y : MethodName) (U : State) : Prop := ∃ (c : ClassId) (r m : MethodId) (rm : Method), U.vm.findClass C = some c ∧ U.methodNamed? x = some r ∧ U.methodNamed? y = some m ∧ U.vm.method? r = some rm ∧ selectMethod {} U.vm c r = .method m ∧ ((c :: U.vm.superclasses c).any fun k => (declaredIn U.vm rm.name rm.desc k).any fun (_, z) => z.isPrivate || z.isStatic) = false ∧ ∃ mm : Method, U.vm.method? m = some mm ∧ hasFlag mm.accessFlags Acc.public_ = true
theorem nLD.moved {C : String} {x y : MethodName} {u U : State} (h : u.vm.Alike U.vm) (hd : nLD C x y u) : nLD C x y U := by
  obtain ⟨c, r, m, rm, h1, h2, h3, h4, h5, h6, mm, h7, h8⟩ := hd
  refine ⟨c, r, m, rm, by rw [h.findClass]; exact h1, ?_, ?_, by rw [h.method?]; exact h4, by rw [h.selectMethod]; exact h5, by rw [h.superclasses]; simp only [h.declaredIn]; exact h6, mm, by rw [h.method?]; exact h7, h8⟩
  · have := State.methodNamed?_setVm (s := u) h (x := x)
    exact this.trans h2
  · have := State.methodNamed?_setVm (s := u) h (x := y)
    exact this.trans h3
abbrev mGr (n d : String) : MethodName := ⟨"TowerTell$Greeted", n, d⟩
def nFwG : List nFwT := [("TowerTell$Person", mGr "tracedBy" "(I)I", ⟨"TowerTell$Person", "tracedBy", "(I)I"⟩), ("TowerTell$Person", mGr "number" "()I", ⟨"TowerTell$Person", "number", "()I"⟩), ("TowerTell$Proud", mGr "tracedBy" "(I)I", ⟨"TowerTell$Person", "tracedBy", "(I)I"⟩), ("TowerTell$Proud", mGr "number" "()I", ⟨"TowerTell$Person", "number", "()I"⟩), ("TowerTell$Abject", mGr "greeted" "()I", ⟨"TowerTell$Abject", "greeted", "()I"⟩)]
theorem nFwG_ok : ∀ t ∈ nFwG, t.2.1.cls ≠ "java/lang/invoke/MethodHandle" ∧ t.2.1.cls ≠ "java/lang/invoke/VarHandle" := by decide +kernel
def xK (G : nG) (U : State) : Prop := xZ "java/lang/Throwable" "UNASSIGNED_STACK" "[Ljava/lang/StackTraceElement;" G.2 U ∧ xZ "java/lang/Throwable" "SUPPRESSED_SENTINEL" "Ljava/util/List;" G.2 U ∧ xMods U.vm ∧ (∀ t ∈ xNcL, va_Nc t.1 t.2 U) ∧ (∃ a, vk_R "TowerTell" 265 "not all there" a U) ∧ (∀ t ∈ nFwG, va_Fw t.1 t.2.1 t.2.2 U) ∧ nLD "TowerTell$Person" (mGr "greeted" "()I") (mGr "greeted" "()I") U ∧ nLD "TowerTell$Proud" (mGr "greeted" "()I") (mGr "greeted" "()I") U
theorem xK_o (G : nG) : nKo G (xK G) := by
  intro u U hW hH h
  obtain ⟨h1, h2, h3, h4, ⟨a, h5⟩, h6, h7, h8⟩ := h
  exact ⟨h1.moved hW.alike hH, h2.moved hW.alike hH, h3.moved hW.alike, fun t ht => (h4 t ht).moved hW.alike, ⟨a, h5.warm hW⟩, fun t ht => va_Fw.moved (nFwG_ok t ht) hW.alike (h6 t ht), h7.moved hW.alike, h8.moved hW.alike⟩
/-- what the law's run carries -/
def sK1 (G : nG) (U : State) : Prop := sK0 G U ∧ xK G U
theorem sK1_o (G : nG) : nKo G (sK1 G) := fun u U hW hH h => ⟨sK0_o G u U hW hH h.1, xK_o G u U hW hH h.2⟩
