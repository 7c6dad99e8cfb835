/-! BASE: a method's world as a MAP from addresses to cells (ZV), one form of goal (ZW), one form of contract (ZM: returns or throws), a row an instruction -/
set_option maxRecDepth 100000
def TX5 : u_T := fun _ => ("Quaylock$MorePromising", "", "I", false)
def tyX5 : Nat → FieldType := fun _ => .int
abbrev ZV : Type := Nat → Option va_E
/-- classes and slots; classes of arrays (0 int, 1 Box, 2 Object, 3 boolean, 4 char, 5 long, 6 double); the cache of small Integers; 0 ArrayList's empty array, 1 the cache's array, 2 the Class object of Object[] -/
abbrev ZD : Type := va_G × (Nat → ClassId) × (Nat → Nat) × (Nat → Nat)
abbrev ZD.arr (D : ZD) (k : Nat) : ClassId := D.2.1 k
abbrev ZD.box (D : ZD) (k : Nat) : Nat := D.2.2.1 k
abbrev ZD.at (D : ZD) (k : Nat) : Nat := D.2.2.2 k
def ztys (D : ZD) : List (ClassId × FieldType) := [(D.arr 0, .int), (D.arr 1, .object "Quaylock$Box"), (D.arr 2, .object "java/lang/Object"), (D.arr 3, .boolean), (D.arr 4, .char), (D.arr 5, .long), (D.arr 6, .double)]
def zcl : List vw_C := [(RX1, TX1, 11), (RX2, TX2, 2), (RX3, TX3, 19), (RX4, TX4, 4), (RX5, TX5, 0), (RX6, TX6, 4), (RX7, TX7, 2), (RX8, TX8, 4), (RJ2, TJ2, 3), (RJ4, TJ4, 9), (RJ15, TJ15, 4), (RJ21, TJ21, 4), (RJ24, TJ24, 6), (RJ27, TJ27, 2), (RJ19, TJ19, 1)]
def zR (ws : va_W) (V : ZV) : Prop := ∀ (a : Nat) (e : va_E), V a = some e ↔ ∃ k : Nat, ws[k]? = some (a, e)
theorem zR.set {A : Nat → Prop} {ws : va_W} {V : ZV} {k a : Nat} {e0 e : va_E} (h : zR ws V) (hD : va_D A ws) (hk : ws[k]? = some (a, e0)) : zR (ws.set k (a, e)) (va_up V a (some e)) := by
  have hl := (List.getElem?_eq_some_iff.mp hk).1
  intro b f
  unfold va_up
  by_cases hb : b = a
  · subst hb
    rw [if_pos rfl]
    constructor
    · intro q
      obtain rfl := Option.some.inj q
      exact ⟨k, List.getElem?_set_self hl⟩
    · rintro ⟨j, hj⟩
      by_cases hjk : j = k
      · subst hjk
        rw [List.getElem?_set_self hl] at hj
        cases hj
        rfl
      · rw [List.getElem?_set_ne (Ne.symm hjk)] at hj
        exact absurd (hD.1 j k _ _ hj hk rfl) hjk
  · rw [if_neg hb, h b f]
    constructor
    · rintro ⟨j, hj⟩
      refine ⟨j, ?_⟩
      by_cases hjk : j = k
      · subst hjk
        rw [hk] at hj
        cases hj
        exact absurd rfl hb
      · rw [List.getElem?_set_ne (Ne.symm hjk)]; exact hj
    · rintro ⟨j, hj⟩
      by_cases hjk : j = k
      · subst hjk
        rw [List.getElem?_set_self hl] at hj
        cases hj
        exact absurd rfl hb
      · rw [List.getElem?_set_ne (Ne.symm hjk)] at hj
        exact ⟨j, hj⟩
theorem zR.push {A : Nat → Prop} {ws : va_W} {V : ZV} {q : Nat} {e : va_E} (h : zR ws V) (hD : va_D A (ws ++ [(q, e)])) : V q = none ∧ zR (ws ++ [(q, e)]) (va_up V q (some e)) := by
  have hlast : (ws ++ [(q, e)])[ws.length]? = some (q, e) := by simp
  have old : ∀ (j : Nat) (p : Nat × va_E), ws[j]? = some p → j < ws.length ∧ (ws ++ [(q, e)])[j]? = some p := by
    intro j p hj
    have hl := (List.getElem?_eq_some_iff.mp hj).1
    exact ⟨hl, by rw [List.getElem?_append_left hl]; exact hj⟩
  have hn : V q = none := by
    cases hv : V q with
    | none => rfl
    | some f =>
      obtain ⟨j, hj⟩ := (h q f).mp hv
      obtain ⟨h1, h2⟩ := old j _ hj
      have := hD.1 j ws.length _ _ h2 hlast rfl
      omega
  refine ⟨hn, fun b f => ?_⟩
  unfold va_up
  by_cases hb : b = q
  · subst hb
    rw [if_pos rfl]
    constructor
    · intro z
      obtain rfl := Option.some.inj z
      exact ⟨_, hlast⟩
    · rintro ⟨j, hj⟩
      have := hD.1 j ws.length _ _ hj hlast rfl
      subst this
      rw [hlast] at hj
      cases hj
      rfl
  · rw [if_neg hb, h b f]
    constructor
    · rintro ⟨j, hj⟩
      exact ⟨j, (old j _ hj).2⟩
    · rintro ⟨j, hj⟩
      by_cases hl : j < ws.length
      · rw [List.getElem?_append_left hl] at hj
        exact ⟨j, hj⟩
      · rw [List.getElem?_append_right (by omega)] at hj
        have hz : j - ws.length < 1 := (List.getElem?_eq_some_iff.mp hj).1
        have hj0 : j - ws.length = 0 := by omega
        rw [hj0] at hj
        cases hj
        exact absurd rfl hb
theorem zR.A {ws : va_W} {V : ZV} (h : zR ws V) {a : Nat} {e : va_E} (hv : V a = some e) {A : Nat → Prop} (hD : va_D A ws) : A a := by
  obtain ⟨k, hk⟩ := (h a e).mp hv
  exact hD.2 k _ hk
def zfw : List (String × MethodName × MethodName) := [("java/util/ArrayList", ⟨"java/util/List", "iterator", "()Ljava/util/Iterator;"⟩, ⟨"java/util/ArrayList", "iterator", "()Ljava/util/Iterator;"⟩), ("java/util/ArrayList", ⟨"java/util/List", "size", "()I"⟩, ⟨"java/util/ArrayList", "size", "()I"⟩), ("java/util/ArrayList", ⟨"java/util/List", "add", "(Ljava/lang/Object;)Z"⟩, ⟨"java/util/ArrayList", "add", "(Ljava/lang/Object;)Z"⟩), ("java/util/ArrayList", ⟨"java/util/List", "get", "(I)Ljava/lang/Object;"⟩, ⟨"java/util/ArrayList", "get", "(I)Ljava/lang/Object;"⟩), ("java/util/ArrayList$Itr", ⟨"java/util/Iterator", "hasNext", "()Z"⟩, ⟨"java/util/ArrayList$Itr", "hasNext", "()Z"⟩), ("java/util/ArrayList$Itr", ⟨"java/util/Iterator", "next", "()Ljava/lang/Object;"⟩, ⟨"java/util/ArrayList$Itr", "next", "()Ljava/lang/Object;"⟩), ("Quaylock$MorePromising", ⟨"java/util/Comparator", "compare", "(Ljava/lang/Object;Ljava/lang/Object;)I"⟩, ⟨"Quaylock$MorePromising", "compare", "(Ljava/lang/Object;Ljava/lang/Object;)I"⟩), ("Quaylock$Slot", ⟨"java/lang/Comparable", "compareTo", "(Ljava/lang/Object;)I"⟩, ⟨"Quaylock$Slot", "compareTo", "(Ljava/lang/Object;)I"⟩), ("Quaylock$Yard", ⟨"java/lang/Comparable", "compareTo", "(Ljava/lang/Object;)I"⟩, ⟨"Quaylock$Yard", "compareTo", "(Ljava/lang/Object;)I"⟩), ("java/util/TreeMap", ⟨"java/util/Map", "get", "(Ljava/lang/Object;)Ljava/lang/Object;"⟩, ⟨"java/util/TreeMap", "get", "(Ljava/lang/Object;)Ljava/lang/Object;"⟩), ("java/util/TreeMap", ⟨"java/util/Map", "put", "(Ljava/lang/Object;Ljava/lang/Object;)Ljava/lang/Object;"⟩, ⟨"java/util/TreeMap", "put", "(Ljava/lang/Object;Ljava/lang/Object;)Ljava/lang/Object;"⟩), ("java/util/TreeMap$Entry", ⟨"java/util/Map$Entry", "getKey", "()Ljava/lang/Object;"⟩, ⟨"java/util/TreeMap$Entry", "getKey", "()Ljava/lang/Object;"⟩), ("java/util/TreeMap$Entry", ⟨"java/util/Map$Entry", "getValue", "()Ljava/lang/Object;"⟩, ⟨"java/util/TreeMap$Entry", "getValue", "()Ljava/lang/Object;"⟩), ("java/util/AbstractMap$SimpleImmutableEntry", ⟨"java/util/Map$Entry", "getValue", "()Ljava/lang/Object;"⟩, ⟨"java/util/AbstractMap$SimpleImmutableEntry", "getValue", "()Ljava/lang/Object;"⟩)]
/-- words of the tables that the lists don't carry -/
def zkd (w : Cond) : Bool := match w with
  | .fieldLinkNest .. => true
  | .methodLinkNest .. => true
  | .castable .. => true
  | .declares .. => true
  | _ => false
theorem zkd_warm {s U : State} (hW : s.WarmedH U.vm) {w : Cond} (hk : zkd w = true) (h : va_Nw w s) : va_Nw w U := by
  unfold zkd at hk
  split at hk
  · exact va_Nw.warmF hW h
  · exact va_Nw.warmM hW h
  · exact va_Nw.warmC hW h
  · exact va_Nw.warmD hW h
  · cases hk
theorem zkd_same {w : Cond} (hk : zkd w = true) {u U : State} (h : u.vm = U.vm) (hZ : va_Nw w u) : va_Nw w U := by
  unfold zkd at hk
  split at hk
  · exact va_Nw.same rfl h hZ
  · exact va_Nw.same rfl h hZ
  · exact va_Nw.same rfl h hZ
  · exact va_Nw.same rfl h hZ
  · cases hk
theorem zkd_use {w : Cond} (hk : zkd w = true) {A : Array Value} {U : State} (h : va_Nw w U) : w.before A U = true := by
  unfold zkd at hk
  split at hk
  · exact va_Nw.use rfl h
  · exact va_Nw.use rfl h
  · exact va_Nw.use rfl h
  · exact va_Nw.use rfl h
  · cases hk
/-- classes of exceptions that don't pass for others (rows of handlers that a throw passes by) -/
def zno : List (String × String) := [("java/util/NoSuchElementException", "java/lang/IndexOutOfBoundsException"), ("java/lang/UnsupportedOperationException", "java/lang/IndexOutOfBoundsException"), ("java/lang/IllegalArgumentException", "java/lang/IndexOutOfBoundsException"), ("java/lang/IllegalStateException", "java/lang/IndexOutOfBoundsException"), ("java/lang/UnsupportedOperationException", "java/lang/IllegalArgumentException"), ("java/lang/IllegalStateException", "java/lang/IllegalArgumentException"), ("java/lang/IllegalStateException", "java/lang/UnsupportedOperationException")]
/-- what the tables and the cells that nobody writes give, at a state U, with A: what may be written -/
def zRO (D : ZD) (A : Nat → Prop) (U : State) (H : Heap) : Prop :=
  (vx_Zq Bundle.tN "UNASSIGNED_STACK" Bundle.steD A U H ∧ vx_Zq Bundle.tN "SUPPRESSED_SENTINEL" Bundle.listD A U H) ∧
  (va_Z "java/util/ArrayList" "DEFAULTCAPACITY_EMPTY_ELEMENTDATA" "[Ljava/lang/Object;" (.ref (D.at 0)) A U H ∧ va_T (.object "java/lang/Object") (D.at 0) 0 (fun _ => .null) A U H) ∧
  (vb_C D.2.2.1 A U H ∧ va_Z "java/lang/Integer$IntegerCache" "high" "I" (.int 127) A U H ∧ va_Z "java/lang/Integer$IntegerCache" "cache" "[Ljava/lang/Integer;" (.ref (D.at 1)) A U H ∧ va_T (.object "java/lang/Integer") (D.at 1) 256 (fun j => .ref (D.box j)) A U H)
theorem zRO.moved {D : ZD} {A : Nat → Prop} {u U : State} {H : Heap} (hvm : u.vm.Alike U.vm) (h : zRO D A u H) : zRO D A U H :=
  ⟨⟨vx_Zq.moved hvm h.1.1, vx_Zq.moved hvm h.1.2⟩, ⟨va_Z.moved hvm h.2.1.1, va_T.moved hvm h.2.1.2⟩, vb_C.moved hvm h.2.2.1, va_Z.moved hvm h.2.2.2.1, va_Z.moved hvm h.2.2.2.2.1, va_T.moved hvm h.2.2.2.2.2⟩
theorem zRO.kept {D : ZD} {A : Nat → Prop} {U : State} {H H1 : Heap} (h : zRO D A U H) (hq : ∀ a : Nat, a < H.size → ¬ A a → H1[a]? = H[a]?) : zRO D A U H1 :=
  ⟨⟨h.1.1.kept hq, h.1.2.kept hq⟩, ⟨h.2.1.1.kept hq, h.2.1.2.kept hq⟩, h.2.2.1.kept hq, h.2.2.2.1.kept hq, h.2.2.2.2.1.kept hq, h.2.2.2.2.2.kept hq⟩
theorem zRO.narrow {D : ZD} {A B : Nat → Prop} {U : State} {H : Heap} (h : zRO D A U H) (hAB : ∀ q, B q → A q) : zRO D B U H :=
  ⟨⟨h.1.1.narrow hAB, h.1.2.narrow hAB⟩, ⟨h.2.1.1.narrow hAB, h.2.1.2.narrow hAB⟩, h.2.2.1.narrow hAB, h.2.2.2.1.narrow hAB, h.2.2.2.2.1.narrow hAB, h.2.2.2.2.2.narrow hAB⟩
/-- the tables' part: it holds all through a run -/
def zTb (D : ZD) (U : State) : Prop :=
  va_K D.1 zcl (ztys D) U ∧ (∀ w ∈ lw_tbl, zkd w = true → va_Nw w U) ∧ (∀ t ∈ zfw, va_Fw t.1 t.2.1 t.2.2 U) ∧ (va_AO "Quaylock$Box" U ∧ va_AO "java/lang/Object" U) ∧ va_Mi "[Ljava/lang/Object;" (D.at 2) U ∧ ∀ t ∈ zno, va_Nc t.1 t.2 U
theorem zfw_ok : ∀ t ∈ zfw, t.2.1.cls ≠ "java/lang/invoke/MethodHandle" ∧ t.2.1.cls ≠ "java/lang/invoke/VarHandle" := by decide +kernel
theorem zTb.warm {D : ZD} {s U : State} (hW : s.WarmedH U.vm) (h : zTb D s) : zTb D U :=
  ⟨va_K.moved hW.alike h.1, fun w hw hk => zkd_warm hW hk (h.2.1 w hw hk), fun t ht => va_Fw.moved (zfw_ok t ht) hW.alike (h.2.2.1 t ht), ⟨va_AO.moved hW.alike h.2.2.2.1.1, va_AO.moved hW.alike h.2.2.2.1.2⟩, va_Mi.moved hW.alike h.2.2.2.2.1, fun t ht => va_Nc.moved hW.alike (h.2.2.2.2.2 t ht)⟩
theorem zTb.same {D : ZD} {u U : State} (e : u.vm = U.vm) (h : zTb D u) : zTb D U := by
  have hA : u.vm.Alike U.vm := by rw [e]; exact Vm.Alike.refl _
  exact ⟨va_K.moved hA h.1, fun w hw hk => zkd_same hk e (h.2.1 w hw hk), fun t ht => va_Fw.moved (zfw_ok t ht) hA (h.2.2.1 t ht), ⟨va_AO.moved hA h.2.2.2.1.1, va_AO.moved hA h.2.2.2.1.2⟩, va_Mi.moved hA h.2.2.2.2.1, fun t ht => va_Nc.moved hA (h.2.2.2.2.2 t ht)⟩
def zS (D : ZD) (A : Nat → Prop) (U : State) (H : Heap) : Prop := zTb D U ∧ zRO D A U H
/-- where a walk is: program, environment, start, method .., what is owed at the end, what may be written -/
abbrev ZG : Type := Program × Env × State × MethodId × Array Value × List Frame × Method × Code × (State → Prop) × (Nat → Prop)
abbrev ZG.p (g : ZG) : Program := g.1
abbrev ZG.e (g : ZG) : Env := g.2.1
abbrev ZG.s (g : ZG) : State := g.2.2.1
abbrev ZG.m (g : ZG) : MethodId := g.2.2.2.1
abbrev ZG.a (g : ZG) : Array Value := g.2.2.2.2.1
abbrev ZG.b (g : ZG) : List Frame := g.2.2.2.2.2.1
abbrev ZG.h (g : ZG) : Method := g.2.2.2.2.2.2.1
abbrev ZG.c (g : ZG) : Code := g.2.2.2.2.2.2.2.1
abbrev ZG.Q (g : ZG) : State → Prop := g.2.2.2.2.2.2.2.2.1
abbrev ZG.A (g : ZG) : Nat → Prop := g.2.2.2.2.2.2.2.2.2
def zcat (lv : List (Nat × Value)) : Prop := ∀ q ∈ lv, q.2.category = 1
def zH (D : ZD) (Γ : ZG) (V : ZV) (lv : List (Nat × Value)) (H : Heap) (locs : List Loc) (ls : Array Slot) (ws : va_W) : Prop :=
  zR ws V ∧ zcat lv ∧ va_P D.1 zcl ws H ∧ va_D Γ.A ws ∧ va_S Γ.A Γ.s.heap H locs ∧ lv_has ls Γ.c.maxLocals lv
/-- THE GOAL: from the place pc, with these locals, this stack, this world, kc cells and ks slots made so far, the machine comes to what is owed -/
def ZW (l : Launch) (D : ZD) (Γ : ZG) (R : Room) (pc : Nat) (lv : List (Nat × Value)) (st : List Value) (V : ZV) (kc ks : Nat) : Prop :=
  ∀ (H : Heap) (locs : List Loc) (ls : Array Slot) (ws : va_W), zH D Γ V lv H locs ls ws → W Γ.p l Γ.e R Γ.s Γ.m Γ.a Γ.b Γ.h Γ.c H locs kc ks Γ.Q (F0 Γ.m pc ls st)
/-- an exception E has been thrown here -/
def ZX (l : Launch) (D : ZD) (Γ : ZG) (R : Room) (pc : Nat) (lv : List (Nat × Value)) (st : List Value) (V : ZV) (kc ks : Nat) (E : String) : Prop :=
  ∀ (H : Heap) (locs : List Loc) (ls : Array Slot) (ws : va_W) (ce : Cell) (q : Addr), zH D Γ V lv H locs ls ws → H[q]? = some ce → ce.vm = .none → Γ.s.vm.findClass E = some ce.cls → vx_W Γ.p l Γ.e R Γ.s Γ.m Γ.a Γ.b Γ.h Γ.c H locs kc ks Γ.Q (F0 Γ.m pc ls st) q
/-- what holds all through a body -/
def zC (l : Launch) (D : ZD) (Γ : ZG) (own nm : String) (cc : ByteArray) (nL : Nat) (ret : Option FieldType) (tab : List ExceptionTableEntry) : Prop :=
  Γ.p.tables.exec = Jvm.exec ∧ Γ.c.code = cc ∧ Γ.c.maxLocals = nL ∧ Γ.s.vm.findClass own = some Γ.m.cls ∧ (∀ w ∈ lw_all, w.before Γ.a Γ.s = true) ∧ Γ.h.sig.returnType = ret ∧ Γ.h.locks = false ∧ Γ.h.name = nm ∧ Γ.c.exceptionTable.toList = tab ∧ l.stackTraces = false ∧ zS D Γ.A Γ.s Γ.s.heap ∧ ∀ q : Nat, Γ.s.heap.size ≤ q → Γ.A q
section ZCA
variable {l : Launch} {D : ZD} {Γ : ZG} {own nm : String} {cc : ByteArray} {nL : Nat} {ret : Option FieldType} {tab : List ExceptionTableEntry}
theorem zC.x (C : zC l D Γ own nm cc nL ret tab) : Γ.p.tables.exec = Jvm.exec := C.1
theorem zC.b (C : zC l D Γ own nm cc nL ret tab) : Γ.c.code = cc := C.2.1
theorem zC.ml (C : zC l D Γ own nm cc nL ret tab) : Γ.c.maxLocals = nL := C.2.2.1
theorem zC.ow (C : zC l D Γ own nm cc nL ret tab) : Γ.s.vm.findClass own = some Γ.m.cls := C.2.2.2.1
theorem zC.ts (C : zC l D Γ own nm cc nL ret tab) : ∀ w ∈ lw_all, w.before Γ.a Γ.s = true := C.2.2.2.2.1
theorem zC.r (C : zC l D Γ own nm cc nL ret tab) : Γ.h.sig.returnType = ret := C.2.2.2.2.2.1
theorem zC.lk (C : zC l D Γ own nm cc nL ret tab) : Γ.h.locks = false := C.2.2.2.2.2.2.1
theorem zC.na (C : zC l D Γ own nm cc nL ret tab) : Γ.h.name = nm := C.2.2.2.2.2.2.2.1
theorem zC.tb (C : zC l D Γ own nm cc nL ret tab) : Γ.c.exceptionTable.toList = tab := C.2.2.2.2.2.2.2.2.1
theorem zC.tr (C : zC l D Γ own nm cc nL ret tab) : l.stackTraces = false := C.2.2.2.2.2.2.2.2.2.1
theorem zC.S (C : zC l D Γ own nm cc nL ret tab) : zS D Γ.A Γ.s Γ.s.heap := C.2.2.2.2.2.2.2.2.2.2.1
theorem zC.fr (C : zC l D Γ own nm cc nL ret tab) : ∀ q : Nat, Γ.s.heap.size ≤ q → Γ.A q := C.2.2.2.2.2.2.2.2.2.2.2
theorem zC.K (C : zC l D Γ own nm cc nL ret tab) : va_K D.1 zcl (ztys D) Γ.s := C.S.1.1
theorem zC.w (C : zC l D Γ own nm cc nL ret tab) {w : Cond} (hw : w ∈ lw_tbl) (hk : zkd w = true) : va_Nw w Γ.s := C.S.1.2.1 w hw hk
end ZCA
abbrev zr (h mc ms : Nat) : Room := { frames := h, cells := mc, slots := ms, locals := 60 * h }
def zE (D : ZD) (A : Nat → Prop) (V : ZV) (t : State) : Prop := ∃ ws : va_W, zR ws V ∧ va_P D.1 zcl ws t.heap ∧ va_D A ws
def zQc {ρ : Type} (D : ZD) (enc : ρ → Option Value) (Post : ρ → ZV → Prop) (A : Nat → Prop) : Array Value → State → Outcome → State → Prop := fun _ s oc t =>
  (∃ (r : ρ) (V : ZV), oc = .returned (enc r) ∧ Post r V ∧ zE D A V t) ∧ va_F A s t
def zXC (D : ZD) (PX : String → ZV → Prop) (A : Nat → Prop) : String → State → State → Prop := fun E s t => (∃ V : ZV, PX E V ∧ zE D A V t) ∧ va_F A s t
/-- A CONTRACT: called in the world V with these arguments, the method returns r with Post r (world behind it), or throws an E with PX E (world behind it); at most mc cells of ms slots are new; h: its height, its room's frames -/
def ZM {ρ : Type} (l : Launch) (D : ZD) (y : MethodName) (wds : List Cond) (h mc ms : Nat) (enc : ρ → Option Value) (V : ZV) (as : List Value) (Post : ρ → ZV → Prop) (PX : String → ZV → Prop) : Prop :=
  l.stackTraces = false → ∀ (ws : va_W) (sz : Nat), zR ws V → vx_Met l y wds (zr h mc ms) (va_Pc as (fun U => U.heap.size = sz ∧ va_P D.1 zcl ws U.heap ∧ va_D (fun _ => True) ws ∧ zS D (va_A ws sz) U U.heap)) (zQc D enc Post (va_A ws sz)) (zXC D PX (va_A ws sz)) mc ms (va_A ws sz)
/-- what a body owes -/
def zT {ρ : Type} (D : ZD) (Γ : ZG) (enc : ρ → Option Value) (Post : ρ → ZV → Prop) (PX : String → ZV → Prop) (mc ms : Nat) : Prop :=
  Γ.Q = vx_MQ Γ.b (zQc D enc Post Γ.A) (zXC D PX Γ.A) Γ.a Γ.s mc ms Γ.A
abbrev zno_x : String → ZV → Prop := fun _ _ => False
theorem va_rf_cat (r : Option Nat) : (va_rf r).category = 1 := by cases r <;> rfl
theorem zM_post {ρ : Type} {l : Launch} {D : ZD} {y : MethodName} {wds : List Cond} {h mc ms : Nat} {enc : ρ → Option Value} {V : ZV} {as : List Value} {Post Post' : ρ → ZV → Prop} {PX PX' : String → ZV → Prop} (hM : ZM l D y wds h mc ms enc V as Post PX) (h1 : ∀ r V', Post r V' → Post' r V') (h2 : ∀ E V', PX E V' → PX' E V') : ZM l D y wds h mc ms enc V as Post' PX' := by
  intro hl ws sz hR p e h3 h4 h5 s m args below h6 h7 h8 h9
  obtain ⟨n, o, k1, k2, k3, k4⟩ := hM hl ws sz hR p e h3 h4 h5 s m args below h6 h7 h8 h9
  refine ⟨n, o, k1, k2, k3, ?_⟩
  rcases k4 with ⟨⟨⟨r, V', a1, a2, a3⟩, a4⟩, a5⟩ | ⟨q, a0, E, ce, L, ⟨⟨V', a1, a2⟩, a3⟩, a4⟩
  · exact Or.inl ⟨⟨⟨r, V', a1, h1 r V' a2, a3⟩, a4⟩, a5⟩
  · exact Or.inr ⟨q, a0, E, ce, L, ⟨⟨V', h2 E V' a1, a2⟩, a3⟩, a4⟩
section Z
variable {l : Launch} {D : ZD} {Γ : ZG} {R : Room} {pc : Nat} {lv : List (Nat × Value)} {st : List Value} {V : ZV} {kc ks : Nat} {own nm : String} {cc : ByteArray} {nL : Nat} {ret : Option FieldType} {tab : List ExceptionTableEntry}
theorem z_iload_n (C : zC l D Γ own nm cc nL ret tab) (j : Nat) {i : Nat} {k : Fin 4} {x : Int32} (hj : lv[j]? = some (i, .int x)) (d : decode cc pc = .ok (.iload_n k, 1)) (hi : (k : Nat) = i) (kk : ZW l D Γ R (pc + 1) lv (.int x :: st) V kc ks) : ZW l D Γ R pc lv st V kc ks := fun H locs ls ws h => lv_iload_n C.x C.b d hi (lv_at h.2.2.2.2.2 j hj) (kk H locs ls ws h)
theorem z_iload (C : zC l D Γ own nm cc nL ret tab) (j : Nat) {i : Nat} {x : Int32} (hj : lv[j]? = some (i, .int x)) (d : decode cc pc = .ok (.iload i, 2)) (kk : ZW l D Γ R (pc + 2) lv (.int x :: st) V kc ks) : ZW l D Γ R pc lv st V kc ks := fun H locs ls ws h => lv_iload C.x C.b d (lv_at h.2.2.2.2.2 j hj) (kk H locs ls ws h)
theorem z_aload_n (C : zC l D Γ own nm cc nL ret tab) (j : Nat) {i : Nat} {k : Fin 4} {x : Nat} (hj : lv[j]? = some (i, .ref x)) (d : decode cc pc = .ok (.aload_n k, 1)) (hi : (k : Nat) = i) (kk : ZW l D Γ R (pc + 1) lv (.ref x :: st) V kc ks) : ZW l D Γ R pc lv st V kc ks := fun H locs ls ws h => lv_aload_n C.x C.b d hi (lv_at h.2.2.2.2.2 j hj) (kk H locs ls ws h)
theorem z_aload (C : zC l D Γ own nm cc nL ret tab) (j : Nat) {i : Nat} {x : Nat} (hj : lv[j]? = some (i, .ref x)) (d : decode cc pc = .ok (.aload i, 2)) (kk : ZW l D Γ R (pc + 2) lv (.ref x :: st) V kc ks) : ZW l D Γ R pc lv st V kc ks := fun H locs ls ws h => lv_aload C.x C.b d (lv_at h.2.2.2.2.2 j hj) (kk H locs ls ws h)
theorem z_fload_n (C : zC l D Γ own nm cc nL ret tab) (j : Nat) {i : Nat} {k : Fin 4} {x : UInt32} (hj : lv[j]? = some (i, .float x)) (d : decode cc pc = .ok (.fload_n k, 1)) (hi : (k : Nat) = i) (kk : ZW l D Γ R (pc + 1) lv (.float x :: st) V kc ks) : ZW l D Γ R pc lv st V kc ks := fun H locs ls ws h => lv_fload_n C.x C.b d hi (lv_at h.2.2.2.2.2 j hj) (kk H locs ls ws h)
theorem z_fload (C : zC l D Γ own nm cc nL ret tab) (j : Nat) {i : Nat} {x : UInt32} (hj : lv[j]? = some (i, .float x)) (d : decode cc pc = .ok (.fload i, 2)) (kk : ZW l D Γ R (pc + 2) lv (.float x :: st) V kc ks) : ZW l D Γ R pc lv st V kc ks := fun H locs ls ws h => lv_fload C.x C.b d (lv_at h.2.2.2.2.2 j hj) (kk H locs ls ws h)
theorem z_aload_nQ (C : zC l D Γ own nm cc nL ret tab) (j : Nat) {i : Nat} {k : Fin 4} {r : Option Nat} (hj : lv[j]? = some (i, va_rf r)) (d : decode cc pc = .ok (.aload_n k, 1)) (hi : (k : Nat) = i) (kk : ZW l D Γ R (pc + 1) lv (va_rf r :: st) V kc ks) : ZW l D Γ R pc lv st V kc ks := fun H locs ls ws h => by
  cases r with
  | none => exact lv_aload_nN C.x C.b d hi (lv_at h.2.2.2.2.2 j hj) (kk H locs ls ws h)
  | some x => exact lv_aload_n C.x C.b d hi (lv_at h.2.2.2.2.2 j hj) (kk H locs ls ws h)
theorem z_aloadQ (C : zC l D Γ own nm cc nL ret tab) (j : Nat) {i : Nat} {r : Option Nat} (hj : lv[j]? = some (i, va_rf r)) (d : decode cc pc = .ok (.aload i, 2)) (kk : ZW l D Γ R (pc + 2) lv (va_rf r :: st) V kc ks) : ZW l D Γ R pc lv st V kc ks := fun H locs ls ws h => by
  cases r with
  | none => exact lv_aloadN C.x C.b d (lv_at h.2.2.2.2.2 j hj) (kk H locs ls ws h)
  | some x => exact lv_aload C.x C.b d (lv_at h.2.2.2.2.2 j hj) (kk H locs ls ws h)
def zst (lv : List (Nat × Value)) (i : Nat) (v : Value) : List (Nat × Value) := (i, v) :: lv.filter (fun q => !(q.1 == i))
theorem zst_eq {lv : List (Nat × Value)} {i : Nat} {v : Value} (h : zcat lv) : (i, v) :: lv.filter (fun q => !(q.1 == i) && !(q.1 + 1 == i && q.2.category == 2)) = zst lv i v := by
  unfold zst
  congr 1
  refine List.filter_congr fun q hq => ?_
  rw [h q hq]
  simp
theorem zst_cat {lv : List (Nat × Value)} {i : Nat} {v : Value} (h : zcat lv) (hv : v.category = 1) : zcat (zst lv i v) := by
  intro q hq
  rcases List.mem_cons.mp hq with e | e
  · rw [e]; exact hv
  · exact h q (List.mem_filter.mp e).1
theorem z_istore_n (C : zC l D Γ own nm cc nL ret tab) {i : Nat} {k : Fin 4} {x : Int32} (lv' : List (Nat × Value)) (d : decode cc pc = .ok (.istore_n k, 1)) (hi : (k : Nat) = i) (hn : i < nL) (hl : zst lv i (.int x) = lv') (kk : ZW l D Γ R (pc + 1) lv' st V kc ks) : ZW l D Γ R pc lv (.int x :: st) V kc ks := fun H locs ls ws h => lv_istore_n C.x C.b d hi (by have := h.2.2.2.2.2; rw [C.ml] at this; exact this) hn ((zst_eq h.2.1).trans hl) (fun ls' hl' => kk H locs ls' ws ⟨h.1, by rw [← hl]; exact zst_cat h.2.1 rfl, h.2.2.1, h.2.2.2.1, h.2.2.2.2.1, by rw [C.ml]; exact hl'⟩)
theorem z_istore (C : zC l D Γ own nm cc nL ret tab) {i : Nat} {x : Int32} (lv' : List (Nat × Value)) (d : decode cc pc = .ok (.istore i, 2)) (hn : i < nL) (hl : zst lv i (.int x) = lv') (kk : ZW l D Γ R (pc + 2) lv' st V kc ks) : ZW l D Γ R pc lv (.int x :: st) V kc ks := fun H locs ls ws h => lv_istore C.x C.b d (by have := h.2.2.2.2.2; rw [C.ml] at this; exact this) hn ((zst_eq h.2.1).trans hl) (fun ls' hl' => kk H locs ls' ws ⟨h.1, by rw [← hl]; exact zst_cat h.2.1 rfl, h.2.2.1, h.2.2.2.1, h.2.2.2.2.1, by rw [C.ml]; exact hl'⟩)
theorem z_astore_n (C : zC l D Γ own nm cc nL ret tab) {i : Nat} {k : Fin 4} {x : Nat} (lv' : List (Nat × Value)) (d : decode cc pc = .ok (.astore_n k, 1)) (hi : (k : Nat) = i) (hn : i < nL) (hl : zst lv i (.ref x) = lv') (kk : ZW l D Γ R (pc + 1) lv' st V kc ks) : ZW l D Γ R pc lv (.ref x :: st) V kc ks := fun H locs ls ws h => lv_astore_n C.x C.b d hi (by have := h.2.2.2.2.2; rw [C.ml] at this; exact this) hn ((zst_eq h.2.1).trans hl) (fun ls' hl' => kk H locs ls' ws ⟨h.1, by rw [← hl]; exact zst_cat h.2.1 rfl, h.2.2.1, h.2.2.2.1, h.2.2.2.2.1, by rw [C.ml]; exact hl'⟩)
theorem z_astore (C : zC l D Γ own nm cc nL ret tab) {i : Nat} {x : Nat} (lv' : List (Nat × Value)) (d : decode cc pc = .ok (.astore i, 2)) (hn : i < nL) (hl : zst lv i (.ref x) = lv') (kk : ZW l D Γ R (pc + 2) lv' st V kc ks) : ZW l D Γ R pc lv (.ref x :: st) V kc ks := fun H locs ls ws h => lv_astore C.x C.b d (by have := h.2.2.2.2.2; rw [C.ml] at this; exact this) hn ((zst_eq h.2.1).trans hl) (fun ls' hl' => kk H locs ls' ws ⟨h.1, by rw [← hl]; exact zst_cat h.2.1 rfl, h.2.2.1, h.2.2.2.1, h.2.2.2.2.1, by rw [C.ml]; exact hl'⟩)
theorem z_fstore_n (C : zC l D Γ own nm cc nL ret tab) {i : Nat} {k : Fin 4} {x : UInt32} (lv' : List (Nat × Value)) (d : decode cc pc = .ok (.fstore_n k, 1)) (hi : (k : Nat) = i) (hn : i < nL) (hl : zst lv i (.float x) = lv') (kk : ZW l D Γ R (pc + 1) lv' st V kc ks) : ZW l D Γ R pc lv (.float x :: st) V kc ks := fun H locs ls ws h => lv_fstore_n C.x C.b d hi (by have := h.2.2.2.2.2; rw [C.ml] at this; exact this) hn ((zst_eq h.2.1).trans hl) (fun ls' hl' => kk H locs ls' ws ⟨h.1, by rw [← hl]; exact zst_cat h.2.1 rfl, h.2.2.1, h.2.2.2.1, h.2.2.2.2.1, by rw [C.ml]; exact hl'⟩)
theorem z_fstore (C : zC l D Γ own nm cc nL ret tab) {i : Nat} {x : UInt32} (lv' : List (Nat × Value)) (d : decode cc pc = .ok (.fstore i, 2)) (hn : i < nL) (hl : zst lv i (.float x) = lv') (kk : ZW l D Γ R (pc + 2) lv' st V kc ks) : ZW l D Γ R pc lv (.float x :: st) V kc ks := fun H locs ls ws h => lv_fstore C.x C.b d (by have := h.2.2.2.2.2; rw [C.ml] at this; exact this) hn ((zst_eq h.2.1).trans hl) (fun ls' hl' => kk H locs ls' ws ⟨h.1, by rw [← hl]; exact zst_cat h.2.1 rfl, h.2.2.1, h.2.2.2.1, h.2.2.2.2.1, by rw [C.ml]; exact hl'⟩)
theorem z_astore_nQ (C : zC l D Γ own nm cc nL ret tab) {i : Nat} {k : Fin 4} {r : Option Nat} (lv' : List (Nat × Value)) (d : decode cc pc = .ok (.astore_n k, 1)) (hi : (k : Nat) = i) (hn : i < nL) (hl : zst lv i (va_rf r) = lv') (kk : ZW l D Γ R (pc + 1) lv' st V kc ks) : ZW l D Γ R pc lv (va_rf r :: st) V kc ks := fun H locs ls ws h => by
  have h9 := h.2.2.2.2.2
  rw [C.ml] at h9
  cases r with
  | none => exact lv_astore_nN C.x C.b d hi h9 hn ((zst_eq h.2.1).trans hl) (fun ls' hl' => kk H locs ls' ws ⟨h.1, by rw [← hl]; exact zst_cat h.2.1 rfl, h.2.2.1, h.2.2.2.1, h.2.2.2.2.1, by rw [C.ml]; exact hl'⟩)
  | some x => exact lv_astore_n C.x C.b d hi h9 hn ((zst_eq h.2.1).trans hl) (fun ls' hl' => kk H locs ls' ws ⟨h.1, by rw [← hl]; exact zst_cat h.2.1 rfl, h.2.2.1, h.2.2.2.1, h.2.2.2.2.1, by rw [C.ml]; exact hl'⟩)
theorem z_astoreQ (C : zC l D Γ own nm cc nL ret tab) {i : Nat} {r : Option Nat} (lv' : List (Nat × Value)) (d : decode cc pc = .ok (.astore i, 2)) (hn : i < nL) (hl : zst lv i (va_rf r) = lv') (kk : ZW l D Γ R (pc + 2) lv' st V kc ks) : ZW l D Γ R pc lv (va_rf r :: st) V kc ks := fun H locs ls ws h => by
  have h9 := h.2.2.2.2.2
  rw [C.ml] at h9
  cases r with
  | none => exact lv_astoreN C.x C.b d h9 hn ((zst_eq h.2.1).trans hl) (fun ls' hl' => kk H locs ls' ws ⟨h.1, by rw [← hl]; exact zst_cat h.2.1 rfl, h.2.2.1, h.2.2.2.1, h.2.2.2.2.1, by rw [C.ml]; exact hl'⟩)
  | some x => exact lv_astore C.x C.b d h9 hn ((zst_eq h.2.1).trans hl) (fun ls' hl' => kk H locs ls' ws ⟨h.1, by rw [← hl]; exact zst_cat h.2.1 rfl, h.2.2.1, h.2.2.2.1, h.2.2.2.2.1, by rw [C.ml]; exact hl'⟩)
theorem z_iinc (C : zC l D Γ own nm cc nL ret tab) (j : Nat) {i : Nat} {n : Int} {x v : Int32} (lv' : List (Nat × Value)) (hj : lv[j]? = some (i, .int x)) (d : decode cc pc = .ok (.iinc i n, 3)) (hv : x + Int32.ofInt n = v) (hn : i < nL) (hl : zst lv i (.int v) = lv') (kk : ZW l D Γ R (pc + 3) lv' st V kc ks) : ZW l D Γ R pc lv st V kc ks := fun H locs ls ws h => lv_iinc C.x C.b d (by have := h.2.2.2.2.2; rw [C.ml] at this; exact this) hj hv hn ((zst_eq h.2.1).trans hl) (fun ls' hl' => kk H locs ls' ws ⟨h.1, by rw [← hl]; exact zst_cat h.2.1 rfl, h.2.2.1, h.2.2.2.1, h.2.2.2.2.1, by rw [C.ml]; exact hl'⟩)
theorem z_iconst (C : zC l D Γ own nm cc nL ret tab) {n : Int} {v : Int32} (d : decode cc pc = .ok (.iconst n, 1)) (hv : Int32.ofInt n = v) (kk : ZW l D Γ R (pc + 1) lv (.int v :: st) V kc ks) : ZW l D Γ R pc lv st V kc ks := fun H locs ls ws h => lv_iconst C.x C.b d hv (kk H locs ls ws h)
theorem z_bipush (C : zC l D Γ own nm cc nL ret tab) {n : Int} {v : Int32} (d : decode cc pc = .ok (.bipush n, 2)) (hv : (Int8.ofInt n).toInt32 = v) (kk : ZW l D Γ R (pc + 2) lv (.int v :: st) V kc ks) : ZW l D Γ R pc lv st V kc ks := fun H locs ls ws h => lv_bipush C.x C.b d hv (kk H locs ls ws h)
theorem z_sipush (C : zC l D Γ own nm cc nL ret tab) {n : Int} {v : Int32} (d : decode cc pc = .ok (.sipush n, 3)) (hv : (Int16.ofInt n).toInt32 = v) (kk : ZW l D Γ R (pc + 3) lv (.int v :: st) V kc ks) : ZW l D Γ R pc lv st V kc ks := fun H locs ls ws h => lv_sipush C.x C.b d hv (kk H locs ls ws h)
theorem z_null (C : zC l D Γ own nm cc nL ret tab) (d : decode cc pc = .ok (.aconst_null, 1)) (kk : ZW l D Γ R (pc + 1) lv (.null :: st) V kc ks) : ZW l D Γ R pc lv st V kc ks := fun H locs ls ws h => lv_null C.x C.b d (kk H locs ls ws h)
theorem z_ldc (C : zC l D Γ own nm cc nL ret tab) {index : Nat} {v : Int32} (hq : Cond.constant own index v ∈ lw_all) (d : decode cc pc = .ok (.ldc index, 2)) (kk : ZW l D Γ R (pc + 2) lv (.int v :: st) V kc ks) : ZW l D Γ R pc lv st V kc ks := fun H locs ls ws h => lv_ldc C.x C.b C.ow (C.ts _ hq) d (kk H locs ls ws h)
theorem z_iadd (C : zC l D Γ own nm cc nL ret tab) {x y : Int32} (d : decode cc pc = .ok (.iadd, 1)) (kk : ZW l D Γ R (pc + 1) lv (.int (x + y) :: st) V kc ks) : ZW l D Γ R pc lv (.int y :: .int x :: st) V kc ks := fun H locs ls ws h => lv_iadd C.x C.b d (kk H locs ls ws h)
theorem z_isub (C : zC l D Γ own nm cc nL ret tab) {x y : Int32} (d : decode cc pc = .ok (.isub, 1)) (kk : ZW l D Γ R (pc + 1) lv (.int (x - y) :: st) V kc ks) : ZW l D Γ R pc lv (.int y :: .int x :: st) V kc ks := fun H locs ls ws h => lv_isub C.x C.b d (kk H locs ls ws h)
theorem z_imul (C : zC l D Γ own nm cc nL ret tab) {x y : Int32} (d : decode cc pc = .ok (.imul, 1)) (kk : ZW l D Γ R (pc + 1) lv (.int (x * y) :: st) V kc ks) : ZW l D Γ R pc lv (.int y :: .int x :: st) V kc ks := fun H locs ls ws h => lv_imul C.x C.b d (kk H locs ls ws h)
theorem z_iand (C : zC l D Γ own nm cc nL ret tab) {x y : Int32} (d : decode cc pc = .ok (.iand, 1)) (kk : ZW l D Γ R (pc + 1) lv (.int (x &&& y) :: st) V kc ks) : ZW l D Γ R pc lv (.int y :: .int x :: st) V kc ks := fun H locs ls ws h => lv_iand C.x C.b d (kk H locs ls ws h)
theorem z_ishl (C : zC l D Γ own nm cc nL ret tab) {x y : Int32} (d : decode cc pc = .ok (.ishl, 1)) (kk : ZW l D Γ R (pc + 1) lv (.int (x <<< (y &&& 31)) :: st) V kc ks) : ZW l D Γ R pc lv (.int y :: .int x :: st) V kc ks := fun H locs ls ws h => lv_ishl C.x C.b d (kk H locs ls ws h)
theorem z_ishr (C : zC l D Γ own nm cc nL ret tab) {x y : Int32} (d : decode cc pc = .ok (.ishr, 1)) (kk : ZW l D Γ R (pc + 1) lv (.int (x >>> (y &&& 31)) :: st) V kc ks) : ZW l D Γ R pc lv (.int y :: .int x :: st) V kc ks := fun H locs ls ws h => lv_ishr C.x C.b d (kk H locs ls ws h)
theorem z_idiv (C : zC l D Γ own nm cc nL ret tab) {x y : Int32} (d : decode cc pc = .ok (.idiv, 1)) (hne : ¬ y = 0) (kk : ZW l D Γ R (pc + 1) lv (.int (x / y) :: st) V kc ks) : ZW l D Γ R pc lv (.int y :: .int x :: st) V kc ks := fun H locs ls ws h => lv_idiv C.x C.b d hne (kk H locs ls ws h)
theorem z_irem (C : zC l D Γ own nm cc nL ret tab) {x y : Int32} (d : decode cc pc = .ok (.irem, 1)) (hne : ¬ y = 0) (kk : ZW l D Γ R (pc + 1) lv (.int (x - x / y * y) :: st) V kc ks) : ZW l D Γ R pc lv (.int y :: .int x :: st) V kc ks := fun H locs ls ws h => lv_irem C.x C.b d hne (kk H locs ls ws h)
theorem z_iushr (C : zC l D Γ own nm cc nL ret tab) {x y v : Int32} (d : decode cc pc = .ok (.iushr, 1)) (hv : (x.toUInt32 >>> (y.toUInt32 &&& Int32.toUInt32 31)).toInt32 = v) (kk : ZW l D Γ R (pc + 1) lv (.int v :: st) V kc ks) : ZW l D Γ R pc lv (.int y :: .int x :: st) V kc ks := fun H locs ls ws h => lv_iushr C.x C.b d hv (kk H locs ls ws h)
theorem z_ladd (C : zC l D Γ own nm cc nL ret tab) {x y : Int64} (d : decode cc pc = .ok (.ladd, 1)) (kk : ZW l D Γ R (pc + 1) lv (.long (x + y) :: st) V kc ks) : ZW l D Γ R pc lv (.long y :: .long x :: st) V kc ks := fun H locs ls ws h => lv_ladd C.x C.b d (kk H locs ls ws h)
theorem z_i2l (C : zC l D Γ own nm cc nL ret tab) {x : Int32} {v : Int64} (d : decode cc pc = .ok (.i2l, 1)) (hv : x.toInt64 = v) (kk : ZW l D Γ R (pc + 1) lv (.long v :: st) V kc ks) : ZW l D Γ R pc lv (.int x :: st) V kc ks := fun H locs ls ws h => lv_i2l C.x C.b d hv (kk H locs ls ws h)
theorem z_i2c (C : zC l D Γ own nm cc nL ret tab) {x v : Int32} (d : decode cc pc = .ok (.i2c, 1)) (hv : (x.toUInt32 % 65536).toInt32 = v) (kk : ZW l D Γ R (pc + 1) lv (.int v :: st) V kc ks) : ZW l D Γ R pc lv (.int x :: st) V kc ks := fun H locs ls ws h => lv_i2c C.x C.b d hv (kk H locs ls ws h)
theorem z_dup (C : zC l D Γ own nm cc nL ret tab) {v : Value} (d : decode cc pc = .ok (.dup, 1)) (hv : v.category = 1) (kk : ZW l D Γ R (pc + 1) lv (v :: v :: st) V kc ks) : ZW l D Γ R pc lv (v :: st) V kc ks := fun H locs ls ws h => lv_dup C.x C.b d hv (kk H locs ls ws h)
theorem z_pop (C : zC l D Γ own nm cc nL ret tab) {v : Value} (d : decode cc pc = .ok (.pop, 1)) (hv : v.category = 1) (kk : ZW l D Γ R (pc + 1) lv st V kc ks) : ZW l D Γ R pc lv (v :: st) V kc ks := fun H locs ls ws h => lv_pop C.x C.b d hv (kk H locs ls ws h)
theorem z_dup_x1 (C : zC l D Γ own nm cc nL ret tab) {v u : Value} (d : decode cc pc = .ok (.dup_x1, 1)) (hv : v.category = 1) (hu : u.category = 1) (kk : ZW l D Γ R (pc + 1) lv (v :: u :: v :: st) V kc ks) : ZW l D Γ R pc lv (v :: u :: st) V kc ks := fun H locs ls ws h => lv_dup_x1 C.x C.b d hv hu (kk H locs ls ws h)
theorem z_dup2 (C : zC l D Γ own nm cc nL ret tab) {v u : Value} (d : decode cc pc = .ok (.dup2, 1)) (hv : v.category = 1) (hu : u.category = 1) (kk : ZW l D Γ R (pc + 1) lv (v :: u :: v :: u :: st) V kc ks) : ZW l D Γ R pc lv (v :: u :: st) V kc ks := fun H locs ls ws h => lv_dup2_11 C.x C.b d hv hu (kk H locs ls ws h)
theorem z_goto (C : zC l D Γ own nm cc nL ret tab) {off : Int} (tgt : Nat) (d : decode cc pc = .ok (.goto off, 3)) (ht : (pc : Int) + off = (tgt : Int)) (kk : ZW l D Γ R tgt lv st V kc ks) : ZW l D Γ R pc lv st V kc ks := fun H locs ls ws h => lv_goto C.x C.b d ht (kk H locs ls ws h)
theorem z_fconst0 (C : zC l D Γ own nm cc nL ret tab) (d : decode cc pc = .ok (.fconst 0, 1)) (kk : ZW l D Γ R (pc + 1) lv (.float FP.fconst0 :: st) V kc ks) : ZW l D Γ R pc lv st V kc ks := fun H locs ls ws h => lv_fconst0 C.x C.b d (kk H locs ls ws h)
theorem z_fdiv (C : zC l D Γ own nm cc nL ret tab) {x y : UInt32} (d : decode cc pc = .ok (.fdiv, 1)) (hne : vf_n32 (FP.fdiv x y)) (kk : ZW l D Γ R (pc + 1) lv (.float (FP.fdiv x y) :: st) V kc ks) : ZW l D Γ R pc lv (.float y :: .float x :: st) V kc ks := fun H locs ls ws h => lv_fdiv C.x C.b d hne (kk H locs ls ws h)
theorem z_i2f (C : zC l D Γ own nm cc nL ret tab) {x : Int32} (d : decode cc pc = .ok (.i2f, 1)) (kk : ZW l D Γ R (pc + 1) lv (.float (FP.i2f x) :: st) V kc ks) : ZW l D Γ R pc lv (.int x :: st) V kc ks := fun H locs ls ws h => lv_i2f C.x C.b d (kk H locs ls ws h)
theorem z_f2d (C : zC l D Γ own nm cc nL ret tab) {x : UInt32} (d : decode cc pc = .ok (.f2d, 1)) (hne : vf_n64 (FP.f2d x)) (kk : ZW l D Γ R (pc + 1) lv (.double (FP.f2d x) :: st) V kc ks) : ZW l D Γ R pc lv (.float x :: st) V kc ks := fun H locs ls ws h => lv_f2d C.x C.b d hne (kk H locs ls ws h)
theorem z_fcmp (C : zC l D Γ own nm cc nL ret tab) {x y : UInt32} {op : CmpOp} (d : decode cc pc = .ok (.fcmp op, 1)) (kk : ZW l D Γ R (pc + 1) lv (.int (Op.cmpValue (FP.fcmp x y) op) :: st) V kc ks) : ZW l D Γ R pc lv (.float y :: .float x :: st) V kc ks := fun H locs ls ws h => lv_fcmp C.x C.b d (kk H locs ls ws h)
theorem z_dcmp (C : zC l D Γ own nm cc nL ret tab) {x y : UInt64} {op : CmpOp} (d : decode cc pc = .ok (.dcmp op, 1)) (kk : ZW l D Γ R (pc + 1) lv (.int (Op.cmpValue (FP.dcmp x y) op) :: st) V kc ks) : ZW l D Γ R pc lv (.double y :: .double x :: st) V kc ks := fun H locs ls ws h => lv_dcmp C.x C.b d (kk H locs ls ws h)
theorem z_lcmp (C : zC l D Γ own nm cc nL ret tab) {x y : Int64} (d : decode cc pc = .ok (.lcmp, 1)) (kk : ZW l D Γ R (pc + 1) lv (.int (lg_cmp x y) :: st) V kc ks) : ZW l D Γ R pc lv (.long y :: .long x :: st) V kc ks := fun H locs ls ws h => W.lcmp C.x C.b d (kk H locs ls ws h)
theorem z_if_eq (C : zC l D Γ own nm cc nL ret tab) {x : Int32} {off : Int} (tgt : Nat) (d : decode cc pc = .ok (.ifCond .eq off, 3)) (ht : (pc : Int) + off = (tgt : Int)) (kt : x = 0 → ZW l D Γ R tgt lv st V kc ks) (kf : ¬ x = 0 → ZW l D Γ R (pc + 3) lv st V kc ks) : ZW l D Γ R pc lv (.int x :: st) V kc ks := fun H locs ls ws h => lv_if_eq C.x C.b d ht (fun q => kt q H locs ls ws h) (fun q => kf q H locs ls ws h)
theorem z_icmp_eq (C : zC l D Γ own nm cc nL ret tab) {x y : Int32} {off : Int} (tgt : Nat) (d : decode cc pc = .ok (.if_icmp .eq off, 3)) (ht : (pc : Int) + off = (tgt : Int)) (kt : x = y → ZW l D Γ R tgt lv st V kc ks) (kf : ¬ x = y → ZW l D Γ R (pc + 3) lv st V kc ks) : ZW l D Γ R pc lv (.int y :: .int x :: st) V kc ks := fun H locs ls ws h => lv_icmp_eq C.x C.b d ht (fun q => kt q H locs ls ws h) (fun q => kf q H locs ls ws h)
theorem z_if_ne (C : zC l D Γ own nm cc nL ret tab) {x : Int32} {off : Int} (tgt : Nat) (d : decode cc pc = .ok (.ifCond .ne off, 3)) (ht : (pc : Int) + off = (tgt : Int)) (kt : ¬ x = 0 → ZW l D Γ R tgt lv st V kc ks) (kf : x = 0 → ZW l D Γ R (pc + 3) lv st V kc ks) : ZW l D Γ R pc lv (.int x :: st) V kc ks := fun H locs ls ws h => lv_if_ne C.x C.b d ht (fun q => kt q H locs ls ws h) (fun q => kf q H locs ls ws h)
theorem z_icmp_ne (C : zC l D Γ own nm cc nL ret tab) {x y : Int32} {off : Int} (tgt : Nat) (d : decode cc pc = .ok (.if_icmp .ne off, 3)) (ht : (pc : Int) + off = (tgt : Int)) (kt : ¬ x = y → ZW l D Γ R tgt lv st V kc ks) (kf : x = y → ZW l D Γ R (pc + 3) lv st V kc ks) : ZW l D Γ R pc lv (.int y :: .int x :: st) V kc ks := fun H locs ls ws h => lv_icmp_ne C.x C.b d ht (fun q => kt q H locs ls ws h) (fun q => kf q H locs ls ws h)
theorem z_if_lt (C : zC l D Γ own nm cc nL ret tab) {x : Int32} {off : Int} (tgt : Nat) (d : decode cc pc = .ok (.ifCond .lt off, 3)) (ht : (pc : Int) + off = (tgt : Int)) (kt : x < 0 → ZW l D Γ R tgt lv st V kc ks) (kf : ¬ x < 0 → ZW l D Γ R (pc + 3) lv st V kc ks) : ZW l D Γ R pc lv (.int x :: st) V kc ks := fun H locs ls ws h => lv_if_lt C.x C.b d ht (fun q => kt q H locs ls ws h) (fun q => kf q H locs ls ws h)
theorem z_icmp_lt (C : zC l D Γ own nm cc nL ret tab) {x y : Int32} {off : Int} (tgt : Nat) (d : decode cc pc = .ok (.if_icmp .lt off, 3)) (ht : (pc : Int) + off = (tgt : Int)) (kt : x < y → ZW l D Γ R tgt lv st V kc ks) (kf : ¬ x < y → ZW l D Γ R (pc + 3) lv st V kc ks) : ZW l D Γ R pc lv (.int y :: .int x :: st) V kc ks := fun H locs ls ws h => lv_icmp_lt C.x C.b d ht (fun q => kt q H locs ls ws h) (fun q => kf q H locs ls ws h)
theorem z_if_ge (C : zC l D Γ own nm cc nL ret tab) {x : Int32} {off : Int} (tgt : Nat) (d : decode cc pc = .ok (.ifCond .ge off, 3)) (ht : (pc : Int) + off = (tgt : Int)) (kt : 0 ≤ x → ZW l D Γ R tgt lv st V kc ks) (kf : ¬ 0 ≤ x → ZW l D Γ R (pc + 3) lv st V kc ks) : ZW l D Γ R pc lv (.int x :: st) V kc ks := fun H locs ls ws h => lv_if_ge C.x C.b d ht (fun q => kt q H locs ls ws h) (fun q => kf q H locs ls ws h)
theorem z_icmp_ge (C : zC l D Γ own nm cc nL ret tab) {x y : Int32} {off : Int} (tgt : Nat) (d : decode cc pc = .ok (.if_icmp .ge off, 3)) (ht : (pc : Int) + off = (tgt : Int)) (kt : y ≤ x → ZW l D Γ R tgt lv st V kc ks) (kf : ¬ y ≤ x → ZW l D Γ R (pc + 3) lv st V kc ks) : ZW l D Γ R pc lv (.int y :: .int x :: st) V kc ks := fun H locs ls ws h => lv_icmp_ge C.x C.b d ht (fun q => kt q H locs ls ws h) (fun q => kf q H locs ls ws h)
theorem z_if_gt (C : zC l D Γ own nm cc nL ret tab) {x : Int32} {off : Int} (tgt : Nat) (d : decode cc pc = .ok (.ifCond .gt off, 3)) (ht : (pc : Int) + off = (tgt : Int)) (kt : 0 < x → ZW l D Γ R tgt lv st V kc ks) (kf : ¬ 0 < x → ZW l D Γ R (pc + 3) lv st V kc ks) : ZW l D Γ R pc lv (.int x :: st) V kc ks := fun H locs ls ws h => lv_if_gt C.x C.b d ht (fun q => kt q H locs ls ws h) (fun q => kf q H locs ls ws h)
theorem z_icmp_gt (C : zC l D Γ own nm cc nL ret tab) {x y : Int32} {off : Int} (tgt : Nat) (d : decode cc pc = .ok (.if_icmp .gt off, 3)) (ht : (pc : Int) + off = (tgt : Int)) (kt : y < x → ZW l D Γ R tgt lv st V kc ks) (kf : ¬ y < x → ZW l D Γ R (pc + 3) lv st V kc ks) : ZW l D Γ R pc lv (.int y :: .int x :: st) V kc ks := fun H locs ls ws h => lv_icmp_gt C.x C.b d ht (fun q => kt q H locs ls ws h) (fun q => kf q H locs ls ws h)
theorem z_if_le (C : zC l D Γ own nm cc nL ret tab) {x : Int32} {off : Int} (tgt : Nat) (d : decode cc pc = .ok (.ifCond .le off, 3)) (ht : (pc : Int) + off = (tgt : Int)) (kt : x ≤ 0 → ZW l D Γ R tgt lv st V kc ks) (kf : ¬ x ≤ 0 → ZW l D Γ R (pc + 3) lv st V kc ks) : ZW l D Γ R pc lv (.int x :: st) V kc ks := fun H locs ls ws h => lv_if_le C.x C.b d ht (fun q => kt q H locs ls ws h) (fun q => kf q H locs ls ws h)
theorem z_icmp_le (C : zC l D Γ own nm cc nL ret tab) {x y : Int32} {off : Int} (tgt : Nat) (d : decode cc pc = .ok (.if_icmp .le off, 3)) (ht : (pc : Int) + off = (tgt : Int)) (kt : x ≤ y → ZW l D Γ R tgt lv st V kc ks) (kf : ¬ x ≤ y → ZW l D Γ R (pc + 3) lv st V kc ks) : ZW l D Γ R pc lv (.int y :: .int x :: st) V kc ks := fun H locs ls ws h => lv_icmp_le C.x C.b d ht (fun q => kt q H locs ls ws h) (fun q => kf q H locs ls ws h)
theorem z_icmp_eqN (C : zC l D Γ own nm cc nL ret tab) {a b : Nat} {off : Int} (tgt : Nat) (ha : a < 2 ^ 31) (hb : b < 2 ^ 31) (d : decode cc pc = .ok (.if_icmp .eq off, 3)) (ht : (pc : Int) + off = (tgt : Int)) (kt : a = b → ZW l D Γ R tgt lv st V kc ks) (kf : a ≠ b → ZW l D Γ R (pc + 3) lv st V kc ks) : ZW l D Γ R pc lv (.int (nI b) :: .int (nI a) :: st) V kc ks := z_icmp_eq C tgt d ht (fun q => kt ((nI_eq ha hb).mp q)) (fun q => kf (fun z => q ((nI_eq ha hb).mpr z)))
theorem z_icmp_neN (C : zC l D Γ own nm cc nL ret tab) {a b : Nat} {off : Int} (tgt : Nat) (ha : a < 2 ^ 31) (hb : b < 2 ^ 31) (d : decode cc pc = .ok (.if_icmp .ne off, 3)) (ht : (pc : Int) + off = (tgt : Int)) (kt : a ≠ b → ZW l D Γ R tgt lv st V kc ks) (kf : a = b → ZW l D Γ R (pc + 3) lv st V kc ks) : ZW l D Γ R pc lv (.int (nI b) :: .int (nI a) :: st) V kc ks := z_icmp_ne C tgt d ht (fun q => kt (fun z => q ((nI_eq ha hb).mpr z))) (fun q => kf ((nI_eq ha hb).mp q))
theorem z_icmp_ltN (C : zC l D Γ own nm cc nL ret tab) {a b : Nat} {off : Int} (tgt : Nat) (ha : a < 2 ^ 31) (hb : b < 2 ^ 31) (d : decode cc pc = .ok (.if_icmp .lt off, 3)) (ht : (pc : Int) + off = (tgt : Int)) (kt : a < b → ZW l D Γ R tgt lv st V kc ks) (kf : b ≤ a → ZW l D Γ R (pc + 3) lv st V kc ks) : ZW l D Γ R pc lv (.int (nI b) :: .int (nI a) :: st) V kc ks := z_icmp_lt C tgt d ht (fun q => kt ((nI_ltI ha hb).mp q)) (fun q => kf (Nat.not_lt.mp fun z => q ((nI_ltI ha hb).mpr z)))
theorem z_icmp_geN (C : zC l D Γ own nm cc nL ret tab) {a b : Nat} {off : Int} (tgt : Nat) (ha : a < 2 ^ 31) (hb : b < 2 ^ 31) (d : decode cc pc = .ok (.if_icmp .ge off, 3)) (ht : (pc : Int) + off = (tgt : Int)) (kt : b ≤ a → ZW l D Γ R tgt lv st V kc ks) (kf : a < b → ZW l D Γ R (pc + 3) lv st V kc ks) : ZW l D Γ R pc lv (.int (nI b) :: .int (nI a) :: st) V kc ks := z_icmp_ge C tgt d ht (fun q => kt ((nI_leI hb ha).mp q)) (fun q => kf (Nat.not_le.mp fun z => q ((nI_leI hb ha).mpr z)))
theorem z_icmp_gtN (C : zC l D Γ own nm cc nL ret tab) {a b : Nat} {off : Int} (tgt : Nat) (ha : a < 2 ^ 31) (hb : b < 2 ^ 31) (d : decode cc pc = .ok (.if_icmp .gt off, 3)) (ht : (pc : Int) + off = (tgt : Int)) (kt : b < a → ZW l D Γ R tgt lv st V kc ks) (kf : a ≤ b → ZW l D Γ R (pc + 3) lv st V kc ks) : ZW l D Γ R pc lv (.int (nI b) :: .int (nI a) :: st) V kc ks := z_icmp_gt C tgt d ht (fun q => kt ((nI_ltI hb ha).mp q)) (fun q => kf (Nat.not_lt.mp fun z => q ((nI_ltI hb ha).mpr z)))
theorem z_icmp_leN (C : zC l D Γ own nm cc nL ret tab) {a b : Nat} {off : Int} (tgt : Nat) (ha : a < 2 ^ 31) (hb : b < 2 ^ 31) (d : decode cc pc = .ok (.if_icmp .le off, 3)) (ht : (pc : Int) + off = (tgt : Int)) (kt : a ≤ b → ZW l D Γ R tgt lv st V kc ks) (kf : b < a → ZW l D Γ R (pc + 3) lv st V kc ks) : ZW l D Γ R pc lv (.int (nI b) :: .int (nI a) :: st) V kc ks := z_icmp_le C tgt d ht (fun q => kt ((nI_leI ha hb).mp q)) (fun q => kf (Nat.not_le.mp fun z => q ((nI_leI ha hb).mpr z)))
theorem z_n0 {a : Nat} (ha : a < 2 ^ 31) : (nI a = 0 ↔ a = 0) ∧ (nI a < 0 ↔ False) ∧ (0 < nI a ↔ 0 < a) ∧ (nI a ≤ 0 ↔ a = 0) ∧ (0 ≤ nI a ↔ True) := by
  have h0 : (0 : Int32) = nI 0 := rfl
  rw [h0, nI_eq ha (by decide), nI_ltI ha (by decide), nI_ltI (by decide) ha, nI_leI ha (by decide), nI_leI (by decide) ha]
  refine ⟨Iff.rfl, ?_, Iff.rfl, ?_, ?_⟩
  · simp
  · omega
  · simp
theorem z_if_eqN (C : zC l D Γ own nm cc nL ret tab) {a : Nat} {off : Int} (tgt : Nat) (ha : a < 2 ^ 31) (d : decode cc pc = .ok (.ifCond .eq off, 3)) (ht : (pc : Int) + off = (tgt : Int)) (kt : a = 0 → ZW l D Γ R tgt lv st V kc ks) (kf : 0 < a → ZW l D Γ R (pc + 3) lv st V kc ks) : ZW l D Γ R pc lv (.int (nI a) :: st) V kc ks := z_if_eq C tgt d ht (fun q => kt ((z_n0 ha).1.mp q)) (fun q => kf (Nat.pos_of_ne_zero fun z => q ((z_n0 ha).1.mpr z)))
theorem z_if_neN (C : zC l D Γ own nm cc nL ret tab) {a : Nat} {off : Int} (tgt : Nat) (ha : a < 2 ^ 31) (d : decode cc pc = .ok (.ifCond .ne off, 3)) (ht : (pc : Int) + off = (tgt : Int)) (kt : 0 < a → ZW l D Γ R tgt lv st V kc ks) (kf : a = 0 → ZW l D Γ R (pc + 3) lv st V kc ks) : ZW l D Γ R pc lv (.int (nI a) :: st) V kc ks := z_if_ne C tgt d ht (fun q => kt (Nat.pos_of_ne_zero fun z => q ((z_n0 ha).1.mpr z))) (fun q => kf ((z_n0 ha).1.mp q))
theorem z_if_ltN (C : zC l D Γ own nm cc nL ret tab) {a : Nat} {off : Int} (tgt : Nat) (ha : a < 2 ^ 31) (d : decode cc pc = .ok (.ifCond .lt off, 3)) (ht : (pc : Int) + off = (tgt : Int)) (kt : False → ZW l D Γ R tgt lv st V kc ks) (kf : True → ZW l D Γ R (pc + 3) lv st V kc ks) : ZW l D Γ R pc lv (.int (nI a) :: st) V kc ks := z_if_lt C tgt d ht (fun q => kt ((z_n0 ha).2.1.mp q)) (fun q => kf (trivial))
theorem z_if_geN (C : zC l D Γ own nm cc nL ret tab) {a : Nat} {off : Int} (tgt : Nat) (ha : a < 2 ^ 31) (d : decode cc pc = .ok (.ifCond .ge off, 3)) (ht : (pc : Int) + off = (tgt : Int)) (kt : True → ZW l D Γ R tgt lv st V kc ks) (kf : False → ZW l D Γ R (pc + 3) lv st V kc ks) : ZW l D Γ R pc lv (.int (nI a) :: st) V kc ks := z_if_ge C tgt d ht (fun q => kt (trivial)) (fun q => kf (q ((z_n0 ha).2.2.2.2.mpr trivial)))
theorem z_if_gtN (C : zC l D Γ own nm cc nL ret tab) {a : Nat} {off : Int} (tgt : Nat) (ha : a < 2 ^ 31) (d : decode cc pc = .ok (.ifCond .gt off, 3)) (ht : (pc : Int) + off = (tgt : Int)) (kt : 0 < a → ZW l D Γ R tgt lv st V kc ks) (kf : a = 0 → ZW l D Γ R (pc + 3) lv st V kc ks) : ZW l D Γ R pc lv (.int (nI a) :: st) V kc ks := z_if_gt C tgt d ht (fun q => kt ((z_n0 ha).2.2.1.mp q)) (fun q => kf (Nat.eq_zero_of_not_pos fun z => q ((z_n0 ha).2.2.1.mpr z)))
theorem z_if_leN (C : zC l D Γ own nm cc nL ret tab) {a : Nat} {off : Int} (tgt : Nat) (ha : a < 2 ^ 31) (d : decode cc pc = .ok (.ifCond .le off, 3)) (ht : (pc : Int) + off = (tgt : Int)) (kt : a = 0 → ZW l D Γ R tgt lv st V kc ks) (kf : 0 < a → ZW l D Γ R (pc + 3) lv st V kc ks) : ZW l D Γ R pc lv (.int (nI a) :: st) V kc ks := z_if_le C tgt d ht (fun q => kt ((z_n0 ha).2.2.2.1.mp q)) (fun q => kf (Nat.pos_of_ne_zero fun z => q ((z_n0 ha).2.2.2.1.mpr z)))
/-- a truth value on the stack -/
def zb (b : Bool) : Int32 := if b then 1 else 0
theorem zb_0 {b : Bool} : zb b = 0 ↔ b = false := by cases b <;> simp [zb]
theorem zb_nar (b : Bool) : narrow .boolean (.int (zb b)) = .int (zb b) := by cases b <;> rfl
theorem zb_fit (b : Bool) : fits .boolean (.int (zb b)) = true := by cases b <;> rfl
theorem zb_not {b : Bool} (h : ¬ zb b = 0) : b = true := by cases b with
  | false => exact absurd rfl h
  | true => rfl
theorem z_if_eqB (C : zC l D Γ own nm cc nL ret tab) {b : Bool} {off : Int} (tgt : Nat) (d : decode cc pc = .ok (.ifCond .eq off, 3)) (ht : (pc : Int) + off = (tgt : Int)) (kt : b = false → ZW l D Γ R tgt lv st V kc ks) (kf : b = true → ZW l D Γ R (pc + 3) lv st V kc ks) : ZW l D Γ R pc lv (.int (zb b) :: st) V kc ks := z_if_eq C tgt d ht (fun q => kt (zb_0.mp q)) (fun q => kf (zb_not q))
theorem z_if_neB (C : zC l D Γ own nm cc nL ret tab) {b : Bool} {off : Int} (tgt : Nat) (d : decode cc pc = .ok (.ifCond .ne off, 3)) (ht : (pc : Int) + off = (tgt : Int)) (kt : b = true → ZW l D Γ R tgt lv st V kc ks) (kf : b = false → ZW l D Γ R (pc + 3) lv st V kc ks) : ZW l D Γ R pc lv (.int (zb b) :: st) V kc ks := z_if_ne C tgt d ht (fun q => kt (zb_not q)) (fun q => kf (zb_0.mp q))
theorem z_iaddN (C : zC l D Γ own nm cc nL ret tab) {a b : Nat} (d : decode cc pc = .ok (.iadd, 1)) (kk : ZW l D Γ R (pc + 1) lv (.int (nI (a + b)) :: st) V kc ks) : ZW l D Γ R pc lv (.int (nI b) :: .int (nI a) :: st) V kc ks := z_iadd C d (by rw [nI_add]; exact kk)
theorem z_isubN (C : zC l D Γ own nm cc nL ret tab) {a b : Nat} (hb : b ≤ a) (d : decode cc pc = .ok (.isub, 1)) (kk : ZW l D Γ R (pc + 1) lv (.int (nI (a - b)) :: st) V kc ks) : ZW l D Γ R pc lv (.int (nI b) :: .int (nI a) :: st) V kc ks := z_isub C d (by rw [pk_sub hb]; exact kk)
theorem z_imulN (C : zC l D Γ own nm cc nL ret tab) {a b : Nat} (d : decode cc pc = .ok (.imul, 1)) (kk : ZW l D Γ R (pc + 1) lv (.int (nI (a * b)) :: st) V kc ks) : ZW l D Γ R pc lv (.int (nI b) :: .int (nI a) :: st) V kc ks := z_imul C d (by rw [pk_mul]; exact kk)
theorem z_idivN (C : zC l D Γ own nm cc nL ret tab) {a b : Nat} (ha : a < 2 ^ 31) (h0 : 0 < b) (hb : b < 2 ^ 31) (d : decode cc pc = .ok (.idiv, 1)) (kk : ZW l D Γ R (pc + 1) lv (.int (nI (a / b)) :: st) V kc ks) : ZW l D Γ R pc lv (.int (nI b) :: .int (nI a) :: st) V kc ks := z_idiv C d (nI_ne0 h0 hb) (by rw [pk_div ha h0 hb]; exact kk)
theorem z_iremN (C : zC l D Γ own nm cc nL ret tab) {a b : Nat} (ha : a < 2 ^ 31) (h0 : 0 < b) (hb : b < 2 ^ 31) (d : decode cc pc = .ok (.irem, 1)) (kk : ZW l D Γ R (pc + 1) lv (.int (nI (a % b)) :: st) V kc ks) : ZW l D Γ R pc lv (.int (nI b) :: .int (nI a) :: st) V kc ks := z_irem C d (nI_ne0 h0 hb) (by rw [pk_rem ha h0 hb]; exact kk)
theorem z_iincN (C : zC l D Γ own nm cc nL ret tab) (j : Nat) {i a : Nat} {n : Int} (m : Nat) (lv' : List (Nat × Value)) (hj : lv[j]? = some (i, .int (nI a))) (d : decode cc pc = .ok (.iinc i n, 3)) (hm : Int32.ofInt n = nI m) (hn : i < nL) (hl : zst lv i (.int (nI (a + m))) = lv') (kk : ZW l D Γ R (pc + 3) lv' st V kc ks) : ZW l D Γ R pc lv st V kc ks := z_iinc C j lv' hj d (by rw [hm, nI_add]) hn hl kk
theorem z_top {u v : Value} (e : u = v) (kk : ZW l D Γ R pc lv (v :: st) V kc ks) : ZW l D Γ R pc lv (u :: st) V kc ks := e ▸ kk
theorem z_st {st' : List Value} (e : st = st') (kk : ZW l D Γ R pc lv st' V kc ks) : ZW l D Γ R pc lv st V kc ks := e ▸ kk
theorem z_lv {lv' : List (Nat × Value)} (e : lv = lv') (kk : ZW l D Γ R pc lv' st V kc ks) : ZW l D Γ R pc lv st V kc ks := e ▸ kk
theorem z_V {V' : ZV} (e : V = V') (kk : ZW l D Γ R pc lv st V' kc ks) : ZW l D Γ R pc lv st V kc ks := e ▸ kk
/-- fewer locals, in any order -/
theorem z_sub (lv' : List (Nat × Value)) (h : ∀ q ∈ lv', q ∈ lv) (kk : ZW l D Γ R pc lv' st V kc ks) : ZW l D Γ R pc lv st V kc ks := fun H locs ls ws h1 => kk H locs ls ws ⟨h1.1, fun q hq => h1.2.1 q (h q hq), h1.2.2.1, h1.2.2.2.1, h1.2.2.2.2.1, h1.2.2.2.2.2.1, h1.2.2.2.2.2.2.1, fun q hq => h1.2.2.2.2.2.2.2 q (h q hq)⟩
theorem z_pick {kt : Nat} (lv' : List (Nat × Value)) (ps : List Nat) (h : lv_pick lv ps = lv') (kk : ZW l D Γ R pc lv' st V kc kt) : ZW l D Γ R pc lv st V kc kt := z_sub lv' (fun q hq => by rw [← h] at hq; unfold lv_pick at hq; obtain ⟨i, -, hi⟩ := List.mem_filterMap.mp hq; exact List.mem_of_getElem? hi) kk
theorem z_wide (kc' ks' : Nat) (h1 : kc ≤ kc') (h2 : ks ≤ ks') (kk : ZW l D Γ R pc lv st V kc' ks') : ZW l D Γ R pc lv st V kc ks := fun H locs ls ws h => W.widen h1 h2 (kk H locs ls ws h)
/-- references: null, or an address -/
theorem z_ifnull_r (C : zC l D Γ own nm cc nL ret tab) {x : Nat} {off : Int} (d : decode cc pc = .ok (.ifnull off, 3)) (kk : ZW l D Γ R (pc + 3) lv st V kc ks) : ZW l D Γ R pc lv (.ref x :: st) V kc ks := fun H locs ls ws h => lv_ifnull C.x C.b d (kk H locs ls ws h)
theorem z_ifnull_n (C : zC l D Γ own nm cc nL ret tab) {off : Int} (tgt : Nat) (d : decode cc pc = .ok (.ifnull off, 3)) (ht : (pc : Int) + off = (tgt : Int)) (kk : ZW l D Γ R tgt lv st V kc ks) : ZW l D Γ R pc lv (.null :: st) V kc ks := fun H locs ls ws h => lv_ifnullN C.x C.b d ht (kk H locs ls ws h)
theorem z_ifnonnull_r (C : zC l D Γ own nm cc nL ret tab) {x : Nat} {off : Int} (tgt : Nat) (d : decode cc pc = .ok (.ifnonnull off, 3)) (ht : (pc : Int) + off = (tgt : Int)) (kk : ZW l D Γ R tgt lv st V kc ks) : ZW l D Γ R pc lv (.ref x :: st) V kc ks := fun H locs ls ws h => lv_ifnonnull C.x C.b d ht (kk H locs ls ws h)
theorem z_ifnonnull_n (C : zC l D Γ own nm cc nL ret tab) {off : Int} (d : decode cc pc = .ok (.ifnonnull off, 3)) (kk : ZW l D Γ R (pc + 3) lv st V kc ks) : ZW l D Γ R pc lv (.null :: st) V kc ks := fun H locs ls ws h => lv_ifnonnullN C.x C.b d (kk H locs ls ws h)
theorem z_ifnullQ (C : zC l D Γ own nm cc nL ret tab) {r : Option Nat} {off : Int} (tgt : Nat) (d : decode cc pc = .ok (.ifnull off, 3)) (ht : (pc : Int) + off = (tgt : Int)) (kn : r = none → ZW l D Γ R tgt lv st V kc ks) (ks9 : ∀ x, r = some x → ZW l D Γ R (pc + 3) lv st V kc ks) : ZW l D Γ R pc lv (va_rf r :: st) V kc ks := by
  cases r with
  | none => exact z_ifnull_n C tgt d ht (kn rfl)
  | some x => exact z_ifnull_r C d (ks9 x rfl)
theorem z_ifnonnullQ (C : zC l D Γ own nm cc nL ret tab) {r : Option Nat} {off : Int} (tgt : Nat) (d : decode cc pc = .ok (.ifnonnull off, 3)) (ht : (pc : Int) + off = (tgt : Int)) (ks9 : ∀ x, r = some x → ZW l D Γ R tgt lv st V kc ks) (kn : r = none → ZW l D Γ R (pc + 3) lv st V kc ks) : ZW l D Γ R pc lv (va_rf r :: st) V kc ks := by
  cases r with
  | none => exact z_ifnonnull_n C d (kn rfl)
  | some x => exact z_ifnonnull_r C tgt d ht (ks9 x rfl)
theorem z_acmp_eq (C : zC l D Γ own nm cc nL ret tab) (rx ry : Option Nat) {off : Int} (tgt : Nat) (d : decode cc pc = .ok (.if_acmp .eq off, 3)) (ht : (pc : Int) + off = (tgt : Int)) (kt : rx = ry → ZW l D Γ R tgt lv st V kc ks) (kf : ¬ rx = ry → ZW l D Γ R (pc + 3) lv st V kc ks) : ZW l D Γ R pc lv (va_rf ry :: va_rf rx :: st) V kc ks := fun H locs ls ws h => lv_acmp_eq C.x C.b d ht (fun q => kt q H locs ls ws h) (fun q => kf q H locs ls ws h)
theorem z_acmp_ne (C : zC l D Γ own nm cc nL ret tab) (rx ry : Option Nat) {off : Int} (tgt : Nat) (d : decode cc pc = .ok (.if_acmp .ne off, 3)) (ht : (pc : Int) + off = (tgt : Int)) (kt : ¬ rx = ry → ZW l D Γ R tgt lv st V kc ks) (kf : rx = ry → ZW l D Γ R (pc + 3) lv st V kc ks) : ZW l D Γ R pc lv (va_rf ry :: va_rf rx :: st) V kc ks := fun H locs ls ws h => lv_acmp_ne C.x C.b d ht (fun q => kt q H locs ls ws h) (fun q => kf q H locs ls ws h)
/-- a class of the list: its place, name, fields -/
def zCls (ci : Nat) (Cn : String) (T : u_T) (N : Nat) (ty : Nat → FieldType) : Prop := zcl[ci]? = some (Cn, T, N) ∧ (∀ w ∈ u_ws Cn T N, w ∈ lw_all) ∧ (∀ k, k < N → parseFieldDescriptor (T k).2.2.1 = some (ty k)) ∧ ∀ a, a < N → ∀ b, b < N → a ≠ b → (T a).2.1 ≠ (T b).2.1
theorem zk {H : Heap} {locs : List Loc} {ls : Array Slot} {ws : va_W} (h : zH D Γ V lv H locs ls ws) {a : Nat} {e : va_E} (hV : V a = some e) : ∃ k : Nat, ws[k]? = some (a, e) := (h.1 a e).mp hV
theorem z_get (C : zC l D Γ own nm cc nL ret tab) {ci : Nat} {Cn : String} {T : u_T} {N : Nat} {ty : Nat → FieldType} (K : zCls ci Cn T N ty) {a : Nat} {fs : List Value} (hV : V a = some (.inr (ci, fs))) (k : Nat) (hk : k < N) {v : Value} (hv : fs[k]? = some v) {index : Nat} (hq : Cond.fieldLink own index (T k).1 (T k).2.1 (T k).2.2.1 ∈ lw_all) (d : decode cc pc = .ok (.getfield index, 3)) (kk : ZW l D Γ R (pc + 3) lv (v :: st) V kc ks) : ZW l D Γ R pc lv (.ref a :: st) V kc ks := by
  intro H locs ls ws h
  obtain ⟨k0, hk0⟩ := zk h hV
  exact va_get C.x C.b C.ts K.2.1 C.ow C.K h.2.2.1 k0 hk0 K.1 k hk (C.ts _ hq) (fun _ z => z) hv d (kk H locs ls ws h)
theorem z_getN (C : zC l D Γ own nm cc nL ret tab) {ci : Nat} {Cn : String} {T : u_T} {N : Nat} {ty : Nat → FieldType} (K : zCls ci Cn T N ty) {a : Nat} {fs : List Value} (hV : V a = some (.inr (ci, fs))) (k : Nat) (hk : k < N) {v : Value} (hv : fs[k]? = some v) {index : Nat} {host : String} (hq : Cond.fieldLinkNest own index (T k).1 (T k).2.1 (T k).2.2.1 host ∈ lw_tbl) (d : decode cc pc = .ok (.getfield index, 3)) (kk : ZW l D Γ R (pc + 3) lv (v :: st) V kc ks) : ZW l D Γ R pc lv (.ref a :: st) V kc ks := by
  intro H locs ls ws h
  obtain ⟨k0, hk0⟩ := zk h hV
  exact va_getN C.x C.b C.ts K.2.1 C.ow C.K h.2.2.1 k0 hk0 K.1 k hk (va_Nw.use rfl (C.w hq rfl)) (fun _ z => z) hv d (kk H locs ls ws h)
theorem z_getS (C : zC l D Γ own nm cc nL ret tab) {ci : Nat} {Cn : String} {T : u_T} {N : Nat} {ty : Nat → FieldType} (K : zCls ci Cn T N ty) {a : Nat} {fs : List Value} (hV : V a = some (.inr (ci, fs))) (k : Nat) (hk : k < N) {v : Value} (hv : fs[k]? = some v) {index : Nat} {ref : String} (hq : Cond.fieldLink own index ref (T k).2.1 (T k).2.2.1 ∈ lw_all) (hs : Cond.sameField ref (T k).1 (T k).2.1 (T k).2.2.1 ∈ lw_all) (d : decode cc pc = .ok (.getfield index, 3)) (kk : ZW l D Γ R (pc + 3) lv (v :: st) V kc ks) : ZW l D Γ R pc lv (.ref a :: st) V kc ks := by
  intro H locs ls ws h
  obtain ⟨k0, hk0⟩ := zk h hV
  exact va_get C.x C.b C.ts K.2.1 C.ow C.K h.2.2.1 k0 hk0 K.1 k hk (C.ts _ hq) (u_same (C.ts _ hs)) hv d (kk H locs ls ws h)
theorem z_put (C : zC l D Γ own nm cc nL ret tab) {ci : Nat} {Cn : String} {T : u_T} {N : Nat} {ty : Nat → FieldType} (K : zCls ci Cn T N ty) {a : Nat} {fs : List Value} (hV : V a = some (.inr (ci, fs))) (k : Nat) (hk : k < N) {v : Value} (fs' : List Value) (hfs : fs.set k v = fs') (hl : k < fs.length) (hn : narrow (ty k) v = v) (hfit : fits (ty k) v = true) (hfin : (T k).2.2.2 = false) {index : Nat} (hq : Cond.fieldLink own index (T k).1 (T k).2.1 (T k).2.2.1 ∈ lw_all) (d : decode cc pc = .ok (.putfield index, 3)) (kk : ZW l D Γ R (pc + 3) lv st (va_up V a (some (.inr (ci, fs')))) kc ks) : ZW l D Γ R pc lv (v :: .ref a :: st) V kc ks := by
  subst hfs
  intro H locs ls ws h
  obtain ⟨k0, hk0⟩ := zk h hV
  exact va_put C.x C.b C.ts K.2.1 ty K.2.2.1 K.2.2.2 C.ow C.K h.2.2.1 h.2.2.2.1 h.2.2.2.2.1 k0 hk0 K.1 k hk (C.ts _ hq) (fun _ z => z) hfin (K.2.2.1 k hk) hn hfit hl d (fun H1 locs1 hP hD hS => kk H1 locs1 ls _ ⟨h.1.set h.2.2.2.1 hk0, h.2.1, hP, hD, hS, h.2.2.2.2.2⟩)
theorem z_putN (C : zC l D Γ own nm cc nL ret tab) {ci : Nat} {Cn : String} {T : u_T} {N : Nat} {ty : Nat → FieldType} (K : zCls ci Cn T N ty) {a : Nat} {fs : List Value} (hV : V a = some (.inr (ci, fs))) (k : Nat) (hk : k < N) {v : Value} (fs' : List Value) (hfs : fs.set k v = fs') (hl : k < fs.length) (hn : narrow (ty k) v = v) (hfit : fits (ty k) v = true) (hfin : (T k).2.2.2 = false) {index : Nat} {host : String} (hq : Cond.fieldLinkNest own index (T k).1 (T k).2.1 (T k).2.2.1 host ∈ lw_tbl) (d : decode cc pc = .ok (.putfield index, 3)) (kk : ZW l D Γ R (pc + 3) lv st (va_up V a (some (.inr (ci, fs')))) kc ks) : ZW l D Γ R pc lv (v :: .ref a :: st) V kc ks := by
  subst hfs
  intro H locs ls ws h
  obtain ⟨k0, hk0⟩ := zk h hV
  exact va_putN C.x C.b C.ts K.2.1 ty K.2.2.1 K.2.2.2 C.ow C.K h.2.2.1 h.2.2.2.1 h.2.2.2.2.1 k0 hk0 K.1 k hk (va_Nw.use rfl (C.w hq rfl)) (fun _ z => z) hfin (K.2.2.1 k hk) hn hfit hl d (fun H1 locs1 hP hD hS => kk H1 locs1 ls _ ⟨h.1.set h.2.2.2.1 hk0, h.2.1, hP, hD, hS, h.2.2.2.2.2⟩)
theorem z_putS (C : zC l D Γ own nm cc nL ret tab) {ci : Nat} {Cn : String} {T : u_T} {N : Nat} {ty : Nat → FieldType} (K : zCls ci Cn T N ty) {a : Nat} {fs : List Value} (hV : V a = some (.inr (ci, fs))) (k : Nat) (hk : k < N) {v : Value} (fs' : List Value) (hfs : fs.set k v = fs') (hl : k < fs.length) (hn : narrow (ty k) v = v) (hfit : fits (ty k) v = true) (hfin : (T k).2.2.2 = false) {index : Nat} {ref : String} (hq : Cond.fieldLink own index ref (T k).2.1 (T k).2.2.1 ∈ lw_all) (hs : Cond.sameField ref (T k).1 (T k).2.1 (T k).2.2.1 ∈ lw_all) (d : decode cc pc = .ok (.putfield index, 3)) (kk : ZW l D Γ R (pc + 3) lv st (va_up V a (some (.inr (ci, fs')))) kc ks) : ZW l D Γ R pc lv (v :: .ref a :: st) V kc ks := by
  subst hfs
  intro H locs ls ws h
  obtain ⟨k0, hk0⟩ := zk h hV
  exact va_put C.x C.b C.ts K.2.1 ty K.2.2.1 K.2.2.2 C.ow C.K h.2.2.1 h.2.2.2.1 h.2.2.2.2.1 k0 hk0 K.1 k hk (C.ts _ hq) (u_same (C.ts _ hs)) hfin (K.2.2.1 k hk) hn hfit hl d (fun H1 locs1 hP hD hS => kk H1 locs1 ls _ ⟨h.1.set h.2.2.2.1 hk0, h.2.1, hP, hD, hS, h.2.2.2.2.2⟩)
theorem z_putF (C : zC l D Γ own nm cc nL ret tab) {ci : Nat} {Cn : String} {T : u_T} {N : Nat} {ty : Nat → FieldType} (K : zCls ci Cn T N ty) {a : Nat} {fs : List Value} (hV : V a = some (.inr (ci, fs))) (k : Nat) (hk : k < N) {v : Value} (fs' : List Value) (hfs : fs.set k v = fs') (hl : k < fs.length) (hn : narrow (ty k) v = v) (hfit : fits (ty k) v = true) (hfin : (T k).2.2.2 = true) (hin : nm = "<init>") (hde : (T k).1 = own) {index : Nat} (hq : Cond.fieldLink own index (T k).1 (T k).2.1 (T k).2.2.1 ∈ lw_all) (d : decode cc pc = .ok (.putfield index, 3)) (kk : ZW l D Γ R (pc + 3) lv st (va_up V a (some (.inr (ci, fs')))) kc ks) : ZW l D Γ R pc lv (v :: .ref a :: st) V kc ks := by
  subst hfs
  intro H locs ls ws h
  obtain ⟨k0, hk0⟩ := zk h hV
  exact va_putF C.x C.b C.ts K.2.1 ty K.2.2.1 K.2.2.2 C.ow C.K h.2.2.1 h.2.2.2.1 h.2.2.2.2.1 k0 hk0 K.1 k hk (C.ts _ hq) (fun _ z => z) hfin (C.na.trans hin) hde (K.2.2.1 k hk) hn hfit hl d (fun H1 locs1 hP hD hS => kk H1 locs1 ls _ ⟨h.1.set h.2.2.2.1 hk0, h.2.1, hP, hD, hS, h.2.2.2.2.2⟩)
theorem z_cl {j n : Nat} (h : j < n) (hn : n < 2 ^ 31) : vp_in (nI j) n ∧ (nI j).toNatClampNeg = j := ⟨vp_in_nI h hn, nI_clamp (by omega)⟩
theorem z_upd (f : Nat → Int32) (k : Nat) (x : Int32) : upd f k x = va_up f k x := by
  funext j
  by_cases h : j = k <;> simp [upd, va_up, h]
theorem z_updL (f : Nat → Int64) (k : Nat) (x : Int64) : vp_updL f k x = va_up f k x := by
  funext j
  by_cases h : j = k <;> simp [vp_updL, va_up, h]
theorem z_updD (f : Nat → UInt64) (k : Nat) (x : UInt64) : vf_upd f k x = va_up f k x := by
  funext j
  by_cases h : j = k <;> simp [vf_upd, va_up, h]
theorem z_iald (C : zC l D Γ own nm cc nL ret tab) {a n : Nat} {f : Nat → Int32} (hV : V a = some (.inl (D.arr 0, n, .inl f))) {j : Nat} (hj : j < n) (hn : n < 2 ^ 31) {v : Int32} (hv : f j = v) (d : decode cc pc = .ok (.iaload, 1)) (kk : ZW l D Γ R (pc + 1) lv (.int v :: st) V kc ks) : ZW l D Γ R pc lv (.int (nI j) :: .ref a :: st) V kc ks := by
  subst hv
  intro H locs ls ws h
  obtain ⟨k0, hk0⟩ := zk h hV
  obtain ⟨h1, h2⟩ := z_cl hj hn
  exact va_iald C.x C.b C.K h.2.2.1 k0 0 hk0 rfl h1 d (by rw [h2]; exact kk H locs ls ws h)
theorem z_zald (C : zC l D Γ own nm cc nL ret tab) {a n : Nat} {f : Nat → Int32} (hV : V a = some (.inl (D.arr 3, n, .inl f))) {j : Nat} (hj : j < n) (hn : n < 2 ^ 31) {v : Int32} (hv : f j = v) (d : decode cc pc = .ok (.baload, 1)) (kk : ZW l D Γ R (pc + 1) lv (.int v :: st) V kc ks) : ZW l D Γ R pc lv (.int (nI j) :: .ref a :: st) V kc ks := by
  subst hv
  intro H locs ls ws h
  obtain ⟨k0, hk0⟩ := zk h hV
  obtain ⟨h1, h2⟩ := z_cl hj hn
  exact va_zald C.x C.b C.K h.2.2.1 k0 3 hk0 rfl h1 d (by rw [h2]; exact kk H locs ls ws h)
theorem z_cald (C : zC l D Γ own nm cc nL ret tab) {a n : Nat} {f : Nat → Int32} (hV : V a = some (.inl (D.arr 4, n, .inl f))) {j : Nat} (hj : j < n) (hn : n < 2 ^ 31) {v : Int32} (hv : f j = v) (d : decode cc pc = .ok (.caload, 1)) (kk : ZW l D Γ R (pc + 1) lv (.int v :: st) V kc ks) : ZW l D Γ R pc lv (.int (nI j) :: .ref a :: st) V kc ks := by
  subst hv
  intro H locs ls ws h
  obtain ⟨k0, hk0⟩ := zk h hV
  obtain ⟨h1, h2⟩ := z_cl hj hn
  exact va_cald C.x C.b C.K h.2.2.1 k0 4 hk0 rfl h1 d (by rw [h2]; exact kk H locs ls ws h)
theorem z_lald (C : zC l D Γ own nm cc nL ret tab) {a n : Nat} {f : Nat → Int64} (hV : V a = some (.inl (D.arr 5, n, .inr (.inl f)))) {j : Nat} (hj : j < n) (hn : n < 2 ^ 31) {v : Int64} (hv : f j = v) (d : decode cc pc = .ok (.laload, 1)) (kk : ZW l D Γ R (pc + 1) lv (.long v :: st) V kc ks) : ZW l D Γ R pc lv (.int (nI j) :: .ref a :: st) V kc ks := by
  subst hv
  intro H locs ls ws h
  obtain ⟨k0, hk0⟩ := zk h hV
  obtain ⟨h1, h2⟩ := z_cl hj hn
  exact va_lald C.x C.b C.K h.2.2.1 k0 5 hk0 rfl h1 d (by rw [h2]; exact kk H locs ls ws h)
theorem z_dald (C : zC l D Γ own nm cc nL ret tab) {a n : Nat} {f : Nat → UInt64} (hV : V a = some (.inl (D.arr 6, n, .inr (.inr (.inr (.inl f)))))) {j : Nat} (hj : j < n) (hn : n < 2 ^ 31) {v : UInt64} (hv : f j = v) (d : decode cc pc = .ok (.daload, 1)) (kk : ZW l D Γ R (pc + 1) lv (.double v :: st) V kc ks) : ZW l D Γ R pc lv (.int (nI j) :: .ref a :: st) V kc ks := by
  subst hv
  intro H locs ls ws h
  obtain ⟨k0, hk0⟩ := zk h hV
  obtain ⟨h1, h2⟩ := z_cl hj hn
  exact va_dald C.x C.b C.K h.2.2.1 k0 6 hk0 rfl h1 d (by rw [h2]; exact kk H locs ls ws h)
theorem z_iast (C : zC l D Γ own nm cc nL ret tab) {a n : Nat} {f : Nat → Int32} (hV : V a = some (.inl (D.arr 0, n, .inl f))) {j : Nat} (hj : j < n) (hn : n < 2 ^ 31) {x : Int32} (d : decode cc pc = .ok (.iastore, 1)) (kk : ZW l D Γ R (pc + 1) lv st (va_up V a (some (.inl (D.arr 0, n, .inl (va_up f j x))))) kc ks) : ZW l D Γ R pc lv (.int x :: .int (nI j) :: .ref a :: st) V kc ks := by
  intro H locs ls ws h
  obtain ⟨k0, hk0⟩ := zk h hV
  obtain ⟨h1, h2⟩ := z_cl hj hn
  refine va_iast C.x C.b C.K h.2.2.1 h.2.2.2.1 h.2.2.2.2.1 k0 0 hk0 rfl h1 d (fun H1 locs1 hP hD hS => ?_)
  rw [h2, z_upd] at hP hD
  exact kk H1 locs1 ls _ ⟨h.1.set h.2.2.2.1 hk0, h.2.1, hP, hD, hS, h.2.2.2.2.2⟩
theorem z_zast (C : zC l D Γ own nm cc nL ret tab) {a n : Nat} {f : Nat → Int32} (hV : V a = some (.inl (D.arr 3, n, .inl f))) {j : Nat} (hj : j < n) (hn : n < 2 ^ 31) {x : Int32} (hx : vp_nar .boolean x = x) (d : decode cc pc = .ok (.bastore, 1)) (kk : ZW l D Γ R (pc + 1) lv st (va_up V a (some (.inl (D.arr 3, n, .inl (va_up f j x))))) kc ks) : ZW l D Γ R pc lv (.int x :: .int (nI j) :: .ref a :: st) V kc ks := by
  intro H locs ls ws h
  obtain ⟨k0, hk0⟩ := zk h hV
  obtain ⟨h1, h2⟩ := z_cl hj hn
  refine va_zast C.x C.b C.K h.2.2.1 h.2.2.2.1 h.2.2.2.2.1 k0 3 hk0 rfl h1 d (fun H1 locs1 hP hD hS => ?_)
  rw [hx, h2, z_upd] at hP hD
  exact kk H1 locs1 ls _ ⟨h.1.set h.2.2.2.1 hk0, h.2.1, hP, hD, hS, h.2.2.2.2.2⟩
theorem z_cast (C : zC l D Γ own nm cc nL ret tab) {a n : Nat} {f : Nat → Int32} (hV : V a = some (.inl (D.arr 4, n, .inl f))) {j : Nat} (hj : j < n) (hn : n < 2 ^ 31) {x : Int32} (hx : vp_nar .char x = x) (d : decode cc pc = .ok (.castore, 1)) (kk : ZW l D Γ R (pc + 1) lv st (va_up V a (some (.inl (D.arr 4, n, .inl (va_up f j x))))) kc ks) : ZW l D Γ R pc lv (.int x :: .int (nI j) :: .ref a :: st) V kc ks := by
  intro H locs ls ws h
  obtain ⟨k0, hk0⟩ := zk h hV
  obtain ⟨h1, h2⟩ := z_cl hj hn
  refine va_cast C.x C.b C.K h.2.2.1 h.2.2.2.1 h.2.2.2.2.1 k0 4 hk0 rfl h1 d (fun H1 locs1 hP hD hS => ?_)
  rw [hx, h2, z_upd] at hP hD
  exact kk H1 locs1 ls _ ⟨h.1.set h.2.2.2.1 hk0, h.2.1, hP, hD, hS, h.2.2.2.2.2⟩
theorem z_last (C : zC l D Γ own nm cc nL ret tab) {a n : Nat} {f : Nat → Int64} (hV : V a = some (.inl (D.arr 5, n, .inr (.inl f)))) {j : Nat} (hj : j < n) (hn : n < 2 ^ 31) {x : Int64} (d : decode cc pc = .ok (.lastore, 1)) (kk : ZW l D Γ R (pc + 1) lv st (va_up V a (some (.inl (D.arr 5, n, .inr (.inl (va_up f j x)))))) kc ks) : ZW l D Γ R pc lv (.long x :: .int (nI j) :: .ref a :: st) V kc ks := by
  intro H locs ls ws h
  obtain ⟨k0, hk0⟩ := zk h hV
  obtain ⟨h1, h2⟩ := z_cl hj hn
  refine va_last C.x C.b C.K h.2.2.1 h.2.2.2.1 h.2.2.2.2.1 k0 5 hk0 rfl h1 d (fun H1 locs1 hP hD hS => ?_)
  rw [h2, z_updL] at hP hD
  exact kk H1 locs1 ls _ ⟨h.1.set h.2.2.2.1 hk0, h.2.1, hP, hD, hS, h.2.2.2.2.2⟩
theorem z_dast (C : zC l D Γ own nm cc nL ret tab) {a n : Nat} {f : Nat → UInt64} (hV : V a = some (.inl (D.arr 6, n, .inr (.inr (.inr (.inl f)))))) {j : Nat} (hj : j < n) (hn : n < 2 ^ 31) {x : UInt64} (d : decode cc pc = .ok (.dastore, 1)) (kk : ZW l D Γ R (pc + 1) lv st (va_up V a (some (.inl (D.arr 6, n, .inr (.inr (.inr (.inl (va_up f j x)))))))) kc ks) : ZW l D Γ R pc lv (.double x :: .int (nI j) :: .ref a :: st) V kc ks := by
  intro H locs ls ws h
  obtain ⟨k0, hk0⟩ := zk h hV
  obtain ⟨h1, h2⟩ := z_cl hj hn
  refine va_dast C.x C.b C.K h.2.2.1 h.2.2.2.1 h.2.2.2.2.1 k0 6 hk0 rfl h1 d (fun H1 locs1 hP hD hS => ?_)
  rw [h2, z_updD] at hP hD
  exact kk H1 locs1 ls _ ⟨h.1.set h.2.2.2.1 hk0, h.2.1, hP, hD, hS, h.2.2.2.2.2⟩
theorem zty1 : (ztys D)[1]? = some (D.arr 1, .object "Quaylock$Box") := rfl
theorem zty2 : (ztys D)[2]? = some (D.arr 2, .object "java/lang/Object") := rfl
/-- the element class of the two kinds of arrays of references -/
def zel (t : Nat) : String := if t = 1 then "Quaylock$Box" else "java/lang/Object"
theorem zty_q {t : Nat} (ht : t = 1 ∨ t = 2) : (ztys D)[t]? = some (D.arr t, .object (zel t)) := by rcases ht with rfl | rfl <;> rfl
theorem z_aald (C : zC l D Γ own nm cc nL ret tab) {a n : Nat} {f : Nat → Option Nat} (t : Nat) (ht : t = 1 ∨ t = 2) (hV : V a = some (.inl (D.arr t, n, .inr (.inr (.inr (.inr f)))))) {j : Nat} (hj : j < n) (hn : n < 2 ^ 31) {r : Option Nat} (hv : f j = r) (d : decode cc pc = .ok (.aaload, 1)) (kk : ZW l D Γ R (pc + 1) lv (va_rf r :: st) V kc ks) : ZW l D Γ R pc lv (.int (nI j) :: .ref a :: st) V kc ks := by
  subst hv
  intro H locs ls ws h
  obtain ⟨k0, hk0⟩ := zk h hV
  obtain ⟨h1, h2⟩ := z_cl hj hn
  exact va_aldq C.x C.b C.K h.2.2.1 k0 t hk0 (zty_q ht) h1 d (by rw [h2]; exact kk H locs ls ws h)
theorem z_aaldR (C : zC l D Γ own nm cc nL ret tab) {a n : Nat} {f : Nat → Option Nat} (t : Nat) (ht : t = 1 ∨ t = 2) (hV : V a = some (.inl (D.arr t, n, .inr (.inr (.inr (.inr f)))))) {j : Nat} (hj : j < n) (hn : n < 2 ^ 31) {x : Nat} (hv : f j = some x) (d : decode cc pc = .ok (.aaload, 1)) (kk : ZW l D Γ R (pc + 1) lv (.ref x :: st) V kc ks) : ZW l D Γ R pc lv (.int (nI j) :: .ref a :: st) V kc ks := z_aald C t ht hV hj hn hv d kk
theorem z_aaldN (C : zC l D Γ own nm cc nL ret tab) {a n : Nat} {f : Nat → Option Nat} (t : Nat) (ht : t = 1 ∨ t = 2) (hV : V a = some (.inl (D.arr t, n, .inr (.inr (.inr (.inr f)))))) {j : Nat} (hj : j < n) (hn : n < 2 ^ 31) (hv : f j = none) (d : decode cc pc = .ok (.aaload, 1)) (kk : ZW l D Γ R (pc + 1) lv (.null :: st) V kc ks) : ZW l D Γ R pc lv (.int (nI j) :: .ref a :: st) V kc ks := z_aald C t ht hV hj hn hv d kk
/-- an object stored: of the very class, or of one that can be cast -/
theorem z_aast (C : zC l D Γ own nm cc nL ret tab) {a n : Nat} {f : Nat → Option Nat} (t : Nat) (ht : t = 1 ∨ t = 2) (hV : V a = some (.inl (D.arr t, n, .inr (.inr (.inr (.inr f)))))) {j : Nat} (hj : j < n) (hn : n < 2 ^ 31) {ci : Nat} {Cn : String} {T : u_T} {N : Nat} {ty : Nat → FieldType} (K : zCls ci Cn T N ty) {x : Nat} {vs : List Value} (hx : V x = some (.inr (ci, vs))) (hc : Cn = zel t ∨ Cond.castable Cn (zel t) ∈ lw_tbl) (d : decode cc pc = .ok (.aastore, 1)) (kk : ZW l D Γ R (pc + 1) lv st (va_up V a (some (.inl (D.arr t, n, .inr (.inr (.inr (.inr (va_up f j (some x))))))))) kc ks) : ZW l D Γ R pc lv (.ref x :: .int (nI j) :: .ref a :: st) V kc ks := by
  intro H locs ls ws h
  obtain ⟨k0, hk0⟩ := zk h hV
  obtain ⟨k1, hk1⟩ := zk h hx
  obtain ⟨h1, h2⟩ := z_cl hj hn
  rcases hc with hc | hc
  · subst hc
    refine va_astq C.x C.b C.K h.2.2.1 h.2.2.2.1 h.2.2.2.2.1 k0 t k1 ci hk0 (zty_q ht) hk1 K.1 h1 d (fun H1 locs1 hP hD hS => ?_)
    rw [h2] at hP hD
    exact kk H1 locs1 ls _ ⟨h.1.set h.2.2.2.1 hk0, h.2.1, hP, hD, hS, h.2.2.2.2.2⟩
  · refine va_astqO C.x C.b C.K h.2.2.1 h.2.2.2.1 h.2.2.2.2.1 k0 t k1 ci hk0 (zty_q ht) (C.w hc rfl) hk1 K.1 h1 d (fun H1 locs1 hP hD hS => ?_)
    rw [h2] at hP hD
    exact kk H1 locs1 ls _ ⟨h.1.set h.2.2.2.1 hk0, h.2.1, hP, hD, hS, h.2.2.2.2.2⟩
theorem z_aastN (C : zC l D Γ own nm cc nL ret tab) {a n : Nat} {f : Nat → Option Nat} (t : Nat) (ht : t = 1 ∨ t = 2) (hV : V a = some (.inl (D.arr t, n, .inr (.inr (.inr (.inr f)))))) {j : Nat} (hj : j < n) (hn : n < 2 ^ 31) (d : decode cc pc = .ok (.aastore, 1)) (kk : ZW l D Γ R (pc + 1) lv st (va_up V a (some (.inl (D.arr t, n, .inr (.inr (.inr (.inr (va_up f j none)))))))) kc ks) : ZW l D Γ R pc lv (.null :: .int (nI j) :: .ref a :: st) V kc ks := by
  intro H locs ls ws h
  obtain ⟨k0, hk0⟩ := zk h hV
  obtain ⟨h1, h2⟩ := z_cl hj hn
  refine va_astqN C.x C.b C.K h.2.2.1 h.2.2.2.1 h.2.2.2.2.1 k0 t hk0 (zty_q ht) h1 d (fun H1 locs1 hP hD hS => ?_)
  rw [h2] at hP hD
  exact kk H1 locs1 ls _ ⟨h.1.set h.2.2.2.1 hk0, h.2.1, hP, hD, hS, h.2.2.2.2.2⟩
theorem z_alen (C : zC l D Γ own nm cc nL ret tab) {a : Nat} {x : vp_A} (t : Nat) {ty : FieldType} (ht : (ztys D)[t]? = some (D.arr t, ty)) (hV : V a = some (.inl (D.arr t, x))) {n : Nat} (hn : x.1 = n) (d : decode cc pc = .ok (.arraylength, 1)) (kk : ZW l D Γ R (pc + 1) lv (.int (nI n) :: st) V kc ks) : ZW l D Γ R pc lv (.ref a :: st) V kc ks := by
  subst hn
  intro H locs ls ws h
  obtain ⟨k0, hk0⟩ := zk h hV
  exact va_alen C.x C.b C.K h.2.2.1 k0 t hk0 ht rfl d (kk H locs ls ws h)
theorem z_new (C : zC l D Γ own nm cc nL ret tab) {ci : Nat} {Cn : String} {T : u_T} {N : Nat} {ty : Nat → FieldType} (K : zCls ci Cn T N ty) {index : Nat} (hcl : Cond.classLink own index Cn ∈ lw_all) (hin : Cond.instantiable Cn N ∈ lw_all) (hini : Cond.initialized Cn ∈ lw_all) (fs : List Value) (hfs : ∀ j, j < N → defaultValue (ty j) = vp_V fs j) (hc : kc + 1 ≤ R.cells) (hs : ks + N ≤ R.slots) (d : decode cc pc = .ok (.new index, 3)) (kk : ∀ q, V q = none → ZW l D Γ R (pc + 3) lv (.ref q :: st) (va_up V q (some (.inr (ci, fs)))) (kc + 1) (ks + N)) : ZW l D Γ R pc lv st V kc ks := by
  intro H locs ls ws h
  refine va_new C.x C.b C.ts K.2.1 ty K.2.2.1 C.ow (C.ts _ hcl) (C.ts _ hin) (C.ts _ hini) C.K h.2.2.1 h.2.2.2.1 h.2.2.2.2.1 C.fr K.1 hfs hc hs d (fun q H1 hP hD hS => ?_)
  obtain ⟨h1, h2⟩ := h.1.push hD
  exact kk q h1 H1 locs ls _ ⟨h2, h.2.1, hP, hD, hS, h.2.2.2.2.2⟩
theorem z_newa_i (C : zC l D Γ own nm cc nL ret tab) {n : Nat} (hq : Cond.arrayClass .int ∈ lw_all) (hn : n < 1000000) (hc : kc + 1 ≤ R.cells) (hs : ks + n ≤ R.slots) (d : decode cc pc = .ok (.newarray .int, 2)) (kk : ∀ q, V q = none → ZW l D Γ R (pc + 2) lv (.ref q :: st) (va_up V q (some (.inl (D.arr 0, n, .inl (fun _ => 0))))) (kc + 1) (ks + n)) : ZW l D Γ R pc lv (.int (nI n) :: st) V kc ks := by
  intro H locs ls ws h
  have h31 : n < 2 ^ 31 := by omega
  refine va_newa (atype := .int) (ty := .int) C.x C.b (C.ts _ hq) rfl C.K h.2.2.1 h.2.2.2.1 h.2.2.2.2.1 C.fr (n := nI n) (N' := n) (a0 := (n, .inl (fun _ => 0))) (fun _ => rfl) (nI_pos h31) (nI_clamp h31) (by show n * 4 ≤ 536870912; omega) hc hs d (fun q cA H1 hK hP hD hS => ?_)
  have e1 : Γ.s.vm.findClass ("[" ++ (FieldType.int).toString) = some cA := (hK.2 7 (cA, .int) rfl).2
  have e2 : Γ.s.vm.findClass ("[" ++ (FieldType.int).toString) = some (D.arr 0) := (C.K.2 0 (D.arr 0, .int) rfl).2
  obtain rfl := Option.some.inj (e1.symm.trans e2)
  obtain ⟨h1, h2⟩ := h.1.push hD
  exact kk q h1 H1 locs ls _ ⟨h2, h.2.1, hP, hD, hS, h.2.2.2.2.2⟩
theorem z_newa_z (C : zC l D Γ own nm cc nL ret tab) {n : Nat} (hq : Cond.arrayClass .boolean ∈ lw_all) (hn : n < 1000000) (hc : kc + 1 ≤ R.cells) (hs : ks + n ≤ R.slots) (d : decode cc pc = .ok (.newarray .boolean, 2)) (kk : ∀ q, V q = none → ZW l D Γ R (pc + 2) lv (.ref q :: st) (va_up V q (some (.inl (D.arr 3, n, .inl (fun _ => 0))))) (kc + 1) (ks + n)) : ZW l D Γ R pc lv (.int (nI n) :: st) V kc ks := by
  intro H locs ls ws h
  have h31 : n < 2 ^ 31 := by omega
  refine va_newa (atype := .boolean) (ty := .boolean) C.x C.b (C.ts _ hq) rfl C.K h.2.2.1 h.2.2.2.1 h.2.2.2.2.1 C.fr (n := nI n) (N' := n) (a0 := (n, .inl (fun _ => 0))) (fun _ => rfl) (nI_pos h31) (nI_clamp h31) (by show n * 1 ≤ 536870912; omega) hc hs d (fun q cA H1 hK hP hD hS => ?_)
  have e1 : Γ.s.vm.findClass ("[" ++ (FieldType.boolean).toString) = some cA := (hK.2 7 (cA, .boolean) rfl).2
  have e2 : Γ.s.vm.findClass ("[" ++ (FieldType.boolean).toString) = some (D.arr 3) := (C.K.2 3 (D.arr 3, .boolean) rfl).2
  obtain rfl := Option.some.inj (e1.symm.trans e2)
  obtain ⟨h1, h2⟩ := h.1.push hD
  exact kk q h1 H1 locs ls _ ⟨h2, h.2.1, hP, hD, hS, h.2.2.2.2.2⟩
theorem z_newa_c (C : zC l D Γ own nm cc nL ret tab) {n : Nat} (hq : Cond.arrayClass .char ∈ lw_all) (hn : n < 1000000) (hc : kc + 1 ≤ R.cells) (hs : ks + n ≤ R.slots) (d : decode cc pc = .ok (.newarray .char, 2)) (kk : ∀ q, V q = none → ZW l D Γ R (pc + 2) lv (.ref q :: st) (va_up V q (some (.inl (D.arr 4, n, .inl (fun _ => 0))))) (kc + 1) (ks + n)) : ZW l D Γ R pc lv (.int (nI n) :: st) V kc ks := by
  intro H locs ls ws h
  have h31 : n < 2 ^ 31 := by omega
  refine va_newa (atype := .char) (ty := .char) C.x C.b (C.ts _ hq) rfl C.K h.2.2.1 h.2.2.2.1 h.2.2.2.2.1 C.fr (n := nI n) (N' := n) (a0 := (n, .inl (fun _ => 0))) (fun _ => rfl) (nI_pos h31) (nI_clamp h31) (by show n * 2 ≤ 536870912; omega) hc hs d (fun q cA H1 hK hP hD hS => ?_)
  have e1 : Γ.s.vm.findClass ("[" ++ (FieldType.char).toString) = some cA := (hK.2 7 (cA, .char) rfl).2
  have e2 : Γ.s.vm.findClass ("[" ++ (FieldType.char).toString) = some (D.arr 4) := (C.K.2 4 (D.arr 4, .char) rfl).2
  obtain rfl := Option.some.inj (e1.symm.trans e2)
  obtain ⟨h1, h2⟩ := h.1.push hD
  exact kk q h1 H1 locs ls _ ⟨h2, h.2.1, hP, hD, hS, h.2.2.2.2.2⟩
theorem z_newa_l (C : zC l D Γ own nm cc nL ret tab) {n : Nat} (hq : Cond.arrayClass .long ∈ lw_all) (hn : n < 1000000) (hc : kc + 1 ≤ R.cells) (hs : ks + n ≤ R.slots) (d : decode cc pc = .ok (.newarray .long, 2)) (kk : ∀ q, V q = none → ZW l D Γ R (pc + 2) lv (.ref q :: st) (va_up V q (some (.inl (D.arr 5, n, .inr (.inl (fun _ => 0)))))) (kc + 1) (ks + n)) : ZW l D Γ R pc lv (.int (nI n) :: st) V kc ks := by
  intro H locs ls ws h
  have h31 : n < 2 ^ 31 := by omega
  refine va_newa (atype := .long) (ty := .long) C.x C.b (C.ts _ hq) rfl C.K h.2.2.1 h.2.2.2.1 h.2.2.2.2.1 C.fr (n := nI n) (N' := n) (a0 := (n, .inr (.inl (fun _ => 0)))) (fun _ => rfl) (nI_pos h31) (nI_clamp h31) (by show n * 8 ≤ 536870912; omega) hc hs d (fun q cA H1 hK hP hD hS => ?_)
  have e1 : Γ.s.vm.findClass ("[" ++ (FieldType.long).toString) = some cA := (hK.2 7 (cA, .long) rfl).2
  have e2 : Γ.s.vm.findClass ("[" ++ (FieldType.long).toString) = some (D.arr 5) := (C.K.2 5 (D.arr 5, .long) rfl).2
  obtain rfl := Option.some.inj (e1.symm.trans e2)
  obtain ⟨h1, h2⟩ := h.1.push hD
  exact kk q h1 H1 locs ls _ ⟨h2, h.2.1, hP, hD, hS, h.2.2.2.2.2⟩
theorem z_newa_d (C : zC l D Γ own nm cc nL ret tab) {n : Nat} (hq : Cond.arrayClass .double ∈ lw_all) (hn : n < 1000000) (hc : kc + 1 ≤ R.cells) (hs : ks + n ≤ R.slots) (d : decode cc pc = .ok (.newarray .double, 2)) (kk : ∀ q, V q = none → ZW l D Γ R (pc + 2) lv (.ref q :: st) (va_up V q (some (.inl (D.arr 6, n, .inr (.inr (.inr (.inl (fun _ => 0)))))))) (kc + 1) (ks + n)) : ZW l D Γ R pc lv (.int (nI n) :: st) V kc ks := by
  intro H locs ls ws h
  have h31 : n < 2 ^ 31 := by omega
  refine va_newa (atype := .double) (ty := .double) C.x C.b (C.ts _ hq) rfl C.K h.2.2.1 h.2.2.2.1 h.2.2.2.2.1 C.fr (n := nI n) (N' := n) (a0 := (n, .inr (.inr (.inr (.inl (fun _ => 0)))))) (fun _ => rfl) (nI_pos h31) (nI_clamp h31) (by show n * 8 ≤ 536870912; omega) hc hs d (fun q cA H1 hK hP hD hS => ?_)
  have e1 : Γ.s.vm.findClass ("[" ++ (FieldType.double).toString) = some cA := (hK.2 7 (cA, .double) rfl).2
  have e2 : Γ.s.vm.findClass ("[" ++ (FieldType.double).toString) = some (D.arr 6) := (C.K.2 6 (D.arr 6, .double) rfl).2
  obtain rfl := Option.some.inj (e1.symm.trans e2)
  obtain ⟨h1, h2⟩ := h.1.push hD
  exact kk q h1 H1 locs ls _ ⟨h2, h.2.1, hP, hD, hS, h.2.2.2.2.2⟩
theorem zS_AO (C : zC l D Γ own nm cc nL ret tab) {t : Nat} (ht : t = 1 ∨ t = 2) : va_AO (zel t) Γ.s := by
  rcases ht with rfl | rfl
  · exact C.S.1.2.2.2.1.1
  · exact C.S.1.2.2.2.1.2
theorem z_newq (C : zC l D Γ own nm cc nL ret tab) (t : Nat) (ht : t = 1 ∨ t = 2) {index n : Nat} (hcl : Cond.classLink own index (zel t) ∈ lw_all) (hn : n < 1000000) (hc : kc + 1 ≤ R.cells) (hs : ks + n ≤ R.slots) (d : decode cc pc = .ok (.anewarray index, 3)) (kk : ∀ q, V q = none → ZW l D Γ R (pc + 3) lv (.ref q :: st) (va_up V q (some (.inl (D.arr t, n, .inr (.inr (.inr (.inr (fun _ => none)))))))) (kc + 1) (ks + n)) : ZW l D Γ R pc lv (.int (nI n) :: st) V kc ks := by
  intro H locs ls ws h
  have h31 : n < 2 ^ 31 := by omega
  refine va_newq C.x C.b C.ow (C.ts _ hcl) (zS_AO C ht) C.K h.2.2.1 h.2.2.2.1 h.2.2.2.2.1 C.fr (n := nI n) (N' := n) (nI_pos h31) (nI_clamp h31) (by omega) hc hs d (fun q cA H1 hK hP hD hS => ?_)
  obtain ⟨-, -, -, -, -, e1⟩ := (hK.2 7 (cA, .object (zel t)) rfl).2
  obtain ⟨-, -, -, -, -, e2⟩ := (C.K.2 t (D.arr t, .object (zel t)) (zty_q ht)).2
  obtain rfl := Option.some.inj (e1.symm.trans e2)
  obtain ⟨h1, h2⟩ := h.1.push hD
  exact kk q h1 H1 locs ls _ ⟨h2, h.2.1, hP, hD, hS, h.2.2.2.2.2⟩
theorem zrecv (C : zC l D Γ own nm cc nL ret tab) {ci : Nat} {Cn : String} {T : u_T} {N : Nat} {ty : Nat → FieldType} (K : zCls ci Cn T N ty) {a : Nat} {fs : List Value} (hV : V a = some (.inr (ci, fs))) {H : Heap} {locs : List Loc} {ls : Array Slot} {ws : va_W} (h : zH D Γ V lv H locs ls ws) : ∃ cell : Cell, H[a]? = some cell ∧ cell.vm.isStatics = false ∧ Γ.s.vm.findClass Cn = some cell.cls := by
  obtain ⟨k0, hk0⟩ := zk h hV
  exact va_recv C.K h.2.2.1 K.1 hk0
theorem zat (C : zC l D Γ own nm cc nL ret tab) {ci : Nat} {Cn : String} {T : u_T} {N : Nat} {ty : Nat → FieldType} (K : zCls ci Cn T N ty) : ClassAt Γ.s Cn (D.1.1 ci) := (C.K.1 ci _ K.1).2
theorem z_ccast (C : zC l D Γ own nm cc nL ret tab) {ci : Nat} {Cn : String} {T : u_T} {N : Nat} {ty : Nat → FieldType} (K : zCls ci Cn T N ty) {a : Nat} {fs : List Value} (hV : V a = some (.inr (ci, fs))) {index : Nat} {nm2 : String} (hq : Cond.classLink own index nm2 ∈ lw_all) (hc : nm2 = Cn ∨ Cond.castable Cn nm2 ∈ lw_tbl) (d : decode cc pc = .ok (.checkcast index, 3)) (kk : ZW l D Γ R (pc + 3) lv (.ref a :: st) V kc ks) : ZW l D Γ R pc lv (.ref a :: st) V kc ks := by
  intro H locs ls ws h
  rcases hc with hc | hc
  · subst hc
    exact va_castS C.x C.b C.ow (C.ts _ hq) (zat C K) (zrecv C K hV h) d (kk H locs ls ws h)
  · exact va_castY C.x C.b C.ow (C.ts _ hq) (C.w hc rfl) (zrecv C K hV h) d (kk H locs ls ws h)
theorem z_castN (C : zC l D Γ own nm cc nL ret tab) {index : Nat} (d : decode cc pc = .ok (.checkcast index, 3)) (kk : ZW l D Γ R (pc + 3) lv (.null :: st) V kc ks) : ZW l D Γ R pc lv (.null :: st) V kc ks := fun H locs ls ws h => lv_castN C.x C.b d (kk H locs ls ws h)
theorem z_castA (C : zC l D Γ own nm cc nL ret tab) {a : Nat} {x : vp_A} (hV : V a = some (.inl (D.arr 0, x))) {index : Nat} (hq : Cond.classLink own index "[I" ∈ lw_all) (d : decode cc pc = .ok (.checkcast index, 3)) (kk : ZW l D Γ R (pc + 3) lv (.ref a :: st) V kc ks) : ZW l D Γ R pc lv (.ref a :: st) V kc ks := by
  intro H locs ls ws h
  obtain ⟨k0, hk0⟩ := zk h hV
  exact va_castA C.x C.b C.ow (C.ts _ hq) h.2.2.1 k0 hk0 (C.K.2 0 (D.arr 0, .int) rfl).2 d (kk H locs ls ws h)
theorem z_objInit (C : zC l D Γ own nm cc nL ret tab) {a index : Nat} (hq : Cond.methodLink own index Lib.objectInit ∈ lw_all) (hi : Cond.instanceMethod Lib.objectInit ∈ lw_all) (hcd : Cond.code Lib.objectInit ⟨#[0xb1]⟩ 1 none ∈ lw_all) (d : decode cc pc = .ok (.invokespecial index, 3)) (hf : 1 ≤ R.frames) (hl : (st.map fun v => v.category).sum + 12 ≤ R.locals) (kk : ZW l D Γ R (pc + 3) lv st V kc ks) : ZW l D Γ R pc lv (.ref a :: st) V kc ks := by
  intro H locs ls ws h
  refine W.objInit C.x C.b C.ow (C.ts _ hq) (C.ts _ hi) (C.ts _ hcd) rfl h.2.2.2.2.2.1 rfl d hf (by show 2 * 0 + _ + _ ≤ _; omega) ?_
  exact kk H locs ls ws h
/-- System.arraycopy of ints -/
theorem z_copyi (C : zC l D Γ own nm cc nL ret tab) {a0 a1 n0 n1 sp dp n index : Nat} {f g : Nat → Int32} (hq : Cond.methodLink own index arraycopyName ∈ lw_all) (hnat : Cond.native arraycopyName ∈ lw_all) (hst : Cond.static arraycopyName ∈ lw_all) (hini : Cond.initialized "java/lang/System" ∈ lw_all) (h0 : V a0 = some (.inl (D.arr 0, n0, .inl f))) (h1 : V a1 = some (.inl (D.arr 0, n1, .inl g))) (k1 : sp + n ≤ n0) (k2 : dp + n ≤ n1) (b0 : n0 < 2 ^ 31) (b1 : n1 < 2 ^ 31) (hf : 1 ≤ R.frames) (hl : (st.map fun v => v.category).sum + 40 ≤ R.locals) (d : decode cc pc = .ok (.invokestatic index, 3)) (kk : ZW l D Γ R (pc + 3) lv st (va_up V a1 (some (.inl (D.arr 0, n1, .inl (va_cpy f g sp dp n))))) kc ks) : ZW l D Γ R pc lv (.int (nI n) :: .int (nI dp) :: .ref a1 :: .int (nI sp) :: .ref a0 :: st) V kc ks := by
  intro H locs ls ws h
  obtain ⟨q0, hq0⟩ := zk h h0
  obtain ⟨q1, hq1⟩ := zk h h1
  have e1 : (nI sp).toNatClampNeg = sp := nI_clamp (by omega)
  have e2 : (nI dp).toNatClampNeg = dp := nI_clamp (by omega)
  have e3 : (nI n).toNatClampNeg = n := nI_clamp (by omega)
  refine va_copyi C.x C.b h.2.2.2.2.2.1.symm C.ow (C.ts _ hq) (C.ts _ hnat) (C.ts _ hst) (C.ts _ hini) C.K h.2.2.1 h.2.2.2.1 h.2.2.2.2.1 q0 q1 0 0 hq0 hq1 rfl rfl rfl (nI_pos (by omega)) (nI_pos (by omega)) (nI_pos (by omega)) (by rw [e1, e3]; exact k1) (by rw [e2, e3]; exact k2) (fun _ _ => rfl) hf (by have hw : nativeFrameWords "java/lang/System" "arraycopy" 5 ≤ 29 := (by decide); omega) d (fun H1 locs1 hP hD hS => ?_)
  rw [e1, e2, e3] at hP hD
  exact kk H1 locs1 ls _ ⟨h.1.set h.2.2.2.1 hq1, h.2.1, hP, hD, hS, h.2.2.2.2.2⟩
/-- .. of references, all to objects of one class of the list -/
theorem z_copyq (C : zC l D Γ own nm cc nL ret tab) (t : Nat) (ht : t = 1 ∨ t = 2) {a0 a1 n0 n1 sp dp n index : Nat} {f g : Nat → Option Nat} {ci : Nat} {Cn : String} {T : u_T} {N : Nat} {ty : Nat → FieldType} (K : zCls ci Cn T N ty) (hc : Cn = zel t ∨ Cond.castable Cn (zel t) ∈ lw_tbl) (hq : Cond.methodLink own index arraycopyName ∈ lw_all) (hnat : Cond.native arraycopyName ∈ lw_all) (hst : Cond.static arraycopyName ∈ lw_all) (hini : Cond.initialized "java/lang/System" ∈ lw_all) (h0 : V a0 = some (.inl (D.arr t, n0, .inr (.inr (.inr (.inr f)))))) (h1 : V a1 = some (.inl (D.arr t, n1, .inr (.inr (.inr (.inr g)))))) (hel : ∀ i, i < n → ∀ y, f (sp + i) = some y → ∃ vs, V y = some (.inr (ci, vs))) (k1 : sp + n ≤ n0) (k2 : dp + n ≤ n1) (b0 : n0 < 2 ^ 31) (b1 : n1 < 2 ^ 31) (hf : 1 ≤ R.frames) (hl : (st.map fun v => v.category).sum + 40 ≤ R.locals) (d : decode cc pc = .ok (.invokestatic index, 3)) (kk : ZW l D Γ R (pc + 3) lv st (va_up V a1 (some (.inl (D.arr t, n1, .inr (.inr (.inr (.inr (va_cpy f g sp dp n)))))))) kc ks) : ZW l D Γ R pc lv (.int (nI n) :: .int (nI dp) :: .ref a1 :: .int (nI sp) :: .ref a0 :: st) V kc ks := by
  intro H locs ls ws h
  obtain ⟨q0, hq0⟩ := zk h h0
  obtain ⟨q1, hq1⟩ := zk h h1
  have e1 : (nI sp).toNatClampNeg = sp := nI_clamp (by omega)
  have e2 : (nI dp).toNatClampNeg = dp := nI_clamp (by omega)
  have e3 : (nI n).toNatClampNeg = n := nI_clamp (by omega)
  refine va_copyq C.x C.b h.2.2.2.2.2.1.symm C.ow (C.ts _ hq) (C.ts _ hnat) (C.ts _ hst) (C.ts _ hini) C.K h.2.2.1 h.2.2.2.1 h.2.2.2.2.1 q0 q1 t t (C := Cn) hq0 hq1 (zty_q ht) (zty_q ht) (nI_pos (by omega)) (nI_pos (by omega)) (nI_pos (by omega)) (by rw [e1, e3]; exact k1) (by rw [e2, e3]; exact k2) (fun i hi y hy => ?_) (fun comp c0 g1 g2 => ?_) hf (by have hw : nativeFrameWords "java/lang/System" "arraycopy" 5 ≤ 29 := (by decide); omega) d (fun H1 locs1 hP hD hS => ?_)
  · rw [e3] at hi
    rw [e1] at hy
    obtain ⟨vs, hvs⟩ := hel i hi y hy
    exact zrecv C K hvs h
  · rcases hc with hc | hc
    · subst hc
      exact vb_asgS comp c0 g1 g2
    · exact vb_asgC (C.w hc rfl) comp c0 g1 g2
  · rw [e1, e2, e3] at hP hD
    exact kk H1 locs1 ls _ ⟨h.1.set h.2.2.2.1 hq1, h.2.1, hP, hD, hS, h.2.2.2.2.2⟩
/-! calls -/
theorem zA_sub (C : zC l D Γ own nm cc nL ret tab) {H : Heap} {locs : List Loc} {ls : Array Slot} {ws : va_W} (h : zH D Γ V lv H locs ls ws) : ∀ q, va_A ws H.size q → Γ.A q := by
  rintro q (⟨k, e, hk⟩ | hq)
  · exact h.2.2.2.1.2 k _ hk
  · exact C.fr q (Nat.le_trans h.2.2.2.2.1.1 hq)
def zPc (D : ZD) (ws : va_W) (sz : Nat) (as : List Value) : Array Value → State → Prop := va_Pc as (fun U => U.heap.size = sz ∧ va_P D.1 zcl ws U.heap ∧ va_D (fun _ => True) ws ∧ zS D (va_A ws sz) U U.heap)
theorem zPc_blind (ws : va_W) (sz : Nat) (as : List Value) : FrameBlind (zPc D ws sz as) := by
  intro a U g mk q
  obtain ⟨q0, q1, q2, q3, q4, q5⟩ := q
  exact ⟨q0, q1, q2, q3, zTb.same (u := U) (U := U.calling g mk a) rfl q4, zRO.moved (u := U) (U := U.calling g mk a) (Vm.Alike.refl U.vm) q5⟩
theorem zPc_at (C : zC l D Γ own nm cc nL ret tab) {H : Heap} {locs : List Loc} {ls : Array Slot} {ws : va_W} (h : zH D Γ V lv H locs ls ws) (as : List Value) : ∀ U : State, U.heap = H → Γ.s.WarmedH U.vm → zPc D ws H.size as as.toArray U := by
  intro U hU hW
  refine ⟨rfl, by rw [hU], by rw [hU]; exact h.2.2.1, h.2.2.2.1.weaken (fun _ _ _ _ => trivial), C.S.1.warm hW, ?_⟩
  rw [hU]
  exact ((C.S.2.kept h.2.2.2.2.1.2.1).narrow (zA_sub C h)).moved hW.alike
theorem zfix (C : zC l D Γ own nm cc nL ret tab) : CallFix Γ.p Γ.m Γ.c cc nL Γ.s Γ.a lw_all own := ⟨C.x, C.b, C.ml, C.ow, C.ts⟩
theorem z_back {ρ : Type} {enc : ρ → Option Value} {Post : ρ → ZV → Prop} {PX : String → ZV → Prop} (C : zC l D Γ own nm cc nL ret tab) {H : Heap} {locs : List Loc} {ls : Array Slot} {ws : va_W} {mc ms : Nat} {a : Array Value} {st0 : List Value} (h : zH D Γ V lv H locs ls ws)
    (hr : vx_Run Γ.p l Γ.e R Γ.s Γ.m Γ.a Γ.b Γ.h Γ.c H locs kc ks mc ms (F0 Γ.m pc ls st0) st (zQc D enc Post (va_A ws H.size) a) (zXC D PX (va_A ws H.size)) (va_A ws H.size))
    (kx : ∀ E V', PX E V' → ZX l D Γ R pc lv st V' (kc + mc) (ks + ms) E) (kk : ∀ r V', Post r V' → ZW l D Γ R (pc + 3) lv ((enc r).toList ++ st) V' (kc + mc) (ks + ms)) : W Γ.p l Γ.e R Γ.s Γ.m Γ.a Γ.b Γ.h Γ.c H locs kc ks Γ.Q (F0 Γ.m pc ls st0) := by
  intro T hT X
  have hA := zA_sub C h
  rcases hr T hT X with ⟨v, s0, t, T', L, h0, X', hL, e1, e2, ⟨⟨r, V', hv, hp, ws', g1, g2, g3⟩, hF⟩, stp⟩ | ⟨q, s0, t, T', L, E, ce, h0, X', hL, e1, e2, ⟨⟨V', hp, ws', g1, g2, g3⟩, hF⟩, hce, hcv, hcl, stp⟩
  · obtain ⟨k1, k2, k3⟩ := vx_keep h0 e1 h.2.2.2.2.1 (fun q _ z => hA q z) hA hL hF
    obtain rfl := Outcome.returned.inj hv
    obtain ⟨t2, a1, b1⟩ := kk r V' hp T'.heap (locs ++ L) ls ws' ⟨g1, h.2.1, by rw [e1]; exact g2, g3.weaken (fun _ _ _ z => hA _ z), k3, h.2.2.2.2.2⟩ T' rfl X'
    exact ⟨t2, stp t2 a1, b1⟩
  · obtain ⟨k1, k2, k3⟩ := vx_keep h0 e1 h.2.2.2.2.1 (fun q _ z => hA q z) hA hL hF
    obtain ⟨t2, a1, b1⟩ := kx E V' hp T'.heap (locs ++ L) ls ws' ce q ⟨g1, h.2.1, by rw [e1]; exact g2, g3.weaken (fun _ _ _ z => hA _ z), k3, h.2.2.2.2.2⟩ (by rw [e1]; exact hce) hcv hcl T' rfl X'
    exact ⟨t2, stp.trans a1, b1⟩
theorem z_back5 {ρ : Type} {enc : ρ → Option Value} {Post : ρ → ZV → Prop} {PX : String → ZV → Prop} (C : zC l D Γ own nm cc nL ret tab) {H : Heap} {locs : List Loc} {ls : Array Slot} {ws : va_W} {mc ms : Nat} {a : Array Value} {st0 : List Value} (h : zH D Γ V lv H locs ls ws)
    (hr : vx_Run5 Γ.p l Γ.e R Γ.s Γ.m Γ.a Γ.b Γ.h Γ.c H locs kc ks mc ms (F0 Γ.m pc ls st0) st (zQc D enc Post (va_A ws H.size) a) (zXC D PX (va_A ws H.size)) (va_A ws H.size))
    (kx : ∀ E V', PX E V' → ZX l D Γ R pc lv st V' (kc + mc) (ks + ms) E) (kk : ∀ r V', Post r V' → ZW l D Γ R (pc + 5) lv ((enc r).toList ++ st) V' (kc + mc) (ks + ms)) : W Γ.p l Γ.e R Γ.s Γ.m Γ.a Γ.b Γ.h Γ.c H locs kc ks Γ.Q (F0 Γ.m pc ls st0) := by
  intro T hT X
  have hA := zA_sub C h
  rcases hr T hT X with ⟨v, s0, t, T', L, h0, X', hL, e1, e2, ⟨⟨r, V', hv, hp, ws', g1, g2, g3⟩, hF⟩, stp⟩ | ⟨q, s0, t, T', L, E, ce, h0, X', hL, e1, e2, ⟨⟨V', hp, ws', g1, g2, g3⟩, hF⟩, hce, hcv, hcl, stp⟩
  · obtain ⟨k1, k2, k3⟩ := vx_keep h0 e1 h.2.2.2.2.1 (fun q _ z => hA q z) hA hL hF
    obtain rfl := Outcome.returned.inj hv
    obtain ⟨t2, a1, b1⟩ := kk r V' hp T'.heap (locs ++ L) ls ws' ⟨g1, h.2.1, by rw [e1]; exact g2, g3.weaken (fun _ _ _ z => hA _ z), k3, h.2.2.2.2.2⟩ T' rfl X'
    exact ⟨t2, stp t2 a1, b1⟩
  · obtain ⟨k1, k2, k3⟩ := vx_keep h0 e1 h.2.2.2.2.1 (fun q _ z => hA q z) hA hL hF
    obtain ⟨t2, a1, b1⟩ := kx E V' hp T'.heap (locs ++ L) ls ws' ce q ⟨g1, h.2.1, by rw [e1]; exact g2, g3.weaken (fun _ _ _ z => hA _ z), k3, h.2.2.2.2.2⟩ (by rw [e1]; exact hce) hcv hcl T' rfl X'
    exact ⟨t2, stp.trans a1, b1⟩
theorem z_callV (C : zC l D Γ own nm cc nL ret tab) {ρ : Type} {enc : ρ → Option Value} {Post : ρ → ZV → Prop} {PX : String → ZV → Prop} {y : MethodName} {bytes : ByteArray} {maxL : Nat} {rt : Option FieldType} {h9 mc ms hR MC MS n index : Nat} {As : List Value} {st0 : List Value} {ci : Nat} {Cn : String} {T : u_T} {N : Nat} {ty : Nat → FieldType} (K : zCls ci Cn T N ty) {b : Nat} {fs : List Value} (hV : V b = some (.inr (ci, fs))) (hM : ZM l D y (ws_ y bytes maxL rt) h9 mc ms enc V (.ref b :: As) Post PX) (hL : GoodIn lw_all (wsV own index Cn y (ws_ y bytes maxL rt))) (hy : y.cls = Cn) (hd : y.cls ≠ "java/lang/invoke/MethodHandle" ∧ y.cls ≠ "java/lang/invoke/VarHandle" ∧ (parseMethodDescriptor y.desc).map (fun d => d.parameters.length) = some n) (hn : As.length = n) (hw : (st.map fun v => v.category).sum ≤ 8) (hh9 : h9 < hR) (hm : maxL ≤ 41) (hc : kc + mc ≤ MC) (hs : ks + ms ≤ MS) (hst : st0 = As.reverse ++ .ref b :: st) (d : decode cc pc = .ok (.invokevirtual index, 3)) (kx : ∀ E V', PX E V' → ZX l D Γ (zr hR MC MS) pc lv st V' (kc + mc) (ks + ms) E) (kk : ∀ r V', Post r V' → ZW l D Γ (zr hR MC MS) (pc + 3) lv ((enc r).toList ++ st) V' (kc + mc) (ks + ms)) : ZW l D Γ (zr hR MC MS) pc lv st0 V kc ks := by
  intro H locs ls ws h
  subst hst
  exact z_back C h (vx_runV (zfix C) (hM C.tr ws H.size h.1) (cwV n C.ts hL rfl rfl rfl ⟨hy, hd⟩ ⟨(show h9 + 1 ≤ hR from hh9), (show 8 + (maxL + 11) + 60 * h9 ≤ 60 * hR by omega)⟩) ⟨zPc_blind ws _ _, zrecv C K hV h, zPc_at C h _⟩ rfl hn (h.2.2.2.2.2.1.trans C.ml) rfl (lv_room hw) d ⟨hc, hs⟩) kx kk
theorem z_callS (C : zC l D Γ own nm cc nL ret tab) {ρ : Type} {enc : ρ → Option Value} {Post : ρ → ZV → Prop} {PX : String → ZV → Prop} {y : MethodName} {bytes : ByteArray} {maxL : Nat} {rt : Option FieldType} {h9 mc ms hR MC MS n index : Nat} {As : List Value} {st0 : List Value}  (hM : ZM l D y (ws_ y bytes maxL rt) h9 mc ms enc V (As) Post PX) (hL : GoodIn lw_all (va_wsS own index y (ws_ y bytes maxL rt))) (hd : y.cls ≠ "java/lang/invoke/MethodHandle" ∧ y.cls ≠ "java/lang/invoke/VarHandle" ∧ (parseMethodDescriptor y.desc).map (fun d => d.parameters.length) = some n) (hn : As.length = n) (hw : (st.map fun v => v.category).sum ≤ 8) (hh9 : h9 < hR) (hm : maxL ≤ 41) (hc : kc + mc ≤ MC) (hs : ks + ms ≤ MS) (hst : st0 = As.reverse ++ st) (d : decode cc pc = .ok (.invokestatic index, 3)) (kx : ∀ E V', PX E V' → ZX l D Γ (zr hR MC MS) pc lv st V' (kc + mc) (ks + ms) E) (kk : ∀ r V', Post r V' → ZW l D Γ (zr hR MC MS) (pc + 3) lv ((enc r).toList ++ st) V' (kc + mc) (ks + ms)) : ZW l D Γ (zr hR MC MS) pc lv st0 V kc ks := by
  intro H locs ls ws h
  subst hst
  exact z_back C h (vx_runS (zfix C) (hM C.tr ws H.size h.1) (va_cwS n C.ts hL rfl rfl rfl hd ⟨(show h9 + 1 ≤ hR from hh9), (show 8 + (maxL + 11) + 60 * h9 ≤ 60 * hR by omega)⟩) ⟨zPc_blind ws _ _, zPc_at C h _⟩ rfl hn (h.2.2.2.2.2.1.trans C.ml) rfl (lv_room hw) d ⟨hc, hs⟩) kx kk
theorem z_callI (C : zC l D Γ own nm cc nL ret tab) {ρ : Type} {enc : ρ → Option Value} {Post : ρ → ZV → Prop} {PX : String → ZV → Prop} {y : MethodName} {bytes : ByteArray} {maxL : Nat} {rt : Option FieldType} {h9 mc ms hR MC MS n index : Nat} {As : List Value} {st0 : List Value} {b : Nat} (hM : ZM l D y (ws_ y bytes maxL none) h9 mc ms enc V (.ref b :: As) Post PX) (hcd : Cond.code y bytes maxL none ∈ lw_all) (hini : Cond.initialized y.cls ∈ lw_all) (hlk : Cond.methodLink own index y ∈ lw_all) (hin : Cond.instanceMethod y ∈ lw_all) (hy1 : y.name = "<init>") (hd : y.cls ≠ "java/lang/invoke/MethodHandle" ∧ y.cls ≠ "java/lang/invoke/VarHandle" ∧ (parseMethodDescriptor y.desc).map (fun d => d.parameters.length) = some n) (hn : As.length = n) (hw : (st.map fun v => v.category).sum ≤ 8) (hh9 : h9 < hR) (hm : maxL ≤ 41) (hc : kc + mc ≤ MC) (hs : ks + ms ≤ MS) (hst : st0 = As.reverse ++ .ref b :: st) (d : decode cc pc = .ok (.invokespecial index, 3)) (kx : ∀ E V', PX E V' → ZX l D Γ (zr hR MC MS) pc lv st V' (kc + mc) (ks + ms) E) (kk : ∀ r V', Post r V' → ZW l D Γ (zr hR MC MS) (pc + 3) lv ((enc r).toList ++ st) V' (kc + mc) (ks + ms)) : ZW l D Γ (zr hR MC MS) pc lv st0 V kc ks := by
  intro H locs ls ws h
  subst hst
  exact z_back C h (vx_runI (zfix C) (hM C.tr ws H.size h.1) (cwI n C.ts (lw_meth hcd) rfl rfl rfl (C.ts _ hini) (C.ts _ hlk) (C.ts _ hin) hy1 hd ⟨(show h9 + 1 ≤ hR from hh9), (show 8 + (maxL + 11) + 60 * h9 ≤ 60 * hR by omega)⟩) ⟨zPc_blind ws _ _, zPc_at C h _⟩ rfl hn (h.2.2.2.2.2.1.trans C.ml) rfl (lv_room hw) d ⟨hc, hs⟩) kx kk
theorem z_callIN (C : zC l D Γ own nm cc nL ret tab) {ρ : Type} {enc : ρ → Option Value} {Post : ρ → ZV → Prop} {PX : String → ZV → Prop} {y : MethodName} {bytes : ByteArray} {maxL : Nat} {rt : Option FieldType} {h9 mc ms hR MC MS n index : Nat} {As : List Value} {st0 : List Value} {host : String} {b : Nat} (hM : ZM l D y (ws_ y bytes maxL none) h9 mc ms enc V (.ref b :: As) Post PX) (hcd : Cond.code y bytes maxL none ∈ lw_all) (hini : Cond.initialized y.cls ∈ lw_all) (hlk : Cond.methodLinkNest own index y host ∈ lw_tbl) (hin : Cond.instanceMethod y ∈ lw_all) (hy1 : y.name = "<init>") (hd : y.cls ≠ "java/lang/invoke/MethodHandle" ∧ y.cls ≠ "java/lang/invoke/VarHandle" ∧ (parseMethodDescriptor y.desc).map (fun d => d.parameters.length) = some n) (hn : As.length = n) (hw : (st.map fun v => v.category).sum ≤ 8) (hh9 : h9 < hR) (hm : maxL ≤ 41) (hc : kc + mc ≤ MC) (hs : ks + ms ≤ MS) (hst : st0 = As.reverse ++ .ref b :: st) (d : decode cc pc = .ok (.invokespecial index, 3)) (kx : ∀ E V', PX E V' → ZX l D Γ (zr hR MC MS) pc lv st V' (kc + mc) (ks + ms) E) (kk : ∀ r V', Post r V' → ZW l D Γ (zr hR MC MS) (pc + 3) lv ((enc r).toList ++ st) V' (kc + mc) (ks + ms)) : ZW l D Γ (zr hR MC MS) pc lv st0 V kc ks := by
  intro H locs ls ws h
  subst hst
  exact z_back C h (vx_runIN (zfix C) (hM C.tr ws H.size h.1) (⟨va_cnB n C.ts (lw_meth hcd) rfl rfl rfl (C.w hlk rfl) (C.ts _ hini) hd ⟨(show h9 + 1 ≤ hR from hh9), (show 8 + (maxL + 11) + 60 * h9 ≤ 60 * hR by omega)⟩, hy1, C.ts _ hin⟩) ⟨zPc_blind ws _ _, zPc_at C h _⟩ rfl hn (h.2.2.2.2.2.1.trans C.ml) rfl (lv_room hw) d ⟨hc, hs⟩) kx kk
theorem z_callU (C : zC l D Γ own nm cc nL ret tab) {ρ : Type} {enc : ρ → Option Value} {Post : ρ → ZV → Prop} {PX : String → ZV → Prop} {y : MethodName} {bytes : ByteArray} {maxL : Nat} {rt : Option FieldType} {h9 mc ms hR MC MS n index : Nat} {As : List Value} {st0 : List Value} {ci : Nat} {Cn : String} {T : u_T} {N : Nat} {ty : Nat → FieldType} (K : zCls ci Cn T N ty) {b : Nat} {fs : List Value} (hV : V b = some (.inr (ci, fs))) (hM : ZM l D y (ws_ y bytes maxL rt) h9 mc ms enc V (.ref b :: As) Post PX) {x : MethodName} {owner : String} (hL : GoodIn lw_all (va_wsU own index Cn owner x y (ws_ y bytes maxL rt))) (hyx : y = ⟨owner, x.name, x.desc⟩) (hd : owner ≠ "java/lang/invoke/MethodHandle" ∧ owner ≠ "java/lang/invoke/VarHandle" ∧ (parseMethodDescriptor x.desc).map (fun d => d.parameters.length) = some n) (hn : As.length = n) (hw : (st.map fun v => v.category).sum ≤ 8) (hh9 : h9 < hR) (hm : maxL ≤ 41) (hc : kc + mc ≤ MC) (hs : ks + ms ≤ MS) (hst : st0 = As.reverse ++ .ref b :: st) (d : decode cc pc = .ok (.invokevirtual index, 3)) (kx : ∀ E V', PX E V' → ZX l D Γ (zr hR MC MS) pc lv st V' (kc + mc) (ks + ms) E) (kk : ∀ r V', Post r V' → ZW l D Γ (zr hR MC MS) (pc + 3) lv ((enc r).toList ++ st) V' (kc + mc) (ks + ms)) : ZW l D Γ (zr hR MC MS) pc lv st0 V kc ks := by
  intro H locs ls ws h
  subst hst
  exact z_back C h (vx_runU (zfix C) (hM C.tr ws H.size h.1) (va_cwU n C.ts hL rfl rfl rfl hyx hd ⟨(show h9 + 1 ≤ hR from hh9), (show 8 + (maxL + 11) + 60 * h9 ≤ 60 * hR by omega)⟩) ⟨zPc_blind ws _ _, zrecv C K hV h, zPc_at C h _⟩ rfl hn (h.2.2.2.2.2.1.trans C.ml) rfl (lv_room hw) d ⟨hc, hs⟩) kx kk
theorem z_callO (C : zC l D Γ own nm cc nL ret tab) {ρ : Type} {enc : ρ → Option Value} {Post : ρ → ZV → Prop} {PX : String → ZV → Prop} {y : MethodName} {bytes : ByteArray} {maxL : Nat} {rt : Option FieldType} {h9 mc ms hR MC MS n index : Nat} {As : List Value} {st0 : List Value} {ci : Nat} {Cn : String} {T : u_T} {N : Nat} {ty : Nat → FieldType} (K : zCls ci Cn T N ty) {b : Nat} {fs : List Value} (hV : V b = some (.inr (ci, fs))) (hM : ZM l D y (ws_ y bytes maxL rt) h9 mc ms enc V (.ref b :: As) Post PX) {x : MethodName} {owner : String} (hL : GoodIn lw_all (va_wsO own index Cn owner x y (ws_ y bytes maxL rt))) {b0 : ByteArray} {m0 : Nat} {r0 : Option FieldType} (h0 : Cond.code ⟨owner, x.name, x.desc⟩ b0 m0 r0 ∈ lw_all) (hd : owner ≠ "java/lang/invoke/MethodHandle" ∧ owner ≠ "java/lang/invoke/VarHandle" ∧ (parseMethodDescriptor x.desc).map (fun d => d.parameters.length) = some n) (hn : As.length = n) (hw : (st.map fun v => v.category).sum ≤ 8) (hh9 : h9 < hR) (hm : maxL ≤ 41) (hc : kc + mc ≤ MC) (hs : ks + ms ≤ MS) (hst : st0 = As.reverse ++ .ref b :: st) (d : decode cc pc = .ok (.invokevirtual index, 3)) (kx : ∀ E V', PX E V' → ZX l D Γ (zr hR MC MS) pc lv st V' (kc + mc) (ks + ms) E) (kk : ∀ r V', Post r V' → ZW l D Γ (zr hR MC MS) (pc + 3) lv ((enc r).toList ++ st) V' (kc + mc) (ks + ms)) : ZW l D Γ (zr hR MC MS) pc lv st0 V kc ks := by
  intro H locs ls ws h
  subst hst
  exact z_back C h (vx_runU (zfix C) (hM C.tr ws H.size h.1) (va_cwO n C.ts hL rfl rfl rfl h0 hd ⟨(show h9 + 1 ≤ hR from hh9), (show 8 + (maxL + 11) + 60 * h9 ≤ 60 * hR by omega)⟩) ⟨zPc_blind ws _ _, zrecv C K hV h, zPc_at C h _⟩ rfl hn (h.2.2.2.2.2.1.trans C.ml) rfl (lv_room hw) d ⟨hc, hs⟩) kx kk
theorem z_callA (C : zC l D Γ own nm cc nL ret tab) {ρ : Type} {enc : ρ → Option Value} {Post : ρ → ZV → Prop} {PX : String → ZV → Prop} {y : MethodName} {bytes : ByteArray} {maxL : Nat} {rt : Option FieldType} {h9 mc ms hR MC MS n index : Nat} {As : List Value} {st0 : List Value} {ci : Nat} {Cn : String} {T : u_T} {N : Nat} {ty : Nat → FieldType} (K : zCls ci Cn T N ty) {b : Nat} {fs : List Value} (hV : V b = some (.inr (ci, fs))) (hM : ZM l D y (ws_ y bytes maxL rt) h9 mc ms enc V (.ref b :: As) Post PX) {x : MethodName} {owner : String} (hL : GoodIn lw_all (va_wsU own index Cn owner x y (ws_ y bytes maxL rt))) (hz : Cond.declares ⟨owner, x.name, x.desc⟩ ∈ lw_tbl) (hd : owner ≠ "java/lang/invoke/MethodHandle" ∧ owner ≠ "java/lang/invoke/VarHandle" ∧ (parseMethodDescriptor x.desc).map (fun d => d.parameters.length) = some n) (hn : As.length = n) (hw : (st.map fun v => v.category).sum ≤ 8) (hh9 : h9 < hR) (hm : maxL ≤ 41) (hc : kc + mc ≤ MC) (hs : ks + ms ≤ MS) (hst : st0 = As.reverse ++ .ref b :: st) (d : decode cc pc = .ok (.invokevirtual index, 3)) (kx : ∀ E V', PX E V' → ZX l D Γ (zr hR MC MS) pc lv st V' (kc + mc) (ks + ms) E) (kk : ∀ r V', Post r V' → ZW l D Γ (zr hR MC MS) (pc + 3) lv ((enc r).toList ++ st) V' (kc + mc) (ks + ms)) : ZW l D Γ (zr hR MC MS) pc lv st0 V kc ks := by
  intro H locs ls ws h
  subst hst
  exact z_back C h (vx_runU (zfix C) (hM C.tr ws H.size h.1) (va_cwA n C.ts hL rfl rfl rfl (C.w hz rfl) hd ⟨(show h9 + 1 ≤ hR from hh9), (show 8 + (maxL + 11) + 60 * h9 ≤ 60 * hR by omega)⟩) ⟨zPc_blind ws _ _, zrecv C K hV h, zPc_at C h _⟩ rfl hn (h.2.2.2.2.2.1.trans C.ml) rfl (lv_room hw) d ⟨hc, hs⟩) kx kk
theorem z_callF (C : zC l D Γ own nm cc nL ret tab) {ρ : Type} {enc : ρ → Option Value} {Post : ρ → ZV → Prop} {PX : String → ZV → Prop} {y : MethodName} {bytes : ByteArray} {maxL : Nat} {rt : Option FieldType} {h9 mc ms hR MC MS n index : Nat} {As : List Value} {st0 : List Value} {ci : Nat} {Cn : String} {T : u_T} {N : Nat} {ty : Nat → FieldType} (K : zCls ci Cn T N ty) {b : Nat} {fs : List Value} (hV : V b = some (.inr (ci, fs))) {count : Nat} (hM : ZM l D y (ws_ y bytes maxL rt) h9 mc ms enc V (.ref b :: As) Post PX) {x : MethodName} (hL : GoodIn lw_all (va_wsF own index Cn x y (ws_ y bytes maxL rt))) (hF : (Cn, x, y) ∈ zfw) (hd : x.cls ≠ "java/lang/invoke/MethodHandle" ∧ x.cls ≠ "java/lang/invoke/VarHandle" ∧ (parseMethodDescriptor x.desc).map (fun d => d.parameters.length) = some n) (hn : As.length = n) (hw : (st.map fun v => v.category).sum ≤ 8) (hh9 : h9 < hR) (hm : maxL ≤ 41) (hc : kc + mc ≤ MC) (hs : ks + ms ≤ MS) (hst : st0 = As.reverse ++ .ref b :: st) (d : decode cc pc = .ok (.invokeinterface index count, 5)) (kx : ∀ E V', PX E V' → ZX l D Γ (zr hR MC MS) pc lv st V' (kc + mc) (ks + ms) E) (kk : ∀ r V', Post r V' → ZW l D Γ (zr hR MC MS) (pc + 5) lv ((enc r).toList ++ st) V' (kc + mc) (ks + ms)) : ZW l D Γ (zr hR MC MS) pc lv st0 V kc ks := by
  intro H locs ls ws h
  subst hst
  exact z_back5 C h (vx_runF (zat C K) (zfix C) (hM C.tr ws H.size h.1) (va_cwF n C.ts hL rfl rfl rfl (C.S.1.2.2.1 _ hF) hd ⟨(show h9 + 1 ≤ hR from hh9), (show 8 + (maxL + 11) + 60 * h9 ≤ 60 * hR by omega)⟩) ⟨zPc_blind ws _ _, zrecv C K hV h, zPc_at C h _⟩ rfl hn (h.2.2.2.2.2.1.trans C.ml) rfl (lv_room hw) d ⟨hc, hs⟩) kx kk
theorem z_callFW (C : zC l D Γ own nm cc nL ret tab) {ρ : Type} {enc : ρ → Option Value} {Post : ρ → ZV → Prop} {PX : String → ZV → Prop} {y : MethodName} {bytes : ByteArray} {maxL : Nat} {rt : Option FieldType} {h9 mc ms hR MC MS n index : Nat} {As : List Value} {st0 : List Value} {hh : List (Nat × Nat × Nat × Nat)} {ci : Nat} {Cn : String} {T : u_T} {N : Nat} {ty : Nat → FieldType} (K : zCls ci Cn T N ty) {b : Nat} {fs : List Value} (hV : V b = some (.inr (ci, fs))) {count : Nat} (hM : ZM l D y (wsW_ y bytes maxL rt hh) h9 mc ms enc V (.ref b :: As) Post PX) {x : MethodName} (hL : GoodIn lw_all (va_wsF own index Cn x y (wsW_ y bytes maxL rt hh))) (hF : (Cn, x, y) ∈ zfw) (hd : x.cls ≠ "java/lang/invoke/MethodHandle" ∧ x.cls ≠ "java/lang/invoke/VarHandle" ∧ (parseMethodDescriptor x.desc).map (fun d => d.parameters.length) = some n) (hn : As.length = n) (hw : (st.map fun v => v.category).sum ≤ 8) (hh9 : h9 < hR) (hm : maxL ≤ 41) (hc : kc + mc ≤ MC) (hs : ks + ms ≤ MS) (hst : st0 = As.reverse ++ .ref b :: st) (d : decode cc pc = .ok (.invokeinterface index count, 5)) (kx : ∀ E V', PX E V' → ZX l D Γ (zr hR MC MS) pc lv st V' (kc + mc) (ks + ms) E) (kk : ∀ r V', Post r V' → ZW l D Γ (zr hR MC MS) (pc + 5) lv ((enc r).toList ++ st) V' (kc + mc) (ks + ms)) : ZW l D Γ (zr hR MC MS) pc lv st0 V kc ks := by
  intro H locs ls ws h
  subst hst
  exact z_back5 C h (vx_runFW (zat C K) (zfix C) (hM C.tr ws H.size h.1) (va_cwFW n C.ts hL rfl rfl rfl (C.S.1.2.2.1 _ hF) hd ⟨(show h9 + 1 ≤ hR from hh9), (show 8 + (maxL + 11) + 60 * h9 ≤ 60 * hR by omega)⟩) ⟨zPc_blind ws _ _, zrecv C K hV h, zPc_at C h _⟩ rfl hn (h.2.2.2.2.2.1.trans C.ml) rfl (lv_room hw) d ⟨hc, hs⟩) kx kk
theorem z_callSW (C : zC l D Γ own nm cc nL ret tab) {ρ : Type} {enc : ρ → Option Value} {Post : ρ → ZV → Prop} {PX : String → ZV → Prop} {y : MethodName} {bytes : ByteArray} {maxL : Nat} {rt : Option FieldType} {h9 mc ms hR MC MS n index : Nat} {As : List Value} {st0 : List Value} {hh : List (Nat × Nat × Nat × Nat)}  (hM : ZM l D y (wsW_ y bytes maxL rt hh) h9 mc ms enc V (As) Post PX) (hL : GoodIn lw_all (va_wsS own index y (wsW_ y bytes maxL rt hh))) (hd : y.cls ≠ "java/lang/invoke/MethodHandle" ∧ y.cls ≠ "java/lang/invoke/VarHandle" ∧ (parseMethodDescriptor y.desc).map (fun d => d.parameters.length) = some n) (hn : As.length = n) (hw : (st.map fun v => v.category).sum ≤ 8) (hh9 : h9 < hR) (hm : maxL ≤ 41) (hc : kc + mc ≤ MC) (hs : ks + ms ≤ MS) (hst : st0 = As.reverse ++ st) (d : decode cc pc = .ok (.invokestatic index, 3)) (kx : ∀ E V', PX E V' → ZX l D Γ (zr hR MC MS) pc lv st V' (kc + mc) (ks + ms) E) (kk : ∀ r V', Post r V' → ZW l D Γ (zr hR MC MS) (pc + 3) lv ((enc r).toList ++ st) V' (kc + mc) (ks + ms)) : ZW l D Γ (zr hR MC MS) pc lv st0 V kc ks := by
  intro H locs ls ws h
  subst hst
  exact z_back C h (vx_runSX (zfix C) (hM C.tr ws H.size h.1) (vx_cwSW n C.ts hL rfl rfl rfl hd ⟨(show h9 + 1 ≤ hR from hh9), (show 8 + (maxL + 11) + 60 * h9 ≤ 60 * hR by omega)⟩) ⟨zPc_blind ws _ _, zPc_at C h _⟩ rfl hn (h.2.2.2.2.2.1.trans C.ml) rfl (lv_room hw) d ⟨hc, hs⟩) kx kk
theorem z_iret (C : zC l D Γ own nm cc nL (some .int) tab) {ρ : Type} {enc : ρ → Option Value} {Post : ρ → ZV → Prop} {PX : String → ZV → Prop} {mc ms : Nat} (hQ : zT D Γ enc Post PX mc ms) {v : Int32} (r : ρ) (he : enc r = some (.int v)) (hp : Post r V) (hc : kc ≤ mc) (hs : ks ≤ ms) (d : decode cc pc = .ok (.ireturn, 1)) : ZW l D Γ R pc lv [.int v] V kc ks := by
  intro H locs ls ws h
  rw [hQ]
  refine vx_ret (W.widen hc hs ?_)
  exact W.iret C.x C.b C.r (fun t ht hW => ⟨⟨r, V, by rw [he], hp, ws, h.1, by rw [ht]; exact h.2.2.1, h.2.2.2.1⟩, h.2.2.2.2.1.F ht⟩) h.2.2.2.2.1.2.2 d C.lk
theorem z_zret {rt9 : FieldType} (C : zC l D Γ own nm cc nL (some rt9) tab) {ρ : Type} {enc : ρ → Option Value} {Post : ρ → ZV → Prop} {PX : String → ZV → Prop} {mc ms : Nat} (hQ : zT D Γ enc Post PX mc ms) {v : Int32} (r : ρ) (he : enc r = some (.int v)) (hn9 : narrow rt9 (.int v) = .int v) (hp : Post r V) (hc : kc ≤ mc) (hs : ks ≤ ms) (d : decode cc pc = .ok (.ireturn, 1)) : ZW l D Γ R pc lv [.int v] V kc ks := by
  intro H locs ls ws h
  rw [hQ]
  refine vx_ret (W.widen hc hs ?_)
  exact W.zret C.x C.b C.r hn9 (fun t ht hW => ⟨⟨r, V, by rw [he], hp, ws, h.1, by rw [ht]; exact h.2.2.1, h.2.2.2.1⟩, h.2.2.2.2.1.F ht⟩) h.2.2.2.2.1.2.2 d C.lk
theorem z_vret (C : zC l D Γ own nm cc nL none tab) {ρ : Type} {enc : ρ → Option Value} {Post : ρ → ZV → Prop} {PX : String → ZV → Prop} {mc ms : Nat} (hQ : zT D Γ enc Post PX mc ms) (r : ρ) (he : enc r = none) (hp : Post r V) (hc : kc ≤ mc) (hs : ks ≤ ms) (d : decode cc pc = .ok (.return_, 1)) : ZW l D Γ R pc lv [] V kc ks := by
  intro H locs ls ws h
  rw [hQ]
  refine vx_ret (W.widen hc hs ?_)
  exact W.vret C.x C.b C.r (fun t ht hW => ⟨⟨r, V, by rw [he], hp, ws, h.1, by rw [ht]; exact h.2.2.1, h.2.2.2.1⟩, h.2.2.2.2.1.F ht⟩) h.2.2.2.2.1.2.2 d C.lk
theorem z_lret (C : zC l D Γ own nm cc nL (some .long) tab) {ρ : Type} {enc : ρ → Option Value} {Post : ρ → ZV → Prop} {PX : String → ZV → Prop} {mc ms : Nat} (hQ : zT D Γ enc Post PX mc ms) {v : Int64} (r : ρ) (he : enc r = some (.long v)) (hp : Post r V) (hc : kc ≤ mc) (hs : ks ≤ ms) (d : decode cc pc = .ok (.lreturn, 1)) : ZW l D Γ R pc lv [.long v] V kc ks := by
  intro H locs ls ws h
  rw [hQ]
  refine vx_ret (W.widen hc hs ?_)
  exact W.lret C.x C.b C.r (fun t ht hW => ⟨⟨r, V, by rw [he], hp, ws, h.1, by rw [ht]; exact h.2.2.1, h.2.2.2.1⟩, h.2.2.2.2.1.F ht⟩) h.2.2.2.2.1.2.2 d C.lk
theorem z_fret (C : zC l D Γ own nm cc nL (some .float) tab) {ρ : Type} {enc : ρ → Option Value} {Post : ρ → ZV → Prop} {PX : String → ZV → Prop} {mc ms : Nat} (hQ : zT D Γ enc Post PX mc ms) {v : UInt32} (r : ρ) (he : enc r = some (.float v)) (hp : Post r V) (hc : kc ≤ mc) (hs : ks ≤ ms) (d : decode cc pc = .ok (.freturn, 1)) : ZW l D Γ R pc lv [.float v] V kc ks := by
  intro H locs ls ws h
  rw [hQ]
  refine vx_ret (W.widen hc hs ?_)
  exact W.fret C.x C.b C.r (fun t ht hW => ⟨⟨r, V, by rw [he], hp, ws, h.1, by rw [ht]; exact h.2.2.1, h.2.2.2.1⟩, h.2.2.2.2.1.F ht⟩) h.2.2.2.2.1.2.2 d C.lk
theorem z_aret {rt9 : FieldType} (C : zC l D Γ own nm cc nL (some rt9) tab) {ρ : Type} {enc : ρ → Option Value} {Post : ρ → ZV → Prop} {PX : String → ZV → Prop} {mc ms : Nat} (hQ : zT D Γ enc Post PX mc ms) {v : Nat} (r : ρ) (he : enc r = some (.ref v)) (hrt9 : (∃ n, rt9 = .object n) ∨ ∃ t, rt9 = .array t) (hp : Post r V) (hc : kc ≤ mc) (hs : ks ≤ ms) (d : decode cc pc = .ok (.areturn, 1)) : ZW l D Γ R pc lv [.ref v] V kc ks := by
  intro H locs ls ws h
  rw [hQ]
  refine vx_ret (W.widen hc hs ?_)
  exact W.aret C.x C.b C.r hrt9 (Or.inr ⟨_, rfl⟩) (fun t ht hW => ⟨⟨r, V, by rw [he], hp, ws, h.1, by rw [ht]; exact h.2.2.1, h.2.2.2.1⟩, h.2.2.2.2.1.F ht⟩) h.2.2.2.2.1.2.2 d C.lk
theorem z_aretN {rt9 : FieldType} (C : zC l D Γ own nm cc nL (some rt9) tab) {ρ : Type} {enc : ρ → Option Value} {Post : ρ → ZV → Prop} {PX : String → ZV → Prop} {mc ms : Nat} (hQ : zT D Γ enc Post PX mc ms) (r : ρ) (he : enc r = some .null) (hrt9 : (∃ n, rt9 = .object n) ∨ ∃ t, rt9 = .array t) (hp : Post r V) (hc : kc ≤ mc) (hs : ks ≤ ms) (d : decode cc pc = .ok (.areturn, 1)) : ZW l D Γ R pc lv [.null] V kc ks := by
  intro H locs ls ws h
  rw [hQ]
  refine vx_ret (W.widen hc hs ?_)
  exact W.aret C.x C.b C.r hrt9 (Or.inl rfl) (fun t ht hW => ⟨⟨r, V, by rw [he], hp, ws, h.1, by rw [ht]; exact h.2.2.1, h.2.2.2.1⟩, h.2.2.2.2.1.F ht⟩) h.2.2.2.2.1.2.2 d C.lk
theorem z_aretQ {rt9 : FieldType} (C : zC l D Γ own nm cc nL (some rt9) tab) {ρ : Type} {enc : ρ → Option Value} {Post : ρ → ZV → Prop} {PX : String → ZV → Prop} {mc ms : Nat} (hQ : zT D Γ enc Post PX mc ms) {v : Option Nat} (r : ρ) (he : enc r = some (va_rf v)) (hrt9 : (∃ n, rt9 = .object n) ∨ ∃ t, rt9 = .array t) (hp : Post r V) (hc : kc ≤ mc) (hs : ks ≤ ms) (d : decode cc pc = .ok (.areturn, 1)) : ZW l D Γ R pc lv [va_rf v] V kc ks := by
  cases v with
  | none => exact z_aretN C hQ r he hrt9 hp hc hs d
  | some x => exact z_aret C hQ r he hrt9 hp hc hs d
/-- 'throw new E()' -/
theorem z_throw (C : zC l D Γ own nm cc nL ret tab) {ρ : Type} {enc : ρ → Option Value} {Post : ρ → ZV → Prop} {PX : String → ZV → Prop} {mc ms : Nat} (hQ : zT D Γ enc Post PX mc ms) {hR MC MS : Nat} {cls : String} {names : List String} {ik ic : Nat} (hcls : Bundle.fit cls = true) (hnames : ∀ n ∈ names, Bundle.fit n = true) (hk : Cond.classLink own ik cls ∈ lw_all) (hini : Cond.initialized cls ∈ lw_all)
    (hat : ∀ w ∈ vx_at0 own ic cls names, w ∈ lw_tbl) (hkd : (vx_at0 own ic cls names).all (fun w => goodWord w || zkd w) = true) (hgood : (Cond.classLink own ik cls :: Cond.initialized cls :: vx_at0 own ic cls names).all vx_ot = true)
    (d0 : decode cc pc = .ok (.new ik, 3)) (d3 : decode cc (pc + 3) = .ok (.dup, 1)) (d4 : decode cc (pc + 4) = .ok (.invokespecial ic, 3)) (d7 : decode cc (pc + 7) = .ok (.athrow, 1)) (hout : ∀ x ∈ tab, covers x (pc + 7) = false)
    (hf : names.length + 3 < hR) (hl : (st.map fun v => v.category).sum + (13 * (names.length + 1) + 42) ≤ 60 * hR) (hC : kc + 1 ≤ MC) (hS9 : ks + 6 ≤ MS) (hc : kc + 1 ≤ mc) (hs : ks + 6 ≤ ms) (hp : PX cls V) : ZW l D Γ (zr hR MC MS) pc lv st V kc ks := by
  intro H locs ls ws h
  rw [hQ]
  have hw : ∀ w ∈ vx_at0 own ic cls names, w.before Γ.a Γ.s = true := by
    intro w hw
    have h1 := List.all_eq_true.mp hkd w hw
    cases hg : goodWord w with
    | true => exact C.ts w (List.mem_filter.mpr ⟨hat w hw, hg⟩)
    | false =>
      rw [hg] at h1
      exact zkd_use h1 (C.w (hat w hw) h1)
  refine vx_throw0 C.x C.b C.tr C.ow hcls hnames (C.ts _ hk) (C.ts _ hini) hw (fun w hw => List.all_eq_true.mp hgood w hw) C.S.2.1.1 C.S.2.1.2 h.2.2.2.2.1 h.2.2.2.2.2.1 d0 d3 d4 d7 (fun x hx => hout x (by rw [← C.tb]; exact hx)) hf hl hC hS9 C.lk (fun t ht hz hq => ⟨⟨V, hp, ws, h.1, ?_, h.2.2.2.1⟩, ?_⟩) h.2.2.2.2.1.2.2 hc hs
  · exact h.2.2.1.kept (fun k q hk => hq q.1 (h.2.2.1 k q hk).lt)
  · exact ⟨Nat.le_trans h.2.2.2.2.1.1 hz, fun q h1 h2 => (hq q (Nat.lt_of_lt_of_le h1 h.2.2.2.2.1.1)).trans (h.2.2.2.2.1.2.1 q h1 h2)⟩
/-- an exception that leaves the method (no handler here) -/
theorem z_out (C : zC l D Γ own nm cc nL ret tab) {ρ : Type} {enc : ρ → Option Value} {Post : ρ → ZV → Prop} {PX : String → ZV → Prop} {mc ms : Nat} (hQ : zT D Γ enc Post PX mc ms) {E : String} (hout : ∀ x ∈ tab, covers x pc = false) (hp : PX E V) (hc : kc ≤ mc) (hs : ks ≤ ms) : ZX l D Γ R pc lv st V kc ks E := by
  intro H locs ls ws ce q h h1 h2 h3
  rw [hQ]
  exact vx_out (fun x hx => hout x (by rw [← C.tb]; exact hx)) C.lk h1 h2 h3 (fun t ht hW => ⟨⟨V, hp, ws, h.1, by rw [ht]; exact h.2.2.1, h.2.2.2.1⟩, h.2.2.2.2.1.F ht⟩) h.2.2.2.2.1.2.2 hc hs
theorem z_wideX (kc' ks' : Nat) (h1 : kc ≤ kc') (h2 : ks ≤ ks') {E : String} (kk : ZX l D Γ R pc lv st V kc' ks' E) : ZX l D Γ R pc lv st V kc ks E := fun H locs ls ws ce q h a b c => vx_widen h1 h2 (kk H locs ls ws ce q h a b c)
/-- caught: by the row x of the table, past rows that don't take it -/
theorem z_catch (C : zC l D Γ own nm cc nL ret tab) {E name : String} (pre : List ExceptionTableEntry) (x : ExceptionTableEntry) (suf : List ExceptionTableEntry) (hsplit : tab = pre ++ x :: suf) (hpass : ∀ z ∈ pre, covers z pc = false ∨ (z.catchType ≠ 0 ∧ ∃ nm2 : String, Cond.classLink own z.catchType nm2 ∈ lw_all ∧ (E, nm2) ∈ zno)) (hx : covers x pc = true) (h0 : x.catchType ≠ 0) (hq : Cond.classLink own x.catchType name ∈ lw_all) (hc : Cond.castable E name ∈ lw_tbl) (tgt : Nat) (ht : x.handlerPc = tgt) (kk : ∀ q, ZW l D Γ R tgt lv [.ref q] V kc ks) : ZX l D Γ R pc lv st V kc ks E := by
  subst ht
  intro H locs ls ws ce q h h1 h2 h3
  exact vx_catch C.ow pre x suf (C.tb.trans hsplit) (fun z hz => (hpass z hz).imp id (fun ⟨a, nm2, b, c⟩ => ⟨a, nm2, C.ts _ b, C.S.1.2.2.2.2.2 _ c⟩)) hx h0 (C.ts _ hq) (va_Nw.use rfl (C.w hc rfl)) h1 h2 h3 (kk q H locs ls ws h)
end Z
section ZENT
variable {ρ : Type} {l : Launch} {D : ZD} {y : MethodName} {cc : ByteArray} {nL h mc ms : Nat} {ret : Option FieldType} {enc : ρ → Option Value} {V : ZV} {as : List Value} {Post : ρ → ZV → Prop} {PX : String → ZV → Prop}
theorem zcat_nil : zcat [] := fun _ h => nomatch h
theorem zcat_cons {i : Nat} {v : Value} {lv : List (Nat × Value)} (h : v.category = 1) (t : zcat lv) : zcat ((i, v) :: lv) := fun q hq => by
  rcases List.mem_cons.mp hq with e | e
  · rw [e]; exact h
  · exact t q e
/-- a method's body, from its entry -/
theorem z_enter (hy : plainName y.cls = true) (lv0 : List (Nat × Value)) (hlv : lv_args 0 as = lv0) (hn : (lg_sl as).length ≤ nL) (hcat : zcat lv0)
    (body : ∀ Γ : ZG, zC l D Γ y.cls y.name cc nL ret [] → zT D Γ enc Post PX mc ms → ZW l D Γ (zr h mc ms) 0 lv0 [] V 0 0) : ZM l D y (ws_ y cc nL ret) h mc ms enc V as Post PX := by
  intro hl ws sz hR
  refine vx_ofW (cc := cc) (maxL := nL) (ret := ret) hy rfl ?_
  intro p e s m args below meth c s1 B hml ht hv
  obtain ⟨rfl, hsz, hP, hD, hS⟩ := hv
  subst hsz
  have hts := atoms_spec (ws := ws_ y cc nL ret) B.pre
  have hts : ∀ w ∈ lw_all, w.before _ s = true := fun w h => hts w (List.mem_cons_of_mem _ h)
  have C : zC l D (p, e, s, m, as.toArray, below, meth, c, vx_MQ below (zQc D enc Post (va_A ws s.heap.size)) (zXC D PX (va_A ws s.heap.size)) as.toArray s mc ms (va_A ws s.heap.size), va_A ws s.heap.size) y.cls y.name cc nL ret [] :=
    ⟨B.exec, B.bytes, hml, findClass_of_methodNamed B.named, hts, B.returns, B.notSynchronized, (name_of_methodNamed B.named B.method).1, List.eq_nil_iff_forall_not_mem.mpr ht, hl, hS, fun q h => Or.inr h⟩
  have hl9 := lv_entry as hn
  rw [lg_entry_eq]
  exact body _ C rfl s.heap [] _ ws ⟨hR, hcat, hP, hD.self, va_S.rf, by rw [hml, ← hlv]; exact hl9⟩
theorem z_enterH {hh : List (Nat × Nat × Nat × Nat)} (hy : plainName y.cls = true) (lv0 : List (Nat × Value)) (hlv : lv_args 0 as = lv0) (hn : (lg_sl as).length ≤ nL) (hcat : zcat lv0)
    (body : ∀ Γ : ZG, zC l D Γ y.cls y.name cc nL ret (tableOf hh) → zT D Γ enc Post PX mc ms → ZW l D Γ (zr h mc ms) 0 lv0 [] V 0 0) : ZM l D y (wsW_ y cc nL ret hh) h mc ms enc V as Post PX := by
  intro hl ws sz hR
  refine vx_ofWH (cc := cc) (maxL := nL) (ret := ret) (hh := hh) hy rfl ?_
  intro p e s m args below meth c s1 B hml hv
  obtain ⟨rfl, hsz, hP, hD, hS⟩ := hv
  subst hsz
  have hts0 := atoms_spec (ws := wsW_ y cc nL ret hh) B.pre
  have hts : ∀ w ∈ lw_all, w.before _ s = true := fun w h => hts0 w (List.mem_cons_of_mem _ h)
  have ht := vx_table (x := y) B (hts0 _ List.mem_cons_self)
  have C : zC l D (p, e, s, m, as.toArray, below, meth, c, vx_MQ below (zQc D enc Post (va_A ws s.heap.size)) (zXC D PX (va_A ws s.heap.size)) as.toArray s mc ms (va_A ws s.heap.size), va_A ws s.heap.size) y.cls y.name cc nL ret (tableOf hh) :=
    ⟨B.exec, B.bytes, hml, findClass_of_methodNamed B.named, hts, B.returns, B.notSynchronized, (name_of_methodNamed B.named B.method).1, ht, hl, hS, fun q h => Or.inr h⟩
  have hl9 := lv_entry as hn
  rw [lg_entry_eq]
  exact body _ C rfl s.heap [] _ ws ⟨hR, hcat, hP, hD.self, va_S.rf, by rw [hml, ← hlv]; exact hl9⟩
end ZENT
/-! answers -/
abbrev eU : Unit → Option Value := fun _ => none
abbrev eI : Int32 → Option Value := fun x => some (.int x)
abbrev eN : Nat → Option Value := fun n => some (.int (nI n))
abbrev eB : Bool → Option Value := fun b => some (.int (zb b))
abbrev eR : Nat → Option Value := fun a => some (.ref a)
abbrev eO : Option Nat → Option Value := fun r => some (va_rf r)
abbrev eL : Int64 → Option Value := fun x => some (.long x)
abbrev eF : UInt32 → Option Value := fun x => some (.float x)
section ZWN
theorem z_nV {l : Launch} {D : ZD} {Γ : ZG} {R : Room} {pc : Nat} {lv : List (Nat × Value)} {st : List Value} {V : ZV} {kc ks : Nat} (kk : ∀ V' : ZV, V' = V → ZW l D Γ R pc lv st V' kc ks) : ZW l D Γ R pc lv st V kc ks := kk V rfl
variable {V V' : ZV} {a x : Nat} {e r : Option va_E}
theorem zup (h : V' = va_up V a e) (hx : x ≠ a) (hr : V x = r) : V' x = r := by
  rw [h]; unfold va_up; rw [if_neg hx]; exact hr
theorem zself (h : V' = va_up V a e) : V' a = e := by
  rw [h]; unfold va_up; rw [if_pos rfl]
theorem zne_cc {i j : Nat} {fs gs : List Value} (h1 : V x = some (.inr (i, fs))) (h2 : V a = some (.inr (j, gs))) (hij : i ≠ j) : x ≠ a := fun z => by
  rw [z, h2] at h1; cases h1; exact hij rfl
theorem zne_oa {i : Nat} {fs : List Value} {y : ClassId × vp_A} (h1 : V x = some (.inr (i, fs))) (h2 : V a = some (.inl y)) : x ≠ a := fun z => by
  rw [z, h2] at h1; cases h1
theorem zne_ao {i : Nat} {fs : List Value} {y : ClassId × vp_A} (h1 : V x = some (.inl y)) (h2 : V a = some (.inr (i, fs))) : x ≠ a := fun z => by
  rw [z, h2] at h1; cases h1
theorem zne_len {c d : ClassId} {n m : Nat} {p q : (Nat → Int32) ⊕ (Nat → Int64) ⊕ (Nat → UInt32) ⊕ (Nat → UInt64) ⊕ (Nat → Option Nat)} (h1 : V x = some (.inl (c, n, p))) (h2 : V a = some (.inl (d, m, q))) (hnm : n ≠ m) : x ≠ a := fun z => by
  rw [z, h2] at h1; cases h1; exact hnm rfl
theorem zne_k {c d : ClassId} {n m : Nat} {p q : (Nat → Int32) ⊕ (Nat → Int64) ⊕ (Nat → UInt32) ⊕ (Nat → UInt64) ⊕ (Nat → Option Nat)} (h1 : V x = some (.inl (c, n, p))) (h2 : V a = some (.inl (d, m, q))) (hpq : p ≠ q) : x ≠ a := fun z => by
  rw [z, h2] at h1; cases h1; exact hpq rfl
theorem zne_new {f : va_E} (h1 : V x = some f) (h2 : V a = none) : x ≠ a := fun z => by
  rw [z, h2] at h1; cases h1
theorem zb_vp (b : Bool) : vp_nar .boolean (zb b) = zb b := by cases b <;> rfl
end ZWN
theorem k_Q : zCls 0 RX1 TX1 11 tyX1 := ⟨rfl, in_X1, tyX1_ok, nmX1⟩
theorem k_Y : zCls 1 RX2 TX2 2 tyX2 := ⟨rfl, in_X2, tyX2_ok, nmX2⟩
theorem k_M : zCls 2 RX3 TX3 19 tyX3 := ⟨rfl, in_X3, tyX3_ok, nmX3⟩
theorem k_B : zCls 3 RX4 TX4 4 tyX4 := ⟨rfl, in_X4, tyX4_ok, nmX4⟩
theorem k_MP : zCls 4 RX5 TX5 0 tyX5 := ⟨rfl, fun w h => by simp [u_ws] at h, fun k h => by omega, fun a h => by omega⟩
theorem k_P : zCls 5 RX6 TX6 4 tyX6 := ⟨rfl, in_X6, tyX6_ok, nmX6⟩
theorem k_S : zCls 6 RX7 TX7 2 tyX7 := ⟨rfl, in_X7, tyX7_ok, nmX7⟩
theorem k_A : zCls 7 RX8 TX8 4 tyX8 := ⟨rfl, in_X8, tyX8_ok, nmX8⟩
theorem k_AL : zCls 8 RJ2 TJ2 3 tyJ2 := ⟨rfl, in_J2, tyJ2_ok, nmJ2⟩
theorem k_TM : zCls 9 RJ4 TJ4 9 tyJ4 := ⟨rfl, in_J4, tyJ4_ok, nmJ4⟩
theorem k_It : zCls 10 RJ15 TJ15 4 tyJ15 := ⟨rfl, in_J15, tyJ15_ok, nmJ15⟩
theorem k_PQ : zCls 11 RJ21 TJ21 4 tyJ21 := ⟨rfl, in_J21, tyJ21_ok, nmJ21⟩
theorem k_E : zCls 12 RJ24 TJ24 6 tyJ24 := ⟨rfl, in_J24, tyJ24_ok, nmJ24⟩
theorem k_SI : zCls 13 RJ27 TJ27 2 tyJ27 := ⟨rfl, in_J27, tyJ27_ok, nmJ27⟩
theorem k_I : zCls 14 RJ19 TJ19 1 tyJ19 := ⟨rfl, in_J19, tyJ19_ok, nmJ19⟩
theorem k0_Q : ∀ j, j < 11 → defaultValue (tyX1 j) = vp_V [.null, .null, .null, .null, .null, .int 0, .int 0, .int 0, .int 0, .int 0, .long 0] j := by
  intro j h
  rcases (show j = 0 ∨ j = 1 ∨ j = 2 ∨ j = 3 ∨ j = 4 ∨ j = 5 ∨ j = 6 ∨ j = 7 ∨ j = 8 ∨ j = 9 ∨ j = 10 by omega) with rfl | rfl | rfl | rfl | rfl | rfl | rfl | rfl | rfl | rfl | rfl <;> rfl
theorem k0_Y : ∀ j, j < 2 → defaultValue (tyX2 j) = vp_V [.null, .null] j := by
  intro j h
  rcases (show j = 0 ∨ j = 1 by omega) with rfl | rfl <;> rfl
theorem k0_M : ∀ j, j < 19 → defaultValue (tyX3 j) = vp_V [.int 0, .int 0, .int 0, .null, .int 0, .null, .null, .null, .null, .null, .null, .null, .int 0, .int 0, .null, .null, .null, .null, .long 0] j := by
  intro j h
  rcases (show j = 0 ∨ j = 1 ∨ j = 2 ∨ j = 3 ∨ j = 4 ∨ j = 5 ∨ j = 6 ∨ j = 7 ∨ j = 8 ∨ j = 9 ∨ j = 10 ∨ j = 11 ∨ j = 12 ∨ j = 13 ∨ j = 14 ∨ j = 15 ∨ j = 16 ∨ j = 17 ∨ j = 18 by omega) with rfl | rfl | rfl | rfl | rfl | rfl | rfl | rfl | rfl | rfl | rfl | rfl | rfl | rfl | rfl | rfl | rfl | rfl | rfl <;> rfl
theorem k0_B : ∀ j, j < 4 → defaultValue (tyX4 j) = vp_V [.int 0, .int 0, .int 0, .int 0] j := by
  intro j h
  rcases (show j = 0 ∨ j = 1 ∨ j = 2 ∨ j = 3 by omega) with rfl | rfl | rfl | rfl <;> rfl
theorem k0_MP : ∀ j, j < 0 → defaultValue (tyX5 j) = vp_V [] j := fun j h => by omega
theorem k0_P : ∀ j, j < 4 → defaultValue (tyX6 j) = vp_V [.null, .null, .null, .int 0] j := by
  intro j h
  rcases (show j = 0 ∨ j = 1 ∨ j = 2 ∨ j = 3 by omega) with rfl | rfl | rfl | rfl <;> rfl
theorem k0_S : ∀ j, j < 2 → defaultValue (tyX7 j) = vp_V [.int 0, .int 0] j := by
  intro j h
  rcases (show j = 0 ∨ j = 1 by omega) with rfl | rfl <;> rfl
theorem k0_A : ∀ j, j < 4 → defaultValue (tyX8 j) = vp_V [.int 0, .null, .null, .int 0] j := by
  intro j h
  rcases (show j = 0 ∨ j = 1 ∨ j = 2 ∨ j = 3 by omega) with rfl | rfl | rfl | rfl <;> rfl
theorem k0_AL : ∀ j, j < 3 → defaultValue (tyJ2 j) = vp_V [.int 0, .null, .int 0] j := by
  intro j h
  rcases (show j = 0 ∨ j = 1 ∨ j = 2 by omega) with rfl | rfl | rfl <;> rfl
theorem k0_TM : ∀ j, j < 9 → defaultValue (tyJ4 j) = vp_V [.null, .null, .null, .null, .int 0, .int 0, .null, .null, .null] j := by
  intro j h
  rcases (show j = 0 ∨ j = 1 ∨ j = 2 ∨ j = 3 ∨ j = 4 ∨ j = 5 ∨ j = 6 ∨ j = 7 ∨ j = 8 by omega) with rfl | rfl | rfl | rfl | rfl | rfl | rfl | rfl | rfl <;> rfl
theorem k0_It : ∀ j, j < 4 → defaultValue (tyJ15 j) = vp_V [.int 0, .int 0, .int 0, .null] j := by
  intro j h
  rcases (show j = 0 ∨ j = 1 ∨ j = 2 ∨ j = 3 by omega) with rfl | rfl | rfl | rfl <;> rfl
theorem k0_PQ : ∀ j, j < 4 → defaultValue (tyJ21 j) = vp_V [.null, .int 0, .null, .int 0] j := by
  intro j h
  rcases (show j = 0 ∨ j = 1 ∨ j = 2 ∨ j = 3 by omega) with rfl | rfl | rfl | rfl <;> rfl
theorem k0_E : ∀ j, j < 6 → defaultValue (tyJ24 j) = vp_V [.null, .null, .null, .null, .null, .int 0] j := by
  intro j h
  rcases (show j = 0 ∨ j = 1 ∨ j = 2 ∨ j = 3 ∨ j = 4 ∨ j = 5 by omega) with rfl | rfl | rfl | rfl | rfl | rfl <;> rfl
theorem k0_SI : ∀ j, j < 2 → defaultValue (tyJ27 j) = vp_V [.null, .null] j := by
  intro j h
  rcases (show j = 0 ∨ j = 1 by omega) with rfl | rfl <;> rfl
theorem k0_I : ∀ j, j < 1 → defaultValue (tyJ19 j) = vp_V [.int 0] j := by
  intro j h
  rcases (show j = 0 by omega) with rfl <;> rfl
theorem hd_J0_init : yJ0_init.cls ≠ "java/lang/invoke/MethodHandle" ∧ yJ0_init.cls ≠ "java/lang/invoke/VarHandle" ∧ (parseMethodDescriptor yJ0_init.desc).map (fun d => d.parameters.length) = some 0 := by decide +kernel
theorem hd_J0_isEmpty : yJ0_isEmpty.cls ≠ "java/lang/invoke/MethodHandle" ∧ yJ0_isEmpty.cls ≠ "java/lang/invoke/VarHandle" ∧ (parseMethodDescriptor yJ0_isEmpty.desc).map (fun d => d.parameters.length) = some 0 := by decide +kernel
theorem hd_J1_init : yJ1_init.cls ≠ "java/lang/invoke/MethodHandle" ∧ yJ1_init.cls ≠ "java/lang/invoke/VarHandle" ∧ (parseMethodDescriptor yJ1_init.desc).map (fun d => d.parameters.length) = some 0 := by decide +kernel
theorem hd_J10_init : yJ10_init.cls ≠ "java/lang/invoke/MethodHandle" ∧ yJ10_init.cls ≠ "java/lang/invoke/VarHandle" ∧ (parseMethodDescriptor yJ10_init.desc).map (fun d => d.parameters.length) = some 1 := by decide +kernel
theorem hd_J10_init_2 : yJ10_init_2.cls ≠ "java/lang/invoke/MethodHandle" ∧ yJ10_init_2.cls ≠ "java/lang/invoke/VarHandle" ∧ (parseMethodDescriptor yJ10_init_2.desc).map (fun d => d.parameters.length) = some 0 := by decide +kernel
theorem hd_J11_init : yJ11_init.cls ≠ "java/lang/invoke/MethodHandle" ∧ yJ11_init.cls ≠ "java/lang/invoke/VarHandle" ∧ (parseMethodDescriptor yJ11_init.desc).map (fun d => d.parameters.length) = some 1 := by decide +kernel
theorem hd_J13_init : yJ13_init.cls ≠ "java/lang/invoke/MethodHandle" ∧ yJ13_init.cls ≠ "java/lang/invoke/VarHandle" ∧ (parseMethodDescriptor yJ13_init.desc).map (fun d => d.parameters.length) = some 0 := by decide +kernel
theorem hd_J14_init : yJ14_init.cls ≠ "java/lang/invoke/MethodHandle" ∧ yJ14_init.cls ≠ "java/lang/invoke/VarHandle" ∧ (parseMethodDescriptor yJ14_init.desc).map (fun d => d.parameters.length) = some 0 := by decide +kernel
theorem hd_J15_init : yJ15_init.cls ≠ "java/lang/invoke/MethodHandle" ∧ yJ15_init.cls ≠ "java/lang/invoke/VarHandle" ∧ (parseMethodDescriptor yJ15_init.desc).map (fun d => d.parameters.length) = some 1 := by decide +kernel
theorem hd_J15_hasNext : yJ15_hasNext.cls ≠ "java/lang/invoke/MethodHandle" ∧ yJ15_hasNext.cls ≠ "java/lang/invoke/VarHandle" ∧ (parseMethodDescriptor yJ15_hasNext.desc).map (fun d => d.parameters.length) = some 0 := by decide +kernel
theorem hd_J15_next : yJ15_next.cls ≠ "java/lang/invoke/MethodHandle" ∧ yJ15_next.cls ≠ "java/lang/invoke/VarHandle" ∧ (parseMethodDescriptor yJ15_next.desc).map (fun d => d.parameters.length) = some 0 := by decide +kernel
theorem hd_J15_checkForComodification : yJ15_checkForComodification.cls ≠ "java/lang/invoke/MethodHandle" ∧ yJ15_checkForComodification.cls ≠ "java/lang/invoke/VarHandle" ∧ (parseMethodDescriptor yJ15_checkForComodification.desc).map (fun d => d.parameters.length) = some 0 := by decide +kernel
theorem hd_J16_min : yJ16_min.cls ≠ "java/lang/invoke/MethodHandle" ∧ yJ16_min.cls ≠ "java/lang/invoke/VarHandle" ∧ (parseMethodDescriptor yJ16_min.desc).map (fun d => d.parameters.length) = some 2 := by decide +kernel
theorem hd_J16_max : yJ16_max.cls ≠ "java/lang/invoke/MethodHandle" ∧ yJ16_max.cls ≠ "java/lang/invoke/VarHandle" ∧ (parseMethodDescriptor yJ16_max.desc).map (fun d => d.parameters.length) = some 2 := by decide +kernel
theorem hd_J17_requireNonNull : yJ17_requireNonNull.cls ≠ "java/lang/invoke/MethodHandle" ∧ yJ17_requireNonNull.cls ≠ "java/lang/invoke/VarHandle" ∧ (parseMethodDescriptor yJ17_requireNonNull.desc).map (fun d => d.parameters.length) = some 1 := by decide +kernel
theorem hd_J17_checkIndex : yJ17_checkIndex.cls ≠ "java/lang/invoke/MethodHandle" ∧ yJ17_checkIndex.cls ≠ "java/lang/invoke/VarHandle" ∧ (parseMethodDescriptor yJ17_checkIndex.desc).map (fun d => d.parameters.length) = some 2 := by decide +kernel
theorem hd_J18_init : yJ18_init.cls ≠ "java/lang/invoke/MethodHandle" ∧ yJ18_init.cls ≠ "java/lang/invoke/VarHandle" ∧ (parseMethodDescriptor yJ18_init.desc).map (fun d => d.parameters.length) = some 0 := by decide +kernel
theorem hd_J19_compareTo : yJ19_compareTo.cls ≠ "java/lang/invoke/MethodHandle" ∧ yJ19_compareTo.cls ≠ "java/lang/invoke/VarHandle" ∧ (parseMethodDescriptor yJ19_compareTo.desc).map (fun d => d.parameters.length) = some 1 := by decide +kernel
theorem hd_J19_compareTo_2 : yJ19_compareTo_2.cls ≠ "java/lang/invoke/MethodHandle" ∧ yJ19_compareTo_2.cls ≠ "java/lang/invoke/VarHandle" ∧ (parseMethodDescriptor yJ19_compareTo_2.desc).map (fun d => d.parameters.length) = some 1 := by decide +kernel
theorem hd_J19_compare : yJ19_compare.cls ≠ "java/lang/invoke/MethodHandle" ∧ yJ19_compare.cls ≠ "java/lang/invoke/VarHandle" ∧ (parseMethodDescriptor yJ19_compare.desc).map (fun d => d.parameters.length) = some 2 := by decide +kernel
theorem hd_J19_intValue : yJ19_intValue.cls ≠ "java/lang/invoke/MethodHandle" ∧ yJ19_intValue.cls ≠ "java/lang/invoke/VarHandle" ∧ (parseMethodDescriptor yJ19_intValue.desc).map (fun d => d.parameters.length) = some 0 := by decide +kernel
theorem hd_J19_valueOf : yJ19_valueOf.cls ≠ "java/lang/invoke/MethodHandle" ∧ yJ19_valueOf.cls ≠ "java/lang/invoke/VarHandle" ∧ (parseMethodDescriptor yJ19_valueOf.desc).map (fun d => d.parameters.length) = some 1 := by decide +kernel
theorem hd_J19_init : yJ19_init.cls ≠ "java/lang/invoke/MethodHandle" ∧ yJ19_init.cls ≠ "java/lang/invoke/VarHandle" ∧ (parseMethodDescriptor yJ19_init.desc).map (fun d => d.parameters.length) = some 1 := by decide +kernel
theorem hd_J2_init : yJ2_init.cls ≠ "java/lang/invoke/MethodHandle" ∧ yJ2_init.cls ≠ "java/lang/invoke/VarHandle" ∧ (parseMethodDescriptor yJ2_init.desc).map (fun d => d.parameters.length) = some 0 := by decide +kernel
theorem hd_J2_iterator : yJ2_iterator.cls ≠ "java/lang/invoke/MethodHandle" ∧ yJ2_iterator.cls ≠ "java/lang/invoke/VarHandle" ∧ (parseMethodDescriptor yJ2_iterator.desc).map (fun d => d.parameters.length) = some 0 := by decide +kernel
theorem hd_J2_size : yJ2_size.cls ≠ "java/lang/invoke/MethodHandle" ∧ yJ2_size.cls ≠ "java/lang/invoke/VarHandle" ∧ (parseMethodDescriptor yJ2_size.desc).map (fun d => d.parameters.length) = some 0 := by decide +kernel
theorem hd_J2_add : yJ2_add.cls ≠ "java/lang/invoke/MethodHandle" ∧ yJ2_add.cls ≠ "java/lang/invoke/VarHandle" ∧ (parseMethodDescriptor yJ2_add.desc).map (fun d => d.parameters.length) = some 1 := by decide +kernel
theorem hd_J2_add_2 : yJ2_add_2.cls ≠ "java/lang/invoke/MethodHandle" ∧ yJ2_add_2.cls ≠ "java/lang/invoke/VarHandle" ∧ (parseMethodDescriptor yJ2_add_2.desc).map (fun d => d.parameters.length) = some 3 := by decide +kernel
theorem hd_J2_grow : yJ2_grow.cls ≠ "java/lang/invoke/MethodHandle" ∧ yJ2_grow.cls ≠ "java/lang/invoke/VarHandle" ∧ (parseMethodDescriptor yJ2_grow.desc).map (fun d => d.parameters.length) = some 0 := by decide +kernel
theorem hd_J2_grow_2 : yJ2_grow_2.cls ≠ "java/lang/invoke/MethodHandle" ∧ yJ2_grow_2.cls ≠ "java/lang/invoke/VarHandle" ∧ (parseMethodDescriptor yJ2_grow_2.desc).map (fun d => d.parameters.length) = some 1 := by decide +kernel
theorem hd_J2_get : yJ2_get.cls ≠ "java/lang/invoke/MethodHandle" ∧ yJ2_get.cls ≠ "java/lang/invoke/VarHandle" ∧ (parseMethodDescriptor yJ2_get.desc).map (fun d => d.parameters.length) = some 1 := by decide +kernel
theorem hd_J2_elementData : yJ2_elementData.cls ≠ "java/lang/invoke/MethodHandle" ∧ yJ2_elementData.cls ≠ "java/lang/invoke/VarHandle" ∧ (parseMethodDescriptor yJ2_elementData.desc).map (fun d => d.parameters.length) = some 1 := by decide +kernel
theorem hd_J20_init : yJ20_init.cls ≠ "java/lang/invoke/MethodHandle" ∧ yJ20_init.cls ≠ "java/lang/invoke/VarHandle" ∧ (parseMethodDescriptor yJ20_init.desc).map (fun d => d.parameters.length) = some 0 := by decide +kernel
theorem hd_J21_init : yJ21_init.cls ≠ "java/lang/invoke/MethodHandle" ∧ yJ21_init.cls ≠ "java/lang/invoke/VarHandle" ∧ (parseMethodDescriptor yJ21_init.desc).map (fun d => d.parameters.length) = some 1 := by decide +kernel
theorem hd_J21_init_2 : yJ21_init_2.cls ≠ "java/lang/invoke/MethodHandle" ∧ yJ21_init_2.cls ≠ "java/lang/invoke/VarHandle" ∧ (parseMethodDescriptor yJ21_init_2.desc).map (fun d => d.parameters.length) = some 2 := by decide +kernel
theorem hd_J21_add : yJ21_add.cls ≠ "java/lang/invoke/MethodHandle" ∧ yJ21_add.cls ≠ "java/lang/invoke/VarHandle" ∧ (parseMethodDescriptor yJ21_add.desc).map (fun d => d.parameters.length) = some 1 := by decide +kernel
theorem hd_J21_offer : yJ21_offer.cls ≠ "java/lang/invoke/MethodHandle" ∧ yJ21_offer.cls ≠ "java/lang/invoke/VarHandle" ∧ (parseMethodDescriptor yJ21_offer.desc).map (fun d => d.parameters.length) = some 1 := by decide +kernel
theorem hd_J21_grow : yJ21_grow.cls ≠ "java/lang/invoke/MethodHandle" ∧ yJ21_grow.cls ≠ "java/lang/invoke/VarHandle" ∧ (parseMethodDescriptor yJ21_grow.desc).map (fun d => d.parameters.length) = some 1 := by decide +kernel
theorem hd_J21_siftUp : yJ21_siftUp.cls ≠ "java/lang/invoke/MethodHandle" ∧ yJ21_siftUp.cls ≠ "java/lang/invoke/VarHandle" ∧ (parseMethodDescriptor yJ21_siftUp.desc).map (fun d => d.parameters.length) = some 2 := by decide +kernel
theorem hd_J21_siftUpUsingComparator : yJ21_siftUpUsingComparator.cls ≠ "java/lang/invoke/MethodHandle" ∧ yJ21_siftUpUsingComparator.cls ≠ "java/lang/invoke/VarHandle" ∧ (parseMethodDescriptor yJ21_siftUpUsingComparator.desc).map (fun d => d.parameters.length) = some 4 := by decide +kernel
theorem hd_J21_siftUpComparable : yJ21_siftUpComparable.cls ≠ "java/lang/invoke/MethodHandle" ∧ yJ21_siftUpComparable.cls ≠ "java/lang/invoke/VarHandle" ∧ (parseMethodDescriptor yJ21_siftUpComparable.desc).map (fun d => d.parameters.length) = some 3 := by decide +kernel
theorem hd_J21_size : yJ21_size.cls ≠ "java/lang/invoke/MethodHandle" ∧ yJ21_size.cls ≠ "java/lang/invoke/VarHandle" ∧ (parseMethodDescriptor yJ21_size.desc).map (fun d => d.parameters.length) = some 0 := by decide +kernel
theorem hd_J21_poll : yJ21_poll.cls ≠ "java/lang/invoke/MethodHandle" ∧ yJ21_poll.cls ≠ "java/lang/invoke/VarHandle" ∧ (parseMethodDescriptor yJ21_poll.desc).map (fun d => d.parameters.length) = some 0 := by decide +kernel
theorem hd_J21_siftDownComparable : yJ21_siftDownComparable.cls ≠ "java/lang/invoke/MethodHandle" ∧ yJ21_siftDownComparable.cls ≠ "java/lang/invoke/VarHandle" ∧ (parseMethodDescriptor yJ21_siftDownComparable.desc).map (fun d => d.parameters.length) = some 4 := by decide +kernel
theorem hd_J21_siftDownUsingComparator : yJ21_siftDownUsingComparator.cls ≠ "java/lang/invoke/MethodHandle" ∧ yJ21_siftDownUsingComparator.cls ≠ "java/lang/invoke/VarHandle" ∧ (parseMethodDescriptor yJ21_siftDownUsingComparator.desc).map (fun d => d.parameters.length) = some 5 := by decide +kernel
theorem hd_J22_newLength : yJ22_newLength.cls ≠ "java/lang/invoke/MethodHandle" ∧ yJ22_newLength.cls ≠ "java/lang/invoke/VarHandle" ∧ (parseMethodDescriptor yJ22_newLength.desc).map (fun d => d.parameters.length) = some 3 := by decide +kernel
theorem hd_J22_hugeLength : yJ22_hugeLength.cls ≠ "java/lang/invoke/MethodHandle" ∧ yJ22_hugeLength.cls ≠ "java/lang/invoke/VarHandle" ∧ (parseMethodDescriptor yJ22_hugeLength.desc).map (fun d => d.parameters.length) = some 2 := by decide +kernel
theorem hd_J23_copyOf : yJ23_copyOf.cls ≠ "java/lang/invoke/MethodHandle" ∧ yJ23_copyOf.cls ≠ "java/lang/invoke/VarHandle" ∧ (parseMethodDescriptor yJ23_copyOf.desc).map (fun d => d.parameters.length) = some 2 := by decide +kernel
theorem hd_J23_copyOf_2 : yJ23_copyOf_2.cls ≠ "java/lang/invoke/MethodHandle" ∧ yJ23_copyOf_2.cls ≠ "java/lang/invoke/VarHandle" ∧ (parseMethodDescriptor yJ23_copyOf_2.desc).map (fun d => d.parameters.length) = some 3 := by decide +kernel
theorem hd_J24_init : yJ24_init.cls ≠ "java/lang/invoke/MethodHandle" ∧ yJ24_init.cls ≠ "java/lang/invoke/VarHandle" ∧ (parseMethodDescriptor yJ24_init.desc).map (fun d => d.parameters.length) = some 3 := by decide +kernel
theorem hd_J24_getKey : yJ24_getKey.cls ≠ "java/lang/invoke/MethodHandle" ∧ yJ24_getKey.cls ≠ "java/lang/invoke/VarHandle" ∧ (parseMethodDescriptor yJ24_getKey.desc).map (fun d => d.parameters.length) = some 0 := by decide +kernel
theorem hd_J24_getValue : yJ24_getValue.cls ≠ "java/lang/invoke/MethodHandle" ∧ yJ24_getValue.cls ≠ "java/lang/invoke/VarHandle" ∧ (parseMethodDescriptor yJ24_getValue.desc).map (fun d => d.parameters.length) = some 0 := by decide +kernel
theorem hd_J25_checkIndex : yJ25_checkIndex.cls ≠ "java/lang/invoke/MethodHandle" ∧ yJ25_checkIndex.cls ≠ "java/lang/invoke/VarHandle" ∧ (parseMethodDescriptor yJ25_checkIndex.desc).map (fun d => d.parameters.length) = some 3 := by decide +kernel
theorem hd_J26_size : yJ26_size.cls ≠ "java/lang/invoke/MethodHandle" ∧ yJ26_size.cls ≠ "java/lang/invoke/VarHandle" ∧ (parseMethodDescriptor yJ26_size.desc).map (fun d => d.parameters.length) = some 0 := by decide +kernel
theorem hd_J27_init : yJ27_init.cls ≠ "java/lang/invoke/MethodHandle" ∧ yJ27_init.cls ≠ "java/lang/invoke/VarHandle" ∧ (parseMethodDescriptor yJ27_init.desc).map (fun d => d.parameters.length) = some 1 := by decide +kernel
theorem hd_J27_getKey : yJ27_getKey.cls ≠ "java/lang/invoke/MethodHandle" ∧ yJ27_getKey.cls ≠ "java/lang/invoke/VarHandle" ∧ (parseMethodDescriptor yJ27_getKey.desc).map (fun d => d.parameters.length) = some 0 := by decide +kernel
theorem hd_J27_getValue : yJ27_getValue.cls ≠ "java/lang/invoke/MethodHandle" ∧ yJ27_getValue.cls ≠ "java/lang/invoke/VarHandle" ∧ (parseMethodDescriptor yJ27_getValue.desc).map (fun d => d.parameters.length) = some 0 := by decide +kernel
theorem hd_J28_init : yJ28_init.cls ≠ "java/lang/invoke/MethodHandle" ∧ yJ28_init.cls ≠ "java/lang/invoke/VarHandle" ∧ (parseMethodDescriptor yJ28_init.desc).map (fun d => d.parameters.length) = some 0 := by decide +kernel
theorem hd_J3_init : yJ3_init.cls ≠ "java/lang/invoke/MethodHandle" ∧ yJ3_init.cls ≠ "java/lang/invoke/VarHandle" ∧ (parseMethodDescriptor yJ3_init.desc).map (fun d => d.parameters.length) = some 0 := by decide +kernel
theorem hd_J3_isEmpty : yJ3_isEmpty.cls ≠ "java/lang/invoke/MethodHandle" ∧ yJ3_isEmpty.cls ≠ "java/lang/invoke/VarHandle" ∧ (parseMethodDescriptor yJ3_isEmpty.desc).map (fun d => d.parameters.length) = some 0 := by decide +kernel
theorem hd_J4_init : yJ4_init.cls ≠ "java/lang/invoke/MethodHandle" ∧ yJ4_init.cls ≠ "java/lang/invoke/VarHandle" ∧ (parseMethodDescriptor yJ4_init.desc).map (fun d => d.parameters.length) = some 0 := by decide +kernel
theorem hd_J4_remove : yJ4_remove.cls ≠ "java/lang/invoke/MethodHandle" ∧ yJ4_remove.cls ≠ "java/lang/invoke/VarHandle" ∧ (parseMethodDescriptor yJ4_remove.desc).map (fun d => d.parameters.length) = some 1 := by decide +kernel
theorem hd_J4_getEntry : yJ4_getEntry.cls ≠ "java/lang/invoke/MethodHandle" ∧ yJ4_getEntry.cls ≠ "java/lang/invoke/VarHandle" ∧ (parseMethodDescriptor yJ4_getEntry.desc).map (fun d => d.parameters.length) = some 1 := by decide +kernel
theorem hd_J4_getEntryUsingComparator : yJ4_getEntryUsingComparator.cls ≠ "java/lang/invoke/MethodHandle" ∧ yJ4_getEntryUsingComparator.cls ≠ "java/lang/invoke/VarHandle" ∧ (parseMethodDescriptor yJ4_getEntryUsingComparator.desc).map (fun d => d.parameters.length) = some 1 := by decide +kernel
theorem hd_J4_deleteEntry : yJ4_deleteEntry.cls ≠ "java/lang/invoke/MethodHandle" ∧ yJ4_deleteEntry.cls ≠ "java/lang/invoke/VarHandle" ∧ (parseMethodDescriptor yJ4_deleteEntry.desc).map (fun d => d.parameters.length) = some 1 := by decide +kernel
theorem hd_J4_successor : yJ4_successor.cls ≠ "java/lang/invoke/MethodHandle" ∧ yJ4_successor.cls ≠ "java/lang/invoke/VarHandle" ∧ (parseMethodDescriptor yJ4_successor.desc).map (fun d => d.parameters.length) = some 1 := by decide +kernel
theorem hd_J4_fixAfterDeletion : yJ4_fixAfterDeletion.cls ≠ "java/lang/invoke/MethodHandle" ∧ yJ4_fixAfterDeletion.cls ≠ "java/lang/invoke/VarHandle" ∧ (parseMethodDescriptor yJ4_fixAfterDeletion.desc).map (fun d => d.parameters.length) = some 1 := by decide +kernel
theorem hd_J4_colorOf : yJ4_colorOf.cls ≠ "java/lang/invoke/MethodHandle" ∧ yJ4_colorOf.cls ≠ "java/lang/invoke/VarHandle" ∧ (parseMethodDescriptor yJ4_colorOf.desc).map (fun d => d.parameters.length) = some 1 := by decide +kernel
theorem hd_J4_parentOf : yJ4_parentOf.cls ≠ "java/lang/invoke/MethodHandle" ∧ yJ4_parentOf.cls ≠ "java/lang/invoke/VarHandle" ∧ (parseMethodDescriptor yJ4_parentOf.desc).map (fun d => d.parameters.length) = some 1 := by decide +kernel
theorem hd_J4_leftOf : yJ4_leftOf.cls ≠ "java/lang/invoke/MethodHandle" ∧ yJ4_leftOf.cls ≠ "java/lang/invoke/VarHandle" ∧ (parseMethodDescriptor yJ4_leftOf.desc).map (fun d => d.parameters.length) = some 1 := by decide +kernel
theorem hd_J4_rightOf : yJ4_rightOf.cls ≠ "java/lang/invoke/MethodHandle" ∧ yJ4_rightOf.cls ≠ "java/lang/invoke/VarHandle" ∧ (parseMethodDescriptor yJ4_rightOf.desc).map (fun d => d.parameters.length) = some 1 := by decide +kernel
theorem hd_J4_setColor : yJ4_setColor.cls ≠ "java/lang/invoke/MethodHandle" ∧ yJ4_setColor.cls ≠ "java/lang/invoke/VarHandle" ∧ (parseMethodDescriptor yJ4_setColor.desc).map (fun d => d.parameters.length) = some 2 := by decide +kernel
theorem hd_J4_rotateLeft : yJ4_rotateLeft.cls ≠ "java/lang/invoke/MethodHandle" ∧ yJ4_rotateLeft.cls ≠ "java/lang/invoke/VarHandle" ∧ (parseMethodDescriptor yJ4_rotateLeft.desc).map (fun d => d.parameters.length) = some 1 := by decide +kernel
theorem hd_J4_rotateRight : yJ4_rotateRight.cls ≠ "java/lang/invoke/MethodHandle" ∧ yJ4_rotateRight.cls ≠ "java/lang/invoke/VarHandle" ∧ (parseMethodDescriptor yJ4_rotateRight.desc).map (fun d => d.parameters.length) = some 1 := by decide +kernel
theorem hd_J4_size : yJ4_size.cls ≠ "java/lang/invoke/MethodHandle" ∧ yJ4_size.cls ≠ "java/lang/invoke/VarHandle" ∧ (parseMethodDescriptor yJ4_size.desc).map (fun d => d.parameters.length) = some 0 := by decide +kernel
theorem hd_J4_get : yJ4_get.cls ≠ "java/lang/invoke/MethodHandle" ∧ yJ4_get.cls ≠ "java/lang/invoke/VarHandle" ∧ (parseMethodDescriptor yJ4_get.desc).map (fun d => d.parameters.length) = some 1 := by decide +kernel
theorem hd_J4_put : yJ4_put.cls ≠ "java/lang/invoke/MethodHandle" ∧ yJ4_put.cls ≠ "java/lang/invoke/VarHandle" ∧ (parseMethodDescriptor yJ4_put.desc).map (fun d => d.parameters.length) = some 2 := by decide +kernel
theorem hd_J4_put_2 : yJ4_put_2.cls ≠ "java/lang/invoke/MethodHandle" ∧ yJ4_put_2.cls ≠ "java/lang/invoke/VarHandle" ∧ (parseMethodDescriptor yJ4_put_2.desc).map (fun d => d.parameters.length) = some 3 := by decide +kernel
theorem hd_J4_addEntryToEmptyMap : yJ4_addEntryToEmptyMap.cls ≠ "java/lang/invoke/MethodHandle" ∧ yJ4_addEntryToEmptyMap.cls ≠ "java/lang/invoke/VarHandle" ∧ (parseMethodDescriptor yJ4_addEntryToEmptyMap.desc).map (fun d => d.parameters.length) = some 2 := by decide +kernel
theorem hd_J4_compare : yJ4_compare.cls ≠ "java/lang/invoke/MethodHandle" ∧ yJ4_compare.cls ≠ "java/lang/invoke/VarHandle" ∧ (parseMethodDescriptor yJ4_compare.desc).map (fun d => d.parameters.length) = some 2 := by decide +kernel
theorem hd_J4_addEntry : yJ4_addEntry.cls ≠ "java/lang/invoke/MethodHandle" ∧ yJ4_addEntry.cls ≠ "java/lang/invoke/VarHandle" ∧ (parseMethodDescriptor yJ4_addEntry.desc).map (fun d => d.parameters.length) = some 4 := by decide +kernel
theorem hd_J4_fixAfterInsertion : yJ4_fixAfterInsertion.cls ≠ "java/lang/invoke/MethodHandle" ∧ yJ4_fixAfterInsertion.cls ≠ "java/lang/invoke/VarHandle" ∧ (parseMethodDescriptor yJ4_fixAfterInsertion.desc).map (fun d => d.parameters.length) = some 1 := by decide +kernel
theorem hd_J4_containsKey : yJ4_containsKey.cls ≠ "java/lang/invoke/MethodHandle" ∧ yJ4_containsKey.cls ≠ "java/lang/invoke/VarHandle" ∧ (parseMethodDescriptor yJ4_containsKey.desc).map (fun d => d.parameters.length) = some 1 := by decide +kernel
theorem hd_J4_firstKey : yJ4_firstKey.cls ≠ "java/lang/invoke/MethodHandle" ∧ yJ4_firstKey.cls ≠ "java/lang/invoke/VarHandle" ∧ (parseMethodDescriptor yJ4_firstKey.desc).map (fun d => d.parameters.length) = some 0 := by decide +kernel
theorem hd_J4_getFirstEntry : yJ4_getFirstEntry.cls ≠ "java/lang/invoke/MethodHandle" ∧ yJ4_getFirstEntry.cls ≠ "java/lang/invoke/VarHandle" ∧ (parseMethodDescriptor yJ4_getFirstEntry.desc).map (fun d => d.parameters.length) = some 0 := by decide +kernel
theorem hd_J4_key : yJ4_key.cls ≠ "java/lang/invoke/MethodHandle" ∧ yJ4_key.cls ≠ "java/lang/invoke/VarHandle" ∧ (parseMethodDescriptor yJ4_key.desc).map (fun d => d.parameters.length) = some 1 := by decide +kernel
theorem hd_J4_firstEntry : yJ4_firstEntry.cls ≠ "java/lang/invoke/MethodHandle" ∧ yJ4_firstEntry.cls ≠ "java/lang/invoke/VarHandle" ∧ (parseMethodDescriptor yJ4_firstEntry.desc).map (fun d => d.parameters.length) = some 0 := by decide +kernel
theorem hd_J4_exportEntry : yJ4_exportEntry.cls ≠ "java/lang/invoke/MethodHandle" ∧ yJ4_exportEntry.cls ≠ "java/lang/invoke/VarHandle" ∧ (parseMethodDescriptor yJ4_exportEntry.desc).map (fun d => d.parameters.length) = some 1 := by decide +kernel
theorem hd_J5_init : yJ5_init.cls ≠ "java/lang/invoke/MethodHandle" ∧ yJ5_init.cls ≠ "java/lang/invoke/VarHandle" ∧ (parseMethodDescriptor yJ5_init.desc).map (fun d => d.parameters.length) = some 0 := by decide +kernel
theorem hd_J5_init_2 : yJ5_init_2.cls ≠ "java/lang/invoke/MethodHandle" ∧ yJ5_init_2.cls ≠ "java/lang/invoke/VarHandle" ∧ (parseMethodDescriptor yJ5_init_2.desc).map (fun d => d.parameters.length) = some 1 := by decide +kernel
theorem hd_J6_init : yJ6_init.cls ≠ "java/lang/invoke/MethodHandle" ∧ yJ6_init.cls ≠ "java/lang/invoke/VarHandle" ∧ (parseMethodDescriptor yJ6_init.desc).map (fun d => d.parameters.length) = some 0 := by decide +kernel
theorem hd_J6_init_2 : yJ6_init_2.cls ≠ "java/lang/invoke/MethodHandle" ∧ yJ6_init_2.cls ≠ "java/lang/invoke/VarHandle" ∧ (parseMethodDescriptor yJ6_init_2.desc).map (fun d => d.parameters.length) = some 1 := by decide +kernel
theorem hd_J7_init : yJ7_init.cls ≠ "java/lang/invoke/MethodHandle" ∧ yJ7_init.cls ≠ "java/lang/invoke/VarHandle" ∧ (parseMethodDescriptor yJ7_init.desc).map (fun d => d.parameters.length) = some 0 := by decide +kernel
theorem hd_J7_init_2 : yJ7_init_2.cls ≠ "java/lang/invoke/MethodHandle" ∧ yJ7_init_2.cls ≠ "java/lang/invoke/VarHandle" ∧ (parseMethodDescriptor yJ7_init_2.desc).map (fun d => d.parameters.length) = some 1 := by decide +kernel
theorem hd_J8_init : yJ8_init.cls ≠ "java/lang/invoke/MethodHandle" ∧ yJ8_init.cls ≠ "java/lang/invoke/VarHandle" ∧ (parseMethodDescriptor yJ8_init.desc).map (fun d => d.parameters.length) = some 0 := by decide +kernel
theorem hd_J9_init : yJ9_init.cls ≠ "java/lang/invoke/MethodHandle" ∧ yJ9_init.cls ≠ "java/lang/invoke/VarHandle" ∧ (parseMethodDescriptor yJ9_init.desc).map (fun d => d.parameters.length) = some 0 := by decide +kernel
theorem hd_X0_addStack : yX0_addStack.cls ≠ "java/lang/invoke/MethodHandle" ∧ yX0_addStack.cls ≠ "java/lang/invoke/VarHandle" ∧ (parseMethodDescriptor yX0_addStack.desc).map (fun d => d.parameters.length) = some 3 := by decide +kernel
theorem hd_X0_addBox : yX0_addBox.cls ≠ "java/lang/invoke/MethodHandle" ∧ yX0_addBox.cls ≠ "java/lang/invoke/VarHandle" ∧ (parseMethodDescriptor yX0_addBox.desc).map (fun d => d.parameters.length) = some 4 := by decide +kernel
theorem hd_X0_weight : yX0_weight.cls ≠ "java/lang/invoke/MethodHandle" ∧ yX0_weight.cls ≠ "java/lang/invoke/VarHandle" ∧ (parseMethodDescriptor yX0_weight.desc).map (fun d => d.parameters.length) = some 3 := by decide +kernel
theorem hd_X0_stackOf : yX0_stackOf.cls ≠ "java/lang/invoke/MethodHandle" ∧ yX0_stackOf.cls ≠ "java/lang/invoke/VarHandle" ∧ (parseMethodDescriptor yX0_stackOf.desc).map (fun d => d.parameters.length) = some 3 := by decide +kernel
theorem hd_X0_level : yX0_level.cls ≠ "java/lang/invoke/MethodHandle" ∧ yX0_level.cls ≠ "java/lang/invoke/VarHandle" ∧ (parseMethodDescriptor yX0_level.desc).map (fun d => d.parameters.length) = some 3 := by decide +kernel
theorem hd_X0_above : yX0_above.cls ≠ "java/lang/invoke/MethodHandle" ∧ yX0_above.cls ≠ "java/lang/invoke/VarHandle" ∧ (parseMethodDescriptor yX0_above.desc).map (fun d => d.parameters.length) = some 3 := by decide +kernel
theorem hd_X0_height : yX0_height.cls ≠ "java/lang/invoke/MethodHandle" ∧ yX0_height.cls ≠ "java/lang/invoke/VarHandle" ∧ (parseMethodDescriptor yX0_height.desc).map (fun d => d.parameters.length) = some 3 := by decide +kernel
theorem hd_X0_boxAt : yX0_boxAt.cls ≠ "java/lang/invoke/MethodHandle" ∧ yX0_boxAt.cls ≠ "java/lang/invoke/VarHandle" ∧ (parseMethodDescriptor yX0_boxAt.desc).map (fun d => d.parameters.length) = some 4 := by decide +kernel
theorem hd_X0_hold : yX0_hold.cls ≠ "java/lang/invoke/MethodHandle" ∧ yX0_hold.cls ≠ "java/lang/invoke/VarHandle" ∧ (parseMethodDescriptor yX0_hold.desc).map (fun d => d.parameters.length) = some 5 := by decide +kernel
theorem hd_X0_release : yX0_release.cls ≠ "java/lang/invoke/MethodHandle" ∧ yX0_release.cls ≠ "java/lang/invoke/VarHandle" ∧ (parseMethodDescriptor yX0_release.desc).map (fun d => d.parameters.length) = some 3 := by decide +kernel
theorem hd_X0_holdOf : yX0_holdOf.cls ≠ "java/lang/invoke/MethodHandle" ∧ yX0_holdOf.cls ≠ "java/lang/invoke/VarHandle" ∧ (parseMethodDescriptor yX0_holdOf.desc).map (fun d => d.parameters.length) = some 3 := by decide +kernel
theorem hd_X0_heldUntil : yX0_heldUntil.cls ≠ "java/lang/invoke/MethodHandle" ∧ yX0_heldUntil.cls ≠ "java/lang/invoke/VarHandle" ∧ (parseMethodDescriptor yX0_heldUntil.desc).map (fun d => d.parameters.length) = some 3 := by decide +kernel
theorem hd_X0_pinnedAbove : yX0_pinnedAbove.cls ≠ "java/lang/invoke/MethodHandle" ∧ yX0_pinnedAbove.cls ≠ "java/lang/invoke/VarHandle" ∧ (parseMethodDescriptor yX0_pinnedAbove.desc).map (fun d => d.parameters.length) = some 3 := by decide +kernel
theorem hd_X0_why : yX0_why.cls ≠ "java/lang/invoke/MethodHandle" ∧ yX0_why.cls ≠ "java/lang/invoke/VarHandle" ∧ (parseMethodDescriptor yX0_why.desc).map (fun d => d.parameters.length) = some 4 := by decide +kernel
theorem hd_X0_move : yX0_move.cls ≠ "java/lang/invoke/MethodHandle" ∧ yX0_move.cls ≠ "java/lang/invoke/VarHandle" ∧ (parseMethodDescriptor yX0_move.desc).map (fun d => d.parameters.length) = some 4 := by decide +kernel
theorem hd_X0_planLength : yX0_planLength.cls ≠ "java/lang/invoke/MethodHandle" ∧ yX0_planLength.cls ≠ "java/lang/invoke/VarHandle" ∧ (parseMethodDescriptor yX0_planLength.desc).map (fun d => d.parameters.length) = some 3 := by decide +kernel
theorem hd_X0_planByTrying : yX0_planByTrying.cls ≠ "java/lang/invoke/MethodHandle" ∧ yX0_planByTrying.cls ≠ "java/lang/invoke/VarHandle" ∧ (parseMethodDescriptor yX0_planByTrying.desc).map (fun d => d.parameters.length) = some 3 := by decide +kernel
theorem hd_X0_planBox : yX0_planBox.cls ≠ "java/lang/invoke/MethodHandle" ∧ yX0_planBox.cls ≠ "java/lang/invoke/VarHandle" ∧ (parseMethodDescriptor yX0_planBox.desc).map (fun d => d.parameters.length) = some 4 := by decide +kernel
theorem hd_X0_planStack : yX0_planStack.cls ≠ "java/lang/invoke/MethodHandle" ∧ yX0_planStack.cls ≠ "java/lang/invoke/VarHandle" ∧ (parseMethodDescriptor yX0_planStack.desc).map (fun d => d.parameters.length) = some 4 := by decide +kernel
theorem hd_X0_dig : yX0_dig.cls ≠ "java/lang/invoke/MethodHandle" ∧ yX0_dig.cls ≠ "java/lang/invoke/VarHandle" ∧ (parseMethodDescriptor yX0_dig.desc).map (fun d => d.parameters.length) = some 3 := by decide +kernel
theorem hd_X0_book : yX0_book.cls ≠ "java/lang/invoke/MethodHandle" ∧ yX0_book.cls ≠ "java/lang/invoke/VarHandle" ∧ (parseMethodDescriptor yX0_book.desc).map (fun d => d.parameters.length) = some 5 := by decide +kernel
theorem hd_X0_cancel : yX0_cancel.cls ≠ "java/lang/invoke/MethodHandle" ∧ yX0_cancel.cls ≠ "java/lang/invoke/VarHandle" ∧ (parseMethodDescriptor yX0_cancel.desc).map (fun d => d.parameters.length) = some 3 := by decide +kernel
theorem hd_X0_stateOf : yX0_stateOf.cls ≠ "java/lang/invoke/MethodHandle" ∧ yX0_stateOf.cls ≠ "java/lang/invoke/VarHandle" ∧ (parseMethodDescriptor yX0_stateOf.desc).map (fun d => d.parameters.length) = some 3 := by decide +kernel
theorem hd_X0_appointmentOf : yX0_appointmentOf.cls ≠ "java/lang/invoke/MethodHandle" ∧ yX0_appointmentOf.cls ≠ "java/lang/invoke/VarHandle" ∧ (parseMethodDescriptor yX0_appointmentOf.desc).map (fun d => d.parameters.length) = some 3 := by decide +kernel
theorem hd_X0_inLane : yX0_inLane.cls ≠ "java/lang/invoke/MethodHandle" ∧ yX0_inLane.cls ≠ "java/lang/invoke/VarHandle" ∧ (parseMethodDescriptor yX0_inLane.desc).map (fun d => d.parameters.length) = some 4 := by decide +kernel
theorem hd_X0_firstHour : yX0_firstHour.cls ≠ "java/lang/invoke/MethodHandle" ∧ yX0_firstHour.cls ≠ "java/lang/invoke/VarHandle" ∧ (parseMethodDescriptor yX0_firstHour.desc).map (fun d => d.parameters.length) = some 3 := by decide +kernel
theorem hd_X0_pass : yX0_pass.cls ≠ "java/lang/invoke/MethodHandle" ∧ yX0_pass.cls ≠ "java/lang/invoke/VarHandle" ∧ (parseMethodDescriptor yX0_pass.desc).map (fun d => d.parameters.length) = some 3 := by decide +kernel
theorem hd_X0_doneShare : yX0_doneShare.cls ≠ "java/lang/invoke/MethodHandle" ∧ yX0_doneShare.cls ≠ "java/lang/invoke/VarHandle" ∧ (parseMethodDescriptor yX0_doneShare.desc).map (fun d => d.parameters.length) = some 2 := by decide +kernel
theorem hd_X1_init : yX1_init.cls ≠ "java/lang/invoke/MethodHandle" ∧ yX1_init.cls ≠ "java/lang/invoke/VarHandle" ∧ (parseMethodDescriptor yX1_init.desc).map (fun d => d.parameters.length) = some 0 := by decide +kernel
theorem hd_X1_boxes : yX1_boxes.cls ≠ "java/lang/invoke/MethodHandle" ∧ yX1_boxes.cls ≠ "java/lang/invoke/VarHandle" ∧ (parseMethodDescriptor yX1_boxes.desc).map (fun d => d.parameters.length) = some 0 := by decide +kernel
theorem hd_X1_isInYard : yX1_isInYard.cls ≠ "java/lang/invoke/MethodHandle" ∧ yX1_isInYard.cls ≠ "java/lang/invoke/VarHandle" ∧ (parseMethodDescriptor yX1_isInYard.desc).map (fun d => d.parameters.length) = some 1 := by decide +kernel
theorem hd_X1_isPresent : yX1_isPresent.cls ≠ "java/lang/invoke/MethodHandle" ∧ yX1_isPresent.cls ≠ "java/lang/invoke/VarHandle" ∧ (parseMethodDescriptor yX1_isPresent.desc).map (fun d => d.parameters.length) = some 1 := by decide +kernel
theorem hd_X1_isBetween : yX1_isBetween.cls ≠ "java/lang/invoke/MethodHandle" ∧ yX1_isBetween.cls ≠ "java/lang/invoke/VarHandle" ∧ (parseMethodDescriptor yX1_isBetween.desc).map (fun d => d.parameters.length) = some 3 := by decide +kernel
theorem hd_X1_moves : yX1_moves.cls ≠ "java/lang/invoke/MethodHandle" ∧ yX1_moves.cls ≠ "java/lang/invoke/VarHandle" ∧ (parseMethodDescriptor yX1_moves.desc).map (fun d => d.parameters.length) = some 0 := by decide +kernel
theorem hd_X1_now : yX1_now.cls ≠ "java/lang/invoke/MethodHandle" ∧ yX1_now.cls ≠ "java/lang/invoke/VarHandle" ∧ (parseMethodDescriptor yX1_now.desc).map (fun d => d.parameters.length) = some 0 := by decide +kernel
theorem hd_X1_weightLeft : yX1_weightLeft.cls ≠ "java/lang/invoke/MethodHandle" ∧ yX1_weightLeft.cls ≠ "java/lang/invoke/VarHandle" ∧ (parseMethodDescriptor yX1_weightLeft.desc).map (fun d => d.parameters.length) = some 0 := by decide +kernel
theorem hd_X1_addStack : yX1_addStack.cls ≠ "java/lang/invoke/MethodHandle" ∧ yX1_addStack.cls ≠ "java/lang/invoke/VarHandle" ∧ (parseMethodDescriptor yX1_addStack.desc).map (fun d => d.parameters.length) = some 1 := by decide +kernel
theorem hd_X1_checkArgument : yX1_checkArgument.cls ≠ "java/lang/invoke/MethodHandle" ∧ yX1_checkArgument.cls ≠ "java/lang/invoke/VarHandle" ∧ (parseMethodDescriptor yX1_checkArgument.desc).map (fun d => d.parameters.length) = some 1 := by decide +kernel
theorem hd_X1_checkState : yX1_checkState.cls ≠ "java/lang/invoke/MethodHandle" ∧ yX1_checkState.cls ≠ "java/lang/invoke/VarHandle" ∧ (parseMethodDescriptor yX1_checkState.desc).map (fun d => d.parameters.length) = some 1 := by decide +kernel
theorem hd_X1_addBox : yX1_addBox.cls ≠ "java/lang/invoke/MethodHandle" ∧ yX1_addBox.cls ≠ "java/lang/invoke/VarHandle" ∧ (parseMethodDescriptor yX1_addBox.desc).map (fun d => d.parameters.length) = some 2 := by decide +kernel
theorem hd_X1_checkStack : yX1_checkStack.cls ≠ "java/lang/invoke/MethodHandle" ∧ yX1_checkStack.cls ≠ "java/lang/invoke/VarHandle" ∧ (parseMethodDescriptor yX1_checkStack.desc).map (fun d => d.parameters.length) = some 1 := by decide +kernel
theorem hd_X1_checkIndex : yX1_checkIndex.cls ≠ "java/lang/invoke/MethodHandle" ∧ yX1_checkIndex.cls ≠ "java/lang/invoke/VarHandle" ∧ (parseMethodDescriptor yX1_checkIndex.desc).map (fun d => d.parameters.length) = some 1 := by decide +kernel
theorem hd_X1_checkPossible : yX1_checkPossible.cls ≠ "java/lang/invoke/MethodHandle" ∧ yX1_checkPossible.cls ≠ "java/lang/invoke/VarHandle" ∧ (parseMethodDescriptor yX1_checkPossible.desc).map (fun d => d.parameters.length) = some 1 := by decide +kernel
theorem hd_X1_weight : yX1_weight.cls ≠ "java/lang/invoke/MethodHandle" ∧ yX1_weight.cls ≠ "java/lang/invoke/VarHandle" ∧ (parseMethodDescriptor yX1_weight.desc).map (fun d => d.parameters.length) = some 1 := by decide +kernel
theorem hd_X1_boxWith : yX1_boxWith.cls ≠ "java/lang/invoke/MethodHandle" ∧ yX1_boxWith.cls ≠ "java/lang/invoke/VarHandle" ∧ (parseMethodDescriptor yX1_boxWith.desc).map (fun d => d.parameters.length) = some 1 := by decide +kernel
theorem hd_X1_stackOf : yX1_stackOf.cls ≠ "java/lang/invoke/MethodHandle" ∧ yX1_stackOf.cls ≠ "java/lang/invoke/VarHandle" ∧ (parseMethodDescriptor yX1_stackOf.desc).map (fun d => d.parameters.length) = some 1 := by decide +kernel
theorem hd_X1_level : yX1_level.cls ≠ "java/lang/invoke/MethodHandle" ∧ yX1_level.cls ≠ "java/lang/invoke/VarHandle" ∧ (parseMethodDescriptor yX1_level.desc).map (fun d => d.parameters.length) = some 1 := by decide +kernel
theorem hd_X1_above : yX1_above.cls ≠ "java/lang/invoke/MethodHandle" ∧ yX1_above.cls ≠ "java/lang/invoke/VarHandle" ∧ (parseMethodDescriptor yX1_above.desc).map (fun d => d.parameters.length) = some 1 := by decide +kernel
theorem hd_X1_height : yX1_height.cls ≠ "java/lang/invoke/MethodHandle" ∧ yX1_height.cls ≠ "java/lang/invoke/VarHandle" ∧ (parseMethodDescriptor yX1_height.desc).map (fun d => d.parameters.length) = some 1 := by decide +kernel
theorem hd_X1_boxAt : yX1_boxAt.cls ≠ "java/lang/invoke/MethodHandle" ∧ yX1_boxAt.cls ≠ "java/lang/invoke/VarHandle" ∧ (parseMethodDescriptor yX1_boxAt.desc).map (fun d => d.parameters.length) = some 2 := by decide +kernel
theorem hd_X1_checkElement : yX1_checkElement.cls ≠ "java/lang/invoke/MethodHandle" ∧ yX1_checkElement.cls ≠ "java/lang/invoke/VarHandle" ∧ (parseMethodDescriptor yX1_checkElement.desc).map (fun d => d.parameters.length) = some 1 := by decide +kernel
theorem hd_X1_hold : yX1_hold.cls ≠ "java/lang/invoke/MethodHandle" ∧ yX1_hold.cls ≠ "java/lang/invoke/VarHandle" ∧ (parseMethodDescriptor yX1_hold.desc).map (fun d => d.parameters.length) = some 3 := by decide +kernel
theorem hd_X1_bookedFor : yX1_bookedFor.cls ≠ "java/lang/invoke/MethodHandle" ∧ yX1_bookedFor.cls ≠ "java/lang/invoke/VarHandle" ∧ (parseMethodDescriptor yX1_bookedFor.desc).map (fun d => d.parameters.length) = some 1 := by decide +kernel
theorem hd_X1_end : yX1_end.cls ≠ "java/lang/invoke/MethodHandle" ∧ yX1_end.cls ≠ "java/lang/invoke/VarHandle" ∧ (parseMethodDescriptor yX1_end.desc).map (fun d => d.parameters.length) = some 2 := by decide +kernel
theorem hd_X1_release : yX1_release.cls ≠ "java/lang/invoke/MethodHandle" ∧ yX1_release.cls ≠ "java/lang/invoke/VarHandle" ∧ (parseMethodDescriptor yX1_release.desc).map (fun d => d.parameters.length) = some 1 := by decide +kernel
theorem hd_X1_holdOf : yX1_holdOf.cls ≠ "java/lang/invoke/MethodHandle" ∧ yX1_holdOf.cls ≠ "java/lang/invoke/VarHandle" ∧ (parseMethodDescriptor yX1_holdOf.desc).map (fun d => d.parameters.length) = some 1 := by decide +kernel
theorem hd_X1_heldUntil : yX1_heldUntil.cls ≠ "java/lang/invoke/MethodHandle" ∧ yX1_heldUntil.cls ≠ "java/lang/invoke/VarHandle" ∧ (parseMethodDescriptor yX1_heldUntil.desc).map (fun d => d.parameters.length) = some 1 := by decide +kernel
theorem hd_X1_pinnedAbove : yX1_pinnedAbove.cls ≠ "java/lang/invoke/MethodHandle" ∧ yX1_pinnedAbove.cls ≠ "java/lang/invoke/VarHandle" ∧ (parseMethodDescriptor yX1_pinnedAbove.desc).map (fun d => d.parameters.length) = some 1 := by decide +kernel
theorem hd_X1_why : yX1_why.cls ≠ "java/lang/invoke/MethodHandle" ∧ yX1_why.cls ≠ "java/lang/invoke/VarHandle" ∧ (parseMethodDescriptor yX1_why.desc).map (fun d => d.parameters.length) = some 2 := by decide +kernel
theorem hd_X1_why_2 : yX1_why_2.cls ≠ "java/lang/invoke/MethodHandle" ∧ yX1_why_2.cls ≠ "java/lang/invoke/VarHandle" ∧ (parseMethodDescriptor yX1_why_2.desc).map (fun d => d.parameters.length) = some 3 := by decide +kernel
theorem hd_X1_move : yX1_move.cls ≠ "java/lang/invoke/MethodHandle" ∧ yX1_move.cls ≠ "java/lang/invoke/VarHandle" ∧ (parseMethodDescriptor yX1_move.desc).map (fun d => d.parameters.length) = some 2 := by decide +kernel
theorem hd_X1_moveTo : yX1_moveTo.cls ≠ "java/lang/invoke/MethodHandle" ∧ yX1_moveTo.cls ≠ "java/lang/invoke/VarHandle" ∧ (parseMethodDescriptor yX1_moveTo.desc).map (fun d => d.parameters.length) = some 2 := by decide +kernel
theorem hd_X1_planLength : yX1_planLength.cls ≠ "java/lang/invoke/MethodHandle" ∧ yX1_planLength.cls ≠ "java/lang/invoke/VarHandle" ∧ (parseMethodDescriptor yX1_planLength.desc).map (fun d => d.parameters.length) = some 1 := by decide +kernel
theorem hd_X1_plan : yX1_plan.cls ≠ "java/lang/invoke/MethodHandle" ∧ yX1_plan.cls ≠ "java/lang/invoke/VarHandle" ∧ (parseMethodDescriptor yX1_plan.desc).map (fun d => d.parameters.length) = some 1 := by decide +kernel
theorem hd_X1_planFor : yX1_planFor.cls ≠ "java/lang/invoke/MethodHandle" ∧ yX1_planFor.cls ≠ "java/lang/invoke/VarHandle" ∧ (parseMethodDescriptor yX1_planFor.desc).map (fun d => d.parameters.length) = some 1 := by decide +kernel
theorem hd_X1_goOn : yX1_goOn.cls ≠ "java/lang/invoke/MethodHandle" ∧ yX1_goOn.cls ≠ "java/lang/invoke/VarHandle" ∧ (parseMethodDescriptor yX1_goOn.desc).map (fun d => d.parameters.length) = some 4 := by decide +kernel
theorem hd_X1_planByTrying : yX1_planByTrying.cls ≠ "java/lang/invoke/MethodHandle" ∧ yX1_planByTrying.cls ≠ "java/lang/invoke/VarHandle" ∧ (parseMethodDescriptor yX1_planByTrying.desc).map (fun d => d.parameters.length) = some 1 := by decide +kernel
theorem hd_X1_canDig : yX1_canDig.cls ≠ "java/lang/invoke/MethodHandle" ∧ yX1_canDig.cls ≠ "java/lang/invoke/VarHandle" ∧ (parseMethodDescriptor yX1_canDig.desc).map (fun d => d.parameters.length) = some 3 := by decide +kernel
theorem hd_X1_planBox : yX1_planBox.cls ≠ "java/lang/invoke/MethodHandle" ∧ yX1_planBox.cls ≠ "java/lang/invoke/VarHandle" ∧ (parseMethodDescriptor yX1_planBox.desc).map (fun d => d.parameters.length) = some 2 := by decide +kernel
theorem hd_X1_numberAt : yX1_numberAt.cls ≠ "java/lang/invoke/MethodHandle" ∧ yX1_numberAt.cls ≠ "java/lang/invoke/VarHandle" ∧ (parseMethodDescriptor yX1_numberAt.desc).map (fun d => d.parameters.length) = some 2 := by decide +kernel
theorem hd_X1_planStack : yX1_planStack.cls ≠ "java/lang/invoke/MethodHandle" ∧ yX1_planStack.cls ≠ "java/lang/invoke/VarHandle" ∧ (parseMethodDescriptor yX1_planStack.desc).map (fun d => d.parameters.length) = some 2 := by decide +kernel
theorem hd_X1_dig : yX1_dig.cls ≠ "java/lang/invoke/MethodHandle" ∧ yX1_dig.cls ≠ "java/lang/invoke/VarHandle" ∧ (parseMethodDescriptor yX1_dig.desc).map (fun d => d.parameters.length) = some 1 := by decide +kernel
theorem hd_X1_make : yX1_make.cls ≠ "java/lang/invoke/MethodHandle" ∧ yX1_make.cls ≠ "java/lang/invoke/VarHandle" ∧ (parseMethodDescriptor yX1_make.desc).map (fun d => d.parameters.length) = some 1 := by decide +kernel
theorem hd_X1_book : yX1_book.cls ≠ "java/lang/invoke/MethodHandle" ∧ yX1_book.cls ≠ "java/lang/invoke/VarHandle" ∧ (parseMethodDescriptor yX1_book.desc).map (fun d => d.parameters.length) = some 3 := by decide +kernel
theorem hd_X1_checkLane : yX1_checkLane.cls ≠ "java/lang/invoke/MethodHandle" ∧ yX1_checkLane.cls ≠ "java/lang/invoke/VarHandle" ∧ (parseMethodDescriptor yX1_checkLane.desc).map (fun d => d.parameters.length) = some 1 := by decide +kernel
theorem hd_X1_cancel : yX1_cancel.cls ≠ "java/lang/invoke/MethodHandle" ∧ yX1_cancel.cls ≠ "java/lang/invoke/VarHandle" ∧ (parseMethodDescriptor yX1_cancel.desc).map (fun d => d.parameters.length) = some 1 := by decide +kernel
theorem hd_X1_appointmentWith : yX1_appointmentWith.cls ≠ "java/lang/invoke/MethodHandle" ∧ yX1_appointmentWith.cls ≠ "java/lang/invoke/VarHandle" ∧ (parseMethodDescriptor yX1_appointmentWith.desc).map (fun d => d.parameters.length) = some 1 := by decide +kernel
theorem hd_X1_stateOf : yX1_stateOf.cls ≠ "java/lang/invoke/MethodHandle" ∧ yX1_stateOf.cls ≠ "java/lang/invoke/VarHandle" ∧ (parseMethodDescriptor yX1_stateOf.desc).map (fun d => d.parameters.length) = some 1 := by decide +kernel
theorem hd_X1_appointmentOf : yX1_appointmentOf.cls ≠ "java/lang/invoke/MethodHandle" ∧ yX1_appointmentOf.cls ≠ "java/lang/invoke/VarHandle" ∧ (parseMethodDescriptor yX1_appointmentOf.desc).map (fun d => d.parameters.length) = some 1 := by decide +kernel
theorem hd_X1_inLane : yX1_inLane.cls ≠ "java/lang/invoke/MethodHandle" ∧ yX1_inLane.cls ≠ "java/lang/invoke/VarHandle" ∧ (parseMethodDescriptor yX1_inLane.desc).map (fun d => d.parameters.length) = some 2 := by decide +kernel
theorem hd_X1_firstHour : yX1_firstHour.cls ≠ "java/lang/invoke/MethodHandle" ∧ yX1_firstHour.cls ≠ "java/lang/invoke/VarHandle" ∧ (parseMethodDescriptor yX1_firstHour.desc).map (fun d => d.parameters.length) = some 1 := by decide +kernel
theorem hd_X1_isFree : yX1_isFree.cls ≠ "java/lang/invoke/MethodHandle" ∧ yX1_isFree.cls ≠ "java/lang/invoke/VarHandle" ∧ (parseMethodDescriptor yX1_isFree.desc).map (fun d => d.parameters.length) = some 1 := by decide +kernel
theorem hd_X1_pass : yX1_pass.cls ≠ "java/lang/invoke/MethodHandle" ∧ yX1_pass.cls ≠ "java/lang/invoke/VarHandle" ∧ (parseMethodDescriptor yX1_pass.desc).map (fun d => d.parameters.length) = some 1 := by decide +kernel
theorem hd_X1_endHolds : yX1_endHolds.cls ≠ "java/lang/invoke/MethodHandle" ∧ yX1_endHolds.cls ≠ "java/lang/invoke/VarHandle" ∧ (parseMethodDescriptor yX1_endHolds.desc).map (fun d => d.parameters.length) = some 0 := by decide +kernel
theorem hd_X1_serve : yX1_serve.cls ≠ "java/lang/invoke/MethodHandle" ∧ yX1_serve.cls ≠ "java/lang/invoke/VarHandle" ∧ (parseMethodDescriptor yX1_serve.desc).map (fun d => d.parameters.length) = some 1 := by decide +kernel
theorem hd_X1_doneShare : yX1_doneShare.cls ≠ "java/lang/invoke/MethodHandle" ∧ yX1_doneShare.cls ≠ "java/lang/invoke/VarHandle" ∧ (parseMethodDescriptor yX1_doneShare.desc).map (fun d => d.parameters.length) = some 0 := by decide +kernel
theorem hd_X1_count : yX1_count.cls ≠ "java/lang/invoke/MethodHandle" ∧ yX1_count.cls ≠ "java/lang/invoke/VarHandle" ∧ (parseMethodDescriptor yX1_count.desc).map (fun d => d.parameters.length) = some 1 := by decide +kernel
theorem hd_X2_init : yX2_init.cls ≠ "java/lang/invoke/MethodHandle" ∧ yX2_init.cls ≠ "java/lang/invoke/VarHandle" ∧ (parseMethodDescriptor yX2_init.desc).map (fun d => d.parameters.length) = some 0 := by decide +kernel
theorem hd_X2_takes : yX2_takes.cls ≠ "java/lang/invoke/MethodHandle" ∧ yX2_takes.cls ≠ "java/lang/invoke/VarHandle" ∧ (parseMethodDescriptor yX2_takes.desc).map (fun d => d.parameters.length) = some 3 := by decide +kernel
theorem hd_X2_top : yX2_top.cls ≠ "java/lang/invoke/MethodHandle" ∧ yX2_top.cls ≠ "java/lang/invoke/VarHandle" ∧ (parseMethodDescriptor yX2_top.desc).map (fun d => d.parameters.length) = some 1 := by decide +kernel
theorem hd_X2_at : yX2_at.cls ≠ "java/lang/invoke/MethodHandle" ∧ yX2_at.cls ≠ "java/lang/invoke/VarHandle" ∧ (parseMethodDescriptor yX2_at.desc).map (fun d => d.parameters.length) = some 2 := by decide +kernel
theorem hd_X2_push : yX2_push.cls ≠ "java/lang/invoke/MethodHandle" ∧ yX2_push.cls ≠ "java/lang/invoke/VarHandle" ∧ (parseMethodDescriptor yX2_push.desc).map (fun d => d.parameters.length) = some 2 := by decide +kernel
theorem hd_X2_stackOf : yX2_stackOf.cls ≠ "java/lang/invoke/MethodHandle" ∧ yX2_stackOf.cls ≠ "java/lang/invoke/VarHandle" ∧ (parseMethodDescriptor yX2_stackOf.desc).map (fun d => d.parameters.length) = some 1 := by decide +kernel
theorem hd_X2_levelOf : yX2_levelOf.cls ≠ "java/lang/invoke/MethodHandle" ∧ yX2_levelOf.cls ≠ "java/lang/invoke/VarHandle" ∧ (parseMethodDescriptor yX2_levelOf.desc).map (fun d => d.parameters.length) = some 1 := by decide +kernel
theorem hd_X2_above : yX2_above.cls ≠ "java/lang/invoke/MethodHandle" ∧ yX2_above.cls ≠ "java/lang/invoke/VarHandle" ∧ (parseMethodDescriptor yX2_above.desc).map (fun d => d.parameters.length) = some 1 := by decide +kernel
theorem hd_X2_compareTo : yX2_compareTo.cls ≠ "java/lang/invoke/MethodHandle" ∧ yX2_compareTo.cls ≠ "java/lang/invoke/VarHandle" ∧ (parseMethodDescriptor yX2_compareTo.desc).map (fun d => d.parameters.length) = some 1 := by decide +kernel
theorem hd_X2_compareTo_2 : yX2_compareTo_2.cls ≠ "java/lang/invoke/MethodHandle" ∧ yX2_compareTo_2.cls ≠ "java/lang/invoke/VarHandle" ∧ (parseMethodDescriptor yX2_compareTo_2.desc).map (fun d => d.parameters.length) = some 1 := by decide +kernel
theorem hd_X2_topOf : yX2_topOf.cls ≠ "java/lang/invoke/MethodHandle" ∧ yX2_topOf.cls ≠ "java/lang/invoke/VarHandle" ∧ (parseMethodDescriptor yX2_topOf.desc).map (fun d => d.parameters.length) = some 1 := by decide +kernel
theorem hd_X2_pop : yX2_pop.cls ≠ "java/lang/invoke/MethodHandle" ∧ yX2_pop.cls ≠ "java/lang/invoke/VarHandle" ∧ (parseMethodDescriptor yX2_pop.desc).map (fun d => d.parameters.length) = some 1 := by decide +kernel
theorem hd_X2_copy : yX2_copy.cls ≠ "java/lang/invoke/MethodHandle" ∧ yX2_copy.cls ≠ "java/lang/invoke/VarHandle" ∧ (parseMethodDescriptor yX2_copy.desc).map (fun d => d.parameters.length) = some 0 := by decide +kernel
theorem hd_X2_init_2 : yX2_init_2.cls ≠ "java/lang/invoke/MethodHandle" ∧ yX2_init_2.cls ≠ "java/lang/invoke/VarHandle" ∧ (parseMethodDescriptor yX2_init_2.desc).map (fun d => d.parameters.length) = some 1 := by decide +kernel
theorem hd_X3_init : yX3_init.cls ≠ "java/lang/invoke/MethodHandle" ∧ yX3_init.cls ≠ "java/lang/invoke/VarHandle" ∧ (parseMethodDescriptor yX3_init.desc).map (fun d => d.parameters.length) = some 0 := by decide +kernel
theorem hd_X3_thrown : yX3_thrown.cls ≠ "java/lang/invoke/MethodHandle" ∧ yX3_thrown.cls ≠ "java/lang/invoke/VarHandle" ∧ (parseMethodDescriptor yX3_thrown.desc).map (fun d => d.parameters.length) = some 0 := by decide +kernel
theorem hd_X3_addStack : yX3_addStack.cls ≠ "java/lang/invoke/MethodHandle" ∧ yX3_addStack.cls ≠ "java/lang/invoke/VarHandle" ∧ (parseMethodDescriptor yX3_addStack.desc).map (fun d => d.parameters.length) = some 1 := by decide +kernel
theorem hd_X3_in : yX3_in.cls ≠ "java/lang/invoke/MethodHandle" ∧ yX3_in.cls ≠ "java/lang/invoke/VarHandle" ∧ (parseMethodDescriptor yX3_in.desc).map (fun d => d.parameters.length) = some 3 := by decide +kernel
theorem hd_X3_fails : yX3_fails.cls ≠ "java/lang/invoke/MethodHandle" ∧ yX3_fails.cls ≠ "java/lang/invoke/VarHandle" ∧ (parseMethodDescriptor yX3_fails.desc).map (fun d => d.parameters.length) = some 1 := by decide +kernel
theorem hd_X3_addBox : yX3_addBox.cls ≠ "java/lang/invoke/MethodHandle" ∧ yX3_addBox.cls ≠ "java/lang/invoke/VarHandle" ∧ (parseMethodDescriptor yX3_addBox.desc).map (fun d => d.parameters.length) = some 2 := by decide +kernel
theorem hd_X3_isStack : yX3_isStack.cls ≠ "java/lang/invoke/MethodHandle" ∧ yX3_isStack.cls ≠ "java/lang/invoke/VarHandle" ∧ (parseMethodDescriptor yX3_isStack.desc).map (fun d => d.parameters.length) = some 1 := by decide +kernel
theorem hd_X3_takes : yX3_takes.cls ≠ "java/lang/invoke/MethodHandle" ∧ yX3_takes.cls ≠ "java/lang/invoke/VarHandle" ∧ (parseMethodDescriptor yX3_takes.desc).map (fun d => d.parameters.length) = some 3 := by decide +kernel
theorem hd_X3_topOf : yX3_topOf.cls ≠ "java/lang/invoke/MethodHandle" ∧ yX3_topOf.cls ≠ "java/lang/invoke/VarHandle" ∧ (parseMethodDescriptor yX3_topOf.desc).map (fun d => d.parameters.length) = some 2 := by decide +kernel
theorem hd_X3_insideNow : yX3_insideNow.cls ≠ "java/lang/invoke/MethodHandle" ∧ yX3_insideNow.cls ≠ "java/lang/invoke/VarHandle" ∧ (parseMethodDescriptor yX3_insideNow.desc).map (fun d => d.parameters.length) = some 0 := by decide +kernel
theorem hd_X3_lays : yX3_lays.cls ≠ "java/lang/invoke/MethodHandle" ∧ yX3_lays.cls ≠ "java/lang/invoke/VarHandle" ∧ (parseMethodDescriptor yX3_lays.desc).map (fun d => d.parameters.length) = some 3 := by decide +kernel
theorem hd_X3_boxes : yX3_boxes.cls ≠ "java/lang/invoke/MethodHandle" ∧ yX3_boxes.cls ≠ "java/lang/invoke/VarHandle" ∧ (parseMethodDescriptor yX3_boxes.desc).map (fun d => d.parameters.length) = some 0 := by decide +kernel
theorem hd_X3_isInYard : yX3_isInYard.cls ≠ "java/lang/invoke/MethodHandle" ∧ yX3_isInYard.cls ≠ "java/lang/invoke/VarHandle" ∧ (parseMethodDescriptor yX3_isInYard.desc).map (fun d => d.parameters.length) = some 1 := by decide +kernel
theorem hd_X3_isBox : yX3_isBox.cls ≠ "java/lang/invoke/MethodHandle" ∧ yX3_isBox.cls ≠ "java/lang/invoke/VarHandle" ∧ (parseMethodDescriptor yX3_isBox.desc).map (fun d => d.parameters.length) = some 1 := by decide +kernel
theorem hd_X3_weight : yX3_weight.cls ≠ "java/lang/invoke/MethodHandle" ∧ yX3_weight.cls ≠ "java/lang/invoke/VarHandle" ∧ (parseMethodDescriptor yX3_weight.desc).map (fun d => d.parameters.length) = some 1 := by decide +kernel
theorem hd_X3_stackOf : yX3_stackOf.cls ≠ "java/lang/invoke/MethodHandle" ∧ yX3_stackOf.cls ≠ "java/lang/invoke/VarHandle" ∧ (parseMethodDescriptor yX3_stackOf.desc).map (fun d => d.parameters.length) = some 1 := by decide +kernel
theorem hd_X3_placeOf : yX3_placeOf.cls ≠ "java/lang/invoke/MethodHandle" ∧ yX3_placeOf.cls ≠ "java/lang/invoke/VarHandle" ∧ (parseMethodDescriptor yX3_placeOf.desc).map (fun d => d.parameters.length) = some 2 := by decide +kernel
theorem hd_X3_level : yX3_level.cls ≠ "java/lang/invoke/MethodHandle" ∧ yX3_level.cls ≠ "java/lang/invoke/VarHandle" ∧ (parseMethodDescriptor yX3_level.desc).map (fun d => d.parameters.length) = some 1 := by decide +kernel
theorem hd_X3_levelOf : yX3_levelOf.cls ≠ "java/lang/invoke/MethodHandle" ∧ yX3_levelOf.cls ≠ "java/lang/invoke/VarHandle" ∧ (parseMethodDescriptor yX3_levelOf.desc).map (fun d => d.parameters.length) = some 2 := by decide +kernel
theorem hd_X3_above : yX3_above.cls ≠ "java/lang/invoke/MethodHandle" ∧ yX3_above.cls ≠ "java/lang/invoke/VarHandle" ∧ (parseMethodDescriptor yX3_above.desc).map (fun d => d.parameters.length) = some 1 := by decide +kernel
theorem hd_X3_aboveOf : yX3_aboveOf.cls ≠ "java/lang/invoke/MethodHandle" ∧ yX3_aboveOf.cls ≠ "java/lang/invoke/VarHandle" ∧ (parseMethodDescriptor yX3_aboveOf.desc).map (fun d => d.parameters.length) = some 1 := by decide +kernel
theorem hd_X3_height : yX3_height.cls ≠ "java/lang/invoke/MethodHandle" ∧ yX3_height.cls ≠ "java/lang/invoke/VarHandle" ∧ (parseMethodDescriptor yX3_height.desc).map (fun d => d.parameters.length) = some 1 := by decide +kernel
theorem hd_X3_boxAt : yX3_boxAt.cls ≠ "java/lang/invoke/MethodHandle" ∧ yX3_boxAt.cls ≠ "java/lang/invoke/VarHandle" ∧ (parseMethodDescriptor yX3_boxAt.desc).map (fun d => d.parameters.length) = some 2 := by decide +kernel
theorem hd_X3_hold : yX3_hold.cls ≠ "java/lang/invoke/MethodHandle" ∧ yX3_hold.cls ≠ "java/lang/invoke/VarHandle" ∧ (parseMethodDescriptor yX3_hold.desc).map (fun d => d.parameters.length) = some 3 := by decide +kernel
theorem hd_X3_appointmentIn : yX3_appointmentIn.cls ≠ "java/lang/invoke/MethodHandle" ∧ yX3_appointmentIn.cls ≠ "java/lang/invoke/VarHandle" ∧ (parseMethodDescriptor yX3_appointmentIn.desc).map (fun d => d.parameters.length) = some 1 := by decide +kernel
theorem hd_X3_release : yX3_release.cls ≠ "java/lang/invoke/MethodHandle" ∧ yX3_release.cls ≠ "java/lang/invoke/VarHandle" ∧ (parseMethodDescriptor yX3_release.desc).map (fun d => d.parameters.length) = some 1 := by decide +kernel
theorem hd_X3_holdOf : yX3_holdOf.cls ≠ "java/lang/invoke/MethodHandle" ∧ yX3_holdOf.cls ≠ "java/lang/invoke/VarHandle" ∧ (parseMethodDescriptor yX3_holdOf.desc).map (fun d => d.parameters.length) = some 1 := by decide +kernel
theorem hd_X3_heldUntil : yX3_heldUntil.cls ≠ "java/lang/invoke/MethodHandle" ∧ yX3_heldUntil.cls ≠ "java/lang/invoke/VarHandle" ∧ (parseMethodDescriptor yX3_heldUntil.desc).map (fun d => d.parameters.length) = some 1 := by decide +kernel
theorem hd_X3_pinnedAbove : yX3_pinnedAbove.cls ≠ "java/lang/invoke/MethodHandle" ∧ yX3_pinnedAbove.cls ≠ "java/lang/invoke/VarHandle" ∧ (parseMethodDescriptor yX3_pinnedAbove.desc).map (fun d => d.parameters.length) = some 1 := by decide +kernel
theorem hd_X3_isPinned : yX3_isPinned.cls ≠ "java/lang/invoke/MethodHandle" ∧ yX3_isPinned.cls ≠ "java/lang/invoke/VarHandle" ∧ (parseMethodDescriptor yX3_isPinned.desc).map (fun d => d.parameters.length) = some 1 := by decide +kernel
theorem hd_X3_why : yX3_why.cls ≠ "java/lang/invoke/MethodHandle" ∧ yX3_why.cls ≠ "java/lang/invoke/VarHandle" ∧ (parseMethodDescriptor yX3_why.desc).map (fun d => d.parameters.length) = some 2 := by decide +kernel
theorem hd_X3_isTop : yX3_isTop.cls ≠ "java/lang/invoke/MethodHandle" ∧ yX3_isTop.cls ≠ "java/lang/invoke/VarHandle" ∧ (parseMethodDescriptor yX3_isTop.desc).map (fun d => d.parameters.length) = some 2 := by decide +kernel
theorem hd_X3_move : yX3_move.cls ≠ "java/lang/invoke/MethodHandle" ∧ yX3_move.cls ≠ "java/lang/invoke/VarHandle" ∧ (parseMethodDescriptor yX3_move.desc).map (fun d => d.parameters.length) = some 2 := by decide +kernel
theorem hd_X3_canMove : yX3_canMove.cls ≠ "java/lang/invoke/MethodHandle" ∧ yX3_canMove.cls ≠ "java/lang/invoke/VarHandle" ∧ (parseMethodDescriptor yX3_canMove.desc).map (fun d => d.parameters.length) = some 3 := by decide +kernel
theorem hd_X3_moves : yX3_moves.cls ≠ "java/lang/invoke/MethodHandle" ∧ yX3_moves.cls ≠ "java/lang/invoke/VarHandle" ∧ (parseMethodDescriptor yX3_moves.desc).map (fun d => d.parameters.length) = some 3 := by decide +kernel
theorem hd_X3_planLength : yX3_planLength.cls ≠ "java/lang/invoke/MethodHandle" ∧ yX3_planLength.cls ≠ "java/lang/invoke/VarHandle" ∧ (parseMethodDescriptor yX3_planLength.desc).map (fun d => d.parameters.length) = some 1 := by decide +kernel
theorem hd_X3_planned : yX3_planned.cls ≠ "java/lang/invoke/MethodHandle" ∧ yX3_planned.cls ≠ "java/lang/invoke/VarHandle" ∧ (parseMethodDescriptor yX3_planned.desc).map (fun d => d.parameters.length) = some 1 := by decide +kernel
theorem hd_X3_plans : yX3_plans.cls ≠ "java/lang/invoke/MethodHandle" ∧ yX3_plans.cls ≠ "java/lang/invoke/VarHandle" ∧ (parseMethodDescriptor yX3_plans.desc).map (fun d => d.parameters.length) = some 1 := by decide +kernel
theorem hd_X3_finds : yX3_finds.cls ≠ "java/lang/invoke/MethodHandle" ∧ yX3_finds.cls ≠ "java/lang/invoke/VarHandle" ∧ (parseMethodDescriptor yX3_finds.desc).map (fun d => d.parameters.length) = some 2 := by decide +kernel
theorem hd_X3_nextMove : yX3_nextMove.cls ≠ "java/lang/invoke/MethodHandle" ∧ yX3_nextMove.cls ≠ "java/lang/invoke/VarHandle" ∧ (parseMethodDescriptor yX3_nextMove.desc).map (fun d => d.parameters.length) = some 3 := by decide +kernel
theorem hd_X3_copies : yX3_copies.cls ≠ "java/lang/invoke/MethodHandle" ∧ yX3_copies.cls ≠ "java/lang/invoke/VarHandle" ∧ (parseMethodDescriptor yX3_copies.desc).map (fun d => d.parameters.length) = some 2 := by decide +kernel
theorem hd_X3_planByTrying : yX3_planByTrying.cls ≠ "java/lang/invoke/MethodHandle" ∧ yX3_planByTrying.cls ≠ "java/lang/invoke/VarHandle" ∧ (parseMethodDescriptor yX3_planByTrying.desc).map (fun d => d.parameters.length) = some 1 := by decide +kernel
theorem hd_X3_planBox : yX3_planBox.cls ≠ "java/lang/invoke/MethodHandle" ∧ yX3_planBox.cls ≠ "java/lang/invoke/VarHandle" ∧ (parseMethodDescriptor yX3_planBox.desc).map (fun d => d.parameters.length) = some 2 := by decide +kernel
theorem hd_X3_plannedAt : yX3_plannedAt.cls ≠ "java/lang/invoke/MethodHandle" ∧ yX3_plannedAt.cls ≠ "java/lang/invoke/VarHandle" ∧ (parseMethodDescriptor yX3_plannedAt.desc).map (fun d => d.parameters.length) = some 2 := by decide +kernel
theorem hd_X3_planStack : yX3_planStack.cls ≠ "java/lang/invoke/MethodHandle" ∧ yX3_planStack.cls ≠ "java/lang/invoke/VarHandle" ∧ (parseMethodDescriptor yX3_planStack.desc).map (fun d => d.parameters.length) = some 2 := by decide +kernel
theorem hd_X3_dig : yX3_dig.cls ≠ "java/lang/invoke/MethodHandle" ∧ yX3_dig.cls ≠ "java/lang/invoke/VarHandle" ∧ (parseMethodDescriptor yX3_dig.desc).map (fun d => d.parameters.length) = some 1 := by decide +kernel
theorem hd_X3_makes : yX3_makes.cls ≠ "java/lang/invoke/MethodHandle" ∧ yX3_makes.cls ≠ "java/lang/invoke/VarHandle" ∧ (parseMethodDescriptor yX3_makes.desc).map (fun d => d.parameters.length) = some 1 := by decide +kernel
theorem hd_X3_moves_2 : yX3_moves_2.cls ≠ "java/lang/invoke/MethodHandle" ∧ yX3_moves_2.cls ≠ "java/lang/invoke/VarHandle" ∧ (parseMethodDescriptor yX3_moves_2.desc).map (fun d => d.parameters.length) = some 0 := by decide +kernel
theorem hd_X3_book : yX3_book.cls ≠ "java/lang/invoke/MethodHandle" ∧ yX3_book.cls ≠ "java/lang/invoke/VarHandle" ∧ (parseMethodDescriptor yX3_book.desc).map (fun d => d.parameters.length) = some 3 := by decide +kernel
theorem hd_X3_isHeldIn : yX3_isHeldIn.cls ≠ "java/lang/invoke/MethodHandle" ∧ yX3_isHeldIn.cls ≠ "java/lang/invoke/VarHandle" ∧ (parseMethodDescriptor yX3_isHeldIn.desc).map (fun d => d.parameters.length) = some 2 := by decide +kernel
theorem hd_X3_bookedIn : yX3_bookedIn.cls ≠ "java/lang/invoke/MethodHandle" ∧ yX3_bookedIn.cls ≠ "java/lang/invoke/VarHandle" ∧ (parseMethodDescriptor yX3_bookedIn.desc).map (fun d => d.parameters.length) = some 2 := by decide +kernel
theorem hd_X3_cancel : yX3_cancel.cls ≠ "java/lang/invoke/MethodHandle" ∧ yX3_cancel.cls ≠ "java/lang/invoke/VarHandle" ∧ (parseMethodDescriptor yX3_cancel.desc).map (fun d => d.parameters.length) = some 1 := by decide +kernel
theorem hd_X3_counted : yX3_counted.cls ≠ "java/lang/invoke/MethodHandle" ∧ yX3_counted.cls ≠ "java/lang/invoke/VarHandle" ∧ (parseMethodDescriptor yX3_counted.desc).map (fun d => d.parameters.length) = some 1 := by decide +kernel
theorem hd_X3_stateOf : yX3_stateOf.cls ≠ "java/lang/invoke/MethodHandle" ∧ yX3_stateOf.cls ≠ "java/lang/invoke/VarHandle" ∧ (parseMethodDescriptor yX3_stateOf.desc).map (fun d => d.parameters.length) = some 1 := by decide +kernel
theorem hd_X3_appointmentOf : yX3_appointmentOf.cls ≠ "java/lang/invoke/MethodHandle" ∧ yX3_appointmentOf.cls ≠ "java/lang/invoke/VarHandle" ∧ (parseMethodDescriptor yX3_appointmentOf.desc).map (fun d => d.parameters.length) = some 1 := by decide +kernel
theorem hd_X3_inLane : yX3_inLane.cls ≠ "java/lang/invoke/MethodHandle" ∧ yX3_inLane.cls ≠ "java/lang/invoke/VarHandle" ∧ (parseMethodDescriptor yX3_inLane.desc).map (fun d => d.parameters.length) = some 2 := by decide +kernel
theorem hd_X3_firstHour : yX3_firstHour.cls ≠ "java/lang/invoke/MethodHandle" ∧ yX3_firstHour.cls ≠ "java/lang/invoke/VarHandle" ∧ (parseMethodDescriptor yX3_firstHour.desc).map (fun d => d.parameters.length) = some 1 := by decide +kernel
theorem hd_X3_pass : yX3_pass.cls ≠ "java/lang/invoke/MethodHandle" ∧ yX3_pass.cls ≠ "java/lang/invoke/VarHandle" ∧ (parseMethodDescriptor yX3_pass.desc).map (fun d => d.parameters.length) = some 1 := by decide +kernel
theorem hd_X3_leaves : yX3_leaves.cls ≠ "java/lang/invoke/MethodHandle" ∧ yX3_leaves.cls ≠ "java/lang/invoke/VarHandle" ∧ (parseMethodDescriptor yX3_leaves.desc).map (fun d => d.parameters.length) = some 1 := by decide +kernel
theorem hd_X3_now : yX3_now.cls ≠ "java/lang/invoke/MethodHandle" ∧ yX3_now.cls ≠ "java/lang/invoke/VarHandle" ∧ (parseMethodDescriptor yX3_now.desc).map (fun d => d.parameters.length) = some 0 := by decide +kernel
theorem hd_X3_weightLeft : yX3_weightLeft.cls ≠ "java/lang/invoke/MethodHandle" ∧ yX3_weightLeft.cls ≠ "java/lang/invoke/VarHandle" ∧ (parseMethodDescriptor yX3_weightLeft.desc).map (fun d => d.parameters.length) = some 0 := by decide +kernel
theorem hd_X3_doneShare : yX3_doneShare.cls ≠ "java/lang/invoke/MethodHandle" ∧ yX3_doneShare.cls ≠ "java/lang/invoke/VarHandle" ∧ (parseMethodDescriptor yX3_doneShare.desc).map (fun d => d.parameters.length) = some 0 := by decide +kernel
theorem hd_X4_init : yX4_init.cls ≠ "java/lang/invoke/MethodHandle" ∧ yX4_init.cls ≠ "java/lang/invoke/VarHandle" ∧ (parseMethodDescriptor yX4_init.desc).map (fun d => d.parameters.length) = some 2 := by decide +kernel
theorem hd_X4_isHeldAt : yX4_isHeldAt.cls ≠ "java/lang/invoke/MethodHandle" ∧ yX4_isHeldAt.cls ≠ "java/lang/invoke/VarHandle" ∧ (parseMethodDescriptor yX4_isHeldAt.desc).map (fun d => d.parameters.length) = some 1 := by decide +kernel
theorem hd_X4_isPinned : yX4_isPinned.cls ≠ "java/lang/invoke/MethodHandle" ∧ yX4_isPinned.cls ≠ "java/lang/invoke/VarHandle" ∧ (parseMethodDescriptor yX4_isPinned.desc).map (fun d => d.parameters.length) = some 0 := by decide +kernel
theorem hd_X5_compare : yX5_compare.cls ≠ "java/lang/invoke/MethodHandle" ∧ yX5_compare.cls ≠ "java/lang/invoke/VarHandle" ∧ (parseMethodDescriptor yX5_compare.desc).map (fun d => d.parameters.length) = some 2 := by decide +kernel
theorem hd_X5_compare_2 : yX5_compare_2.cls ≠ "java/lang/invoke/MethodHandle" ∧ yX5_compare_2.cls ≠ "java/lang/invoke/VarHandle" ∧ (parseMethodDescriptor yX5_compare_2.desc).map (fun d => d.parameters.length) = some 2 := by decide +kernel
theorem hd_X5_init : yX5_init.cls ≠ "java/lang/invoke/MethodHandle" ∧ yX5_init.cls ≠ "java/lang/invoke/VarHandle" ∧ (parseMethodDescriptor yX5_init.desc).map (fun d => d.parameters.length) = some 0 := by decide +kernel
theorem hd_X6_init : yX6_init.cls ≠ "java/lang/invoke/MethodHandle" ∧ yX6_init.cls ≠ "java/lang/invoke/VarHandle" ∧ (parseMethodDescriptor yX6_init.desc).map (fun d => d.parameters.length) = some 4 := by decide +kernel
theorem hd_X6_with : yX6_with.cls ≠ "java/lang/invoke/MethodHandle" ∧ yX6_with.cls ≠ "java/lang/invoke/VarHandle" ∧ (parseMethodDescriptor yX6_with.desc).map (fun d => d.parameters.length) = some 4 := by decide +kernel
theorem hd_X6_with_2 : yX6_with_2.cls ≠ "java/lang/invoke/MethodHandle" ∧ yX6_with_2.cls ≠ "java/lang/invoke/VarHandle" ∧ (parseMethodDescriptor yX6_with_2.desc).map (fun d => d.parameters.length) = some 2 := by decide +kernel
theorem hd_X7_compareTo : yX7_compareTo.cls ≠ "java/lang/invoke/MethodHandle" ∧ yX7_compareTo.cls ≠ "java/lang/invoke/VarHandle" ∧ (parseMethodDescriptor yX7_compareTo.desc).map (fun d => d.parameters.length) = some 1 := by decide +kernel
theorem hd_X7_compareTo_2 : yX7_compareTo_2.cls ≠ "java/lang/invoke/MethodHandle" ∧ yX7_compareTo_2.cls ≠ "java/lang/invoke/VarHandle" ∧ (parseMethodDescriptor yX7_compareTo_2.desc).map (fun d => d.parameters.length) = some 1 := by decide +kernel
theorem hd_X7_init : yX7_init.cls ≠ "java/lang/invoke/MethodHandle" ∧ yX7_init.cls ≠ "java/lang/invoke/VarHandle" ∧ (parseMethodDescriptor yX7_init.desc).map (fun d => d.parameters.length) = some 2 := by decide +kernel
theorem hd_X8_init : yX8_init.cls ≠ "java/lang/invoke/MethodHandle" ∧ yX8_init.cls ≠ "java/lang/invoke/VarHandle" ∧ (parseMethodDescriptor yX8_init.desc).map (fun d => d.parameters.length) = some 3 := by decide +kernel
theorem hdi_List_iterator : (⟨"java/util/List", "iterator", "()Ljava/util/Iterator;"⟩ : MethodName).cls ≠ "java/lang/invoke/MethodHandle" ∧ (⟨"java/util/List", "iterator", "()Ljava/util/Iterator;"⟩ : MethodName).cls ≠ "java/lang/invoke/VarHandle" ∧ (parseMethodDescriptor (⟨"java/util/List", "iterator", "()Ljava/util/Iterator;"⟩ : MethodName).desc).map (fun d => d.parameters.length) = some 0 := by decide +kernel
theorem hdi_List_size : (⟨"java/util/List", "size", "()I"⟩ : MethodName).cls ≠ "java/lang/invoke/MethodHandle" ∧ (⟨"java/util/List", "size", "()I"⟩ : MethodName).cls ≠ "java/lang/invoke/VarHandle" ∧ (parseMethodDescriptor (⟨"java/util/List", "size", "()I"⟩ : MethodName).desc).map (fun d => d.parameters.length) = some 0 := by decide +kernel
theorem hdi_List_add : (⟨"java/util/List", "add", "(Ljava/lang/Object;)Z"⟩ : MethodName).cls ≠ "java/lang/invoke/MethodHandle" ∧ (⟨"java/util/List", "add", "(Ljava/lang/Object;)Z"⟩ : MethodName).cls ≠ "java/lang/invoke/VarHandle" ∧ (parseMethodDescriptor (⟨"java/util/List", "add", "(Ljava/lang/Object;)Z"⟩ : MethodName).desc).map (fun d => d.parameters.length) = some 1 := by decide +kernel
theorem hdi_List_get : (⟨"java/util/List", "get", "(I)Ljava/lang/Object;"⟩ : MethodName).cls ≠ "java/lang/invoke/MethodHandle" ∧ (⟨"java/util/List", "get", "(I)Ljava/lang/Object;"⟩ : MethodName).cls ≠ "java/lang/invoke/VarHandle" ∧ (parseMethodDescriptor (⟨"java/util/List", "get", "(I)Ljava/lang/Object;"⟩ : MethodName).desc).map (fun d => d.parameters.length) = some 1 := by decide +kernel
theorem hdi_Iterator_hasNext : (⟨"java/util/Iterator", "hasNext", "()Z"⟩ : MethodName).cls ≠ "java/lang/invoke/MethodHandle" ∧ (⟨"java/util/Iterator", "hasNext", "()Z"⟩ : MethodName).cls ≠ "java/lang/invoke/VarHandle" ∧ (parseMethodDescriptor (⟨"java/util/Iterator", "hasNext", "()Z"⟩ : MethodName).desc).map (fun d => d.parameters.length) = some 0 := by decide +kernel
theorem hdi_Iterator_next : (⟨"java/util/Iterator", "next", "()Ljava/lang/Object;"⟩ : MethodName).cls ≠ "java/lang/invoke/MethodHandle" ∧ (⟨"java/util/Iterator", "next", "()Ljava/lang/Object;"⟩ : MethodName).cls ≠ "java/lang/invoke/VarHandle" ∧ (parseMethodDescriptor (⟨"java/util/Iterator", "next", "()Ljava/lang/Object;"⟩ : MethodName).desc).map (fun d => d.parameters.length) = some 0 := by decide +kernel
theorem hdi_Comparator_compare : (⟨"java/util/Comparator", "compare", "(Ljava/lang/Object;Ljava/lang/Object;)I"⟩ : MethodName).cls ≠ "java/lang/invoke/MethodHandle" ∧ (⟨"java/util/Comparator", "compare", "(Ljava/lang/Object;Ljava/lang/Object;)I"⟩ : MethodName).cls ≠ "java/lang/invoke/VarHandle" ∧ (parseMethodDescriptor (⟨"java/util/Comparator", "compare", "(Ljava/lang/Object;Ljava/lang/Object;)I"⟩ : MethodName).desc).map (fun d => d.parameters.length) = some 2 := by decide +kernel
theorem hdi_Comparable_compareTo : (⟨"java/lang/Comparable", "compareTo", "(Ljava/lang/Object;)I"⟩ : MethodName).cls ≠ "java/lang/invoke/MethodHandle" ∧ (⟨"java/lang/Comparable", "compareTo", "(Ljava/lang/Object;)I"⟩ : MethodName).cls ≠ "java/lang/invoke/VarHandle" ∧ (parseMethodDescriptor (⟨"java/lang/Comparable", "compareTo", "(Ljava/lang/Object;)I"⟩ : MethodName).desc).map (fun d => d.parameters.length) = some 1 := by decide +kernel
theorem hdi_Map_get : (⟨"java/util/Map", "get", "(Ljava/lang/Object;)Ljava/lang/Object;"⟩ : MethodName).cls ≠ "java/lang/invoke/MethodHandle" ∧ (⟨"java/util/Map", "get", "(Ljava/lang/Object;)Ljava/lang/Object;"⟩ : MethodName).cls ≠ "java/lang/invoke/VarHandle" ∧ (parseMethodDescriptor (⟨"java/util/Map", "get", "(Ljava/lang/Object;)Ljava/lang/Object;"⟩ : MethodName).desc).map (fun d => d.parameters.length) = some 1 := by decide +kernel
theorem hdi_Map_put : (⟨"java/util/Map", "put", "(Ljava/lang/Object;Ljava/lang/Object;)Ljava/lang/Object;"⟩ : MethodName).cls ≠ "java/lang/invoke/MethodHandle" ∧ (⟨"java/util/Map", "put", "(Ljava/lang/Object;Ljava/lang/Object;)Ljava/lang/Object;"⟩ : MethodName).cls ≠ "java/lang/invoke/VarHandle" ∧ (parseMethodDescriptor (⟨"java/util/Map", "put", "(Ljava/lang/Object;Ljava/lang/Object;)Ljava/lang/Object;"⟩ : MethodName).desc).map (fun d => d.parameters.length) = some 2 := by decide +kernel
theorem hdi_Map_Entry_getKey : (⟨"java/util/Map$Entry", "getKey", "()Ljava/lang/Object;"⟩ : MethodName).cls ≠ "java/lang/invoke/MethodHandle" ∧ (⟨"java/util/Map$Entry", "getKey", "()Ljava/lang/Object;"⟩ : MethodName).cls ≠ "java/lang/invoke/VarHandle" ∧ (parseMethodDescriptor (⟨"java/util/Map$Entry", "getKey", "()Ljava/lang/Object;"⟩ : MethodName).desc).map (fun d => d.parameters.length) = some 0 := by decide +kernel
theorem hdi_Map_Entry_getValue : (⟨"java/util/Map$Entry", "getValue", "()Ljava/lang/Object;"⟩ : MethodName).cls ≠ "java/lang/invoke/MethodHandle" ∧ (⟨"java/util/Map$Entry", "getValue", "()Ljava/lang/Object;"⟩ : MethodName).cls ≠ "java/lang/invoke/VarHandle" ∧ (parseMethodDescriptor (⟨"java/util/Map$Entry", "getValue", "()Ljava/lang/Object;"⟩ : MethodName).desc).map (fun d => d.parameters.length) = some 0 := by decide +kernel
theorem zf_0 : ("java/util/ArrayList", (⟨"java/util/List", "iterator", "()Ljava/util/Iterator;"⟩ : MethodName), (⟨"java/util/ArrayList", "iterator", "()Ljava/util/Iterator;"⟩ : MethodName)) ∈ zfw := List.mem_of_getElem? (i := 0) rfl
theorem zf_1 : ("java/util/ArrayList", (⟨"java/util/List", "size", "()I"⟩ : MethodName), (⟨"java/util/ArrayList", "size", "()I"⟩ : MethodName)) ∈ zfw := List.mem_of_getElem? (i := 1) rfl
theorem zf_2 : ("java/util/ArrayList", (⟨"java/util/List", "add", "(Ljava/lang/Object;)Z"⟩ : MethodName), (⟨"java/util/ArrayList", "add", "(Ljava/lang/Object;)Z"⟩ : MethodName)) ∈ zfw := List.mem_of_getElem? (i := 2) rfl
theorem zf_3 : ("java/util/ArrayList", (⟨"java/util/List", "get", "(I)Ljava/lang/Object;"⟩ : MethodName), (⟨"java/util/ArrayList", "get", "(I)Ljava/lang/Object;"⟩ : MethodName)) ∈ zfw := List.mem_of_getElem? (i := 3) rfl
theorem zf_4 : ("java/util/ArrayList$Itr", (⟨"java/util/Iterator", "hasNext", "()Z"⟩ : MethodName), (⟨"java/util/ArrayList$Itr", "hasNext", "()Z"⟩ : MethodName)) ∈ zfw := List.mem_of_getElem? (i := 4) rfl
theorem zf_5 : ("java/util/ArrayList$Itr", (⟨"java/util/Iterator", "next", "()Ljava/lang/Object;"⟩ : MethodName), (⟨"java/util/ArrayList$Itr", "next", "()Ljava/lang/Object;"⟩ : MethodName)) ∈ zfw := List.mem_of_getElem? (i := 5) rfl
theorem zf_6 : ("Quaylock$MorePromising", (⟨"java/util/Comparator", "compare", "(Ljava/lang/Object;Ljava/lang/Object;)I"⟩ : MethodName), (⟨"Quaylock$MorePromising", "compare", "(Ljava/lang/Object;Ljava/lang/Object;)I"⟩ : MethodName)) ∈ zfw := List.mem_of_getElem? (i := 6) rfl
theorem zf_7 : ("Quaylock$Slot", (⟨"java/lang/Comparable", "compareTo", "(Ljava/lang/Object;)I"⟩ : MethodName), (⟨"Quaylock$Slot", "compareTo", "(Ljava/lang/Object;)I"⟩ : MethodName)) ∈ zfw := List.mem_of_getElem? (i := 7) rfl
theorem zf_8 : ("Quaylock$Yard", (⟨"java/lang/Comparable", "compareTo", "(Ljava/lang/Object;)I"⟩ : MethodName), (⟨"Quaylock$Yard", "compareTo", "(Ljava/lang/Object;)I"⟩ : MethodName)) ∈ zfw := List.mem_of_getElem? (i := 8) rfl
theorem zf_9 : ("java/util/TreeMap", (⟨"java/util/Map", "get", "(Ljava/lang/Object;)Ljava/lang/Object;"⟩ : MethodName), (⟨"java/util/TreeMap", "get", "(Ljava/lang/Object;)Ljava/lang/Object;"⟩ : MethodName)) ∈ zfw := List.mem_of_getElem? (i := 9) rfl
theorem zf_10 : ("java/util/TreeMap", (⟨"java/util/Map", "put", "(Ljava/lang/Object;Ljava/lang/Object;)Ljava/lang/Object;"⟩ : MethodName), (⟨"java/util/TreeMap", "put", "(Ljava/lang/Object;Ljava/lang/Object;)Ljava/lang/Object;"⟩ : MethodName)) ∈ zfw := List.mem_of_getElem? (i := 10) rfl
theorem zf_11 : ("java/util/TreeMap$Entry", (⟨"java/util/Map$Entry", "getKey", "()Ljava/lang/Object;"⟩ : MethodName), (⟨"java/util/TreeMap$Entry", "getKey", "()Ljava/lang/Object;"⟩ : MethodName)) ∈ zfw := List.mem_of_getElem? (i := 11) rfl
theorem zf_12 : ("java/util/TreeMap$Entry", (⟨"java/util/Map$Entry", "getValue", "()Ljava/lang/Object;"⟩ : MethodName), (⟨"java/util/TreeMap$Entry", "getValue", "()Ljava/lang/Object;"⟩ : MethodName)) ∈ zfw := List.mem_of_getElem? (i := 12) rfl
theorem zf_13 : ("java/util/AbstractMap$SimpleImmutableEntry", (⟨"java/util/Map$Entry", "getValue", "()Ljava/lang/Object;"⟩ : MethodName), (⟨"java/util/AbstractMap$SimpleImmutableEntry", "getValue", "()Ljava/lang/Object;"⟩ : MethodName)) ∈ zfw := List.mem_of_getElem? (i := 13) rfl
theorem zth_of {L : List Cond} (ps : List Nat) (h : L = ps.filterMap (fun i => lw_tbl[i]?)) : ∀ w ∈ L, w ∈ lw_tbl := by
  intro w hw
  rw [h] at hw
  obtain ⟨i, -, hi⟩ := List.mem_filterMap.mp hw
  exact List.mem_of_getElem? hi
theorem th_IAE : ∀ w ∈ vx_at0 "Quaylock" 42 "java/lang/IllegalArgumentException" ["java/lang/RuntimeException", "java/lang/Exception"], w ∈ lw_tbl := zth_of [66, 280, 289, 296, 299, 301, 281, 282, 103, 104, 283, 288, 297, 314, 270, 315, 272, 316, 274, 284, 286, 276, 303, 304, 305, 306, 261, 306, 307, 308, 309, 263, 309, 310, 311, 281, 265, 302, 259, 260, 267, 268, 269, 271, 273, 275, 312, 278, 277] (by decide +kernel)
theorem tk_IAE : (vx_at0 "Quaylock" 42 "java/lang/IllegalArgumentException" ["java/lang/RuntimeException", "java/lang/Exception"]).all (fun w => goodWord w || zkd w) = true := by decide +kernel
theorem tg_IAE : (Cond.classLink "Quaylock" 40 "java/lang/IllegalArgumentException" :: Cond.initialized "java/lang/IllegalArgumentException" :: vx_at0 "Quaylock" 42 "java/lang/IllegalArgumentException" ["java/lang/RuntimeException", "java/lang/Exception"]).all vx_ot = true := by decide +kernel
theorem th_ISE : ∀ w ∈ vx_at0 "Quaylock" 45 "java/lang/IllegalStateException" ["java/lang/RuntimeException", "java/lang/Exception"], w ∈ lw_tbl := zth_of [66, 280, 289, 296, 299, 301, 281, 282, 103, 104, 283, 288, 297, 314, 270, 315, 272, 316, 274, 284, 286, 276, 338, 339, 340, 306, 261, 306, 307, 308, 309, 263, 309, 310, 311, 281, 265, 337, 329, 330, 331, 292, 332, 333, 334, 335, 312, 278, 336] (by decide +kernel)
theorem tk_ISE : (vx_at0 "Quaylock" 45 "java/lang/IllegalStateException" ["java/lang/RuntimeException", "java/lang/Exception"]).all (fun w => goodWord w || zkd w) = true := by decide +kernel
theorem tg_ISE : (Cond.classLink "Quaylock" 43 "java/lang/IllegalStateException" :: Cond.initialized "java/lang/IllegalStateException" :: vx_at0 "Quaylock" 45 "java/lang/IllegalStateException" ["java/lang/RuntimeException", "java/lang/Exception"]).all vx_ot = true := by decide +kernel
theorem th_NSE : ∀ w ∈ vx_at0 "Quaylock" 48 "java/util/NoSuchElementException" ["java/lang/RuntimeException", "java/lang/Exception"], w ∈ lw_tbl := zth_of [66, 280, 289, 296, 299, 301, 281, 282, 103, 104, 283, 288, 297, 314, 270, 315, 272, 316, 274, 284, 286, 276, 538, 539, 540, 306, 261, 306, 307, 308, 309, 263, 309, 310, 311, 281, 265, 537, 529, 530, 531, 295, 532, 533, 534, 535, 312, 278, 536] (by decide +kernel)
theorem tk_NSE : (vx_at0 "Quaylock" 48 "java/util/NoSuchElementException" ["java/lang/RuntimeException", "java/lang/Exception"]).all (fun w => goodWord w || zkd w) = true := by decide +kernel
theorem tg_NSE : (Cond.classLink "Quaylock" 46 "java/util/NoSuchElementException" :: Cond.initialized "java/util/NoSuchElementException" :: vx_at0 "Quaylock" 48 "java/util/NoSuchElementException" ["java/lang/RuntimeException", "java/lang/Exception"]).all vx_ot = true := by decide +kernel
theorem th_UOE : ∀ w ∈ vx_at0 "Quaylock" 51 "java/lang/UnsupportedOperationException" ["java/lang/RuntimeException", "java/lang/Exception"], w ∈ lw_tbl := zth_of [66, 280, 289, 296, 299, 301, 281, 282, 103, 104, 283, 288, 297, 314, 270, 315, 272, 316, 274, 284, 286, 276, 455, 456, 457, 306, 261, 306, 307, 308, 309, 263, 309, 310, 311, 281, 265, 454, 446, 447, 448, 294, 449, 450, 451, 452, 312, 278, 453] (by decide +kernel)
theorem tk_UOE : (vx_at0 "Quaylock" 51 "java/lang/UnsupportedOperationException" ["java/lang/RuntimeException", "java/lang/Exception"]).all (fun w => goodWord w || zkd w) = true := by decide +kernel
theorem tg_UOE : (Cond.classLink "Quaylock" 49 "java/lang/UnsupportedOperationException" :: Cond.initialized "java/lang/UnsupportedOperationException" :: vx_at0 "Quaylock" 51 "java/lang/UnsupportedOperationException" ["java/lang/RuntimeException", "java/lang/Exception"]).all vx_ot = true := by decide +kernel
theorem th_IOB : ∀ w ∈ vx_at0 "Quaylock" 54 "java/lang/IndexOutOfBoundsException" ["java/lang/RuntimeException", "java/lang/Exception"], w ∈ lw_tbl := zth_of [66, 280, 289, 296, 299, 301, 281, 282, 103, 104, 283, 288, 297, 314, 270, 315, 272, 316, 274, 284, 286, 276, 401, 402, 403, 306, 261, 306, 307, 308, 309, 263, 309, 310, 311, 281, 265, 400, 392, 393, 394, 293, 395, 396, 397, 398, 312, 278, 399] (by decide +kernel)
theorem tk_IOB : (vx_at0 "Quaylock" 54 "java/lang/IndexOutOfBoundsException" ["java/lang/RuntimeException", "java/lang/Exception"]).all (fun w => goodWord w || zkd w) = true := by decide +kernel
theorem tg_IOB : (Cond.classLink "Quaylock" 52 "java/lang/IndexOutOfBoundsException" :: Cond.initialized "java/lang/IndexOutOfBoundsException" :: vx_at0 "Quaylock" 54 "java/lang/IndexOutOfBoundsException" ["java/lang/RuntimeException", "java/lang/Exception"]).all vx_ot = true := by decide +kernel
theorem zfit2 : ∀ n ∈ ["java/lang/RuntimeException", "java/lang/Exception"], Bundle.fit n = true := by decide +kernel
/-! the frame rule of contracts: the callee's world is a part of the caller's -/
def zjoin (Vc V V' : ZV) : ZV := fun a => if (Vc a).isSome then V' a else if (V a).isSome then V a else V' a
/-- less room asked for than there is -/
theorem zW_room {p : Program} {l : Launch} {e : Env} {R R' : Room} {s : State} {m : MethodId} {args : Array Value} {below : List Frame} {meth : Method} {c : Code} {H : Heap} {locs : List Loc} {cells slots : Nat} {Q : State → Prop} {g : JFrame} (h1 : R'.frames ≤ R.frames) (h2 : R'.cells ≤ R.cells) (h3 : R'.slots ≤ R.slots) (h4 : R'.locals ≤ R.locals) (kk : W p l e R' s m args below meth c H locs cells slots Q g) : W p l e R s m args below meth c H locs cells slots Q g := by
  intro T hT X
  refine kk T hT { X with room := ?_ }
  have h := X.room
  simp only [State.hasRoom, Bool.and_eq_true, decide_eq_true_eq] at h ⊢
  obtain ⟨⟨⟨⟨a1, a2, a3, a4, a5, a6⟩, a7⟩, a8⟩, a9⟩ := h
  exact ⟨⟨⟨⟨by omega, by omega, by omega, by omega, by omega, a6⟩, by omega⟩, by omega⟩, a9⟩
theorem zD_of {A : Nat → Prop} {ws : va_W} (h : (ws.map (fun q => q.1)).Nodup) (hA : ∀ q ∈ ws, A q.1) : va_D A ws := by
  refine ⟨fun i j p q hi hj e => ?_, fun k q hk => hA q (List.mem_of_getElem? hk)⟩
  have h1 : (ws.map (fun q => q.1))[i]? = some p.1 := by rw [List.getElem?_map, hi]; rfl
  have h2 : (ws.map (fun q => q.1))[j]? = some q.1 := by rw [List.getElem?_map, hj]; rfl
  have hl : i < (ws.map (fun q => q.1)).length := (List.getElem?_eq_some_iff.mp h1).1
  exact (List.getElem?_inj hl h).mp (by rw [h1, h2, e])
theorem zD_nd {A : Nat → Prop} {ws : va_W} (h : va_D A ws) : (ws.map (fun q => q.1)).Nodup := by
  rw [List.nodup_iff_pairwise_ne, List.pairwise_iff_getElem]
  intro i j hi hj hij e
  rw [List.length_map] at hi hj
  have := h.1 i j ws[i] ws[j] (List.getElem?_eq_getElem hi) (List.getElem?_eq_getElem hj) (by simpa using e)
  omega
theorem zM_frame {ρ : Type} {l : Launch} {D : ZD} {y : MethodName} {wds : List Cond} {h mc ms : Nat} {enc : ρ → Option Value} {Vc V : ZV} {as : List Value} {Post : ρ → ZV → Prop} {PX : String → ZV → Prop} (hM : ZM l D y wds h mc ms enc Vc as Post PX) (hsub : ∀ a e, Vc a = some e → V a = some e) :
    ZM l D y wds h mc ms enc V as (fun r V2 => ∃ V', Post r V' ∧ V2 = zjoin Vc V V' ∧ ∀ a, Vc a = none → V a ≠ none → V' a = none) (fun E V2 => ∃ V', PX E V' ∧ V2 = zjoin Vc V V' ∧ ∀ a, Vc a = none → V a ≠ none → V' a = none) := by
  intro hl ws sz hR
  obtain ⟨wc, hwc⟩ : ∃ w, w = ws.filter (fun q => (Vc q.1).isSome) := ⟨_, rfl⟩
  obtain ⟨wr, hwr⟩ : ∃ w, w = ws.filter (fun q => !(Vc q.1).isSome) := ⟨_, rfl⟩
  have inc : ∀ q, q ∈ wc ↔ q ∈ ws ∧ (Vc q.1).isSome = true := fun q => by rw [hwc]; exact List.mem_filter
  have inr : ∀ q, q ∈ wr ↔ q ∈ ws ∧ (Vc q.1).isSome = false := fun q => by rw [hwr, List.mem_filter]; simp
  have mem : ∀ (w : va_W) (a : Nat) (e : va_E), (∃ k : Nat, w[k]? = some (a, e)) ↔ (a, e) ∈ w := fun w a e => by
    constructor
    · rintro ⟨k, hk⟩; exact List.mem_of_getElem? hk
    · intro h; exact List.getElem?_of_mem h
  have hRm : ∀ a e, V a = some e ↔ (a, e) ∈ ws := fun a e => (hR a e).trans (mem ws a e)
  have hRc : zR wc Vc := by
    intro a e
    rw [mem, inc]
    constructor
    · intro z
      exact ⟨(hRm a e).mp (hsub a e z), by show (Vc a).isSome = true; rw [z]; rfl⟩
    · rintro ⟨h1, h2⟩
      obtain ⟨f, hf⟩ := Option.isSome_iff_exists.mp h2
      have hf : Vc a = some f := hf
      have h3 := hsub a f hf
      rw [(hRm a e).mpr h1] at h3
      rw [hf, ← h3]
  have hm := hM hl wc sz hRc
  have sub : ∀ q, va_A wc sz q → va_A ws sz q := by
    rintro q (⟨k, e, hk⟩ | hq)
    · obtain ⟨j, hj⟩ := (mem ws q e).mpr ((inc (q, e)).mp (List.mem_of_getElem? hk)).1
      exact Or.inl ⟨j, e, hj⟩
    · exact Or.inr hq
  intro p e h3 h4 h5 s m args below h6 h7 h8 h9
  obtain ⟨ha, hsz, hP, hD, hS⟩ := h8
  have atw : ∀ q ∈ ws, va_at D.1 zcl q s.heap := fun q hq => by
    obtain ⟨i, hi⟩ := List.getElem?_of_mem hq
    exact hP i q hi
  have hnd := zD_nd hD
  obtain ⟨n, o, k1, k2, k3, k4⟩ := hm p e h3 h4 h5 s m args below h6 h7 ⟨ha, hsz, fun k q hk => atw q ((inc q).mp (List.mem_of_getElem? hk)).1, zD_of (List.Nodup.sublist (List.Sublist.map _ (by rw [hwc]; exact List.filter_sublist)) hnd) (fun _ _ => trivial), hS.1, hS.2.narrow sub⟩ h9
  have key : ∀ (V' : ZV) (t : State), zE D (va_A wc sz) V' t → va_F (va_A wc sz) s t → (∀ a, Vc a = none → V a ≠ none → V' a = none) ∧ zE D (va_A ws sz) (zjoin Vc V V') t := by
    rintro V' t ⟨ws', g1, g2, g3⟩ hF
    have notA : ∀ q ∈ wr, q.1 < sz ∧ ¬ va_A wc sz q.1 := fun q hq => by
      have hw := (inr q).mp hq
      have hlt : q.1 < sz := by rw [← hsz]; exact (atw q hw.1).lt
      refine ⟨hlt, ?_⟩
      rintro (⟨k, f, hk⟩ | hz)
      · have := ((inc (q.1, f)).mp (List.mem_of_getElem? hk)).2
        have h2 : (Vc q.1).isSome = true := this
        rw [hw.2] at h2; cases h2
      · omega
    have no : ∀ a, Vc a = none → V a ≠ none → V' a = none := by
      intro a h1 h2
      cases hv : V' a with
      | none => rfl
      | some f =>
        exfalso
        cases hva : V a with
        | none => exact h2 hva
        | some f2 =>
          have hr : (a, f2) ∈ wr := (inr (a, f2)).mpr ⟨(hRm a f2).mp hva, by show (Vc a).isSome = false; rw [h1]; rfl⟩
          obtain ⟨k, hk⟩ := (g1 a f).mp hv
          exact (notA _ hr).2 (g3.2 k (a, f) hk)
    refine ⟨no, wr ++ ws', ?_, ?_, ?_⟩
    · intro a f
      rw [mem, List.mem_append, inr]
      have g1m : V' a = some f ↔ (a, f) ∈ ws' := (g1 a f).trans (mem ws' a f)
      unfold zjoin
      cases hc : Vc a with
      | some f2 => simp [g1m]
      | none =>
        cases hv : V a with
        | none =>
          have : (a, f) ∉ ws := fun z => by rw [(hRm a f).mpr z] at hv; cases hv
          simp [g1m, this]
        | some f2 =>
          have h1 := no a hc (by rw [hv]; simp)
          have h2 : (a, f) ∉ ws' := fun z => by rw [g1m.mpr z] at h1; cases h1
          simp only [Option.isSome_none, Option.isSome_some, if_false, if_true, Bool.false_eq_true, h2, or_false, and_true]
          rw [← hv]
          exact hRm a f
    · refine va_P.app (fun k q hk => ?_) g2
      have hq := List.mem_of_getElem? hk
      exact (atw q ((inr q).mp hq).1).kept (hF.2 q.1 (by rw [hsz]; exact (notA q hq).1) (notA q hq).2)
    · refine va_D.app (zD_of (List.Nodup.sublist (List.Sublist.map _ (by rw [hwr]; exact List.filter_sublist)) hnd) (fun q hq => ?_)) (g3.weaken (fun _ _ _ z => sub _ z)) (fun i j x y hx hy e => ?_)
      · obtain ⟨j, hj⟩ := List.getElem?_of_mem ((inr q).mp hq).1
        exact va_A.in hj
      · exact (notA x (List.mem_of_getElem? hx)).2 (by rw [e]; exact g3.2 j y hy)
  have frF : ∀ t : State, va_F (va_A wc sz) s t → va_F (va_A ws sz) s t := fun t hF => ⟨hF.1, fun q h1 h2 => hF.2 q h1 (fun z => h2 (sub q z))⟩
  refine ⟨n, o, k1, k2, k3, ?_⟩
  rcases k4 with ⟨⟨⟨r, V', a1, a2, a3⟩, a4⟩, L, a5, a6⟩ | ⟨q, a0, E, ce, L, ⟨⟨V', a1, a2⟩, a3⟩, b1, b2, b3, b4, b5, b6⟩
  · obtain ⟨z1, z2⟩ := key V' _ a3 a4
    exact Or.inl ⟨⟨⟨r, zjoin Vc V V', a1, ⟨V', a2, rfl, z1⟩, z2⟩, frF _ a4⟩, L, a5, fun q hq => sub _ (a6 q hq)⟩
  · obtain ⟨z1, z2⟩ := key V' _ a2 a3
    exact Or.inr ⟨q, a0, E, ce, L, ⟨⟨zjoin Vc V V', ⟨V', a1, rfl, z1⟩, z2⟩, frF _ a3⟩, b1, b2, b3, b4, b5, fun z hz => sub _ (b6 z hz)⟩
