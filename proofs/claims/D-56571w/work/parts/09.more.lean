/-! MORE rows: clone, getClass, statics, the cache of small Integers -/
set_option maxRecDepth 100000
section Z2
variable {l : Launch} {D : ZD} {Γ : ZG} {R : Room} {pc : Nat} {lv : List (Nat × Value)} {st : List Value} {V : ZV} {kc ks : Nat} {own nm : String} {cc : ByteArray} {nL : Nat} {ret : Option FieldType} {tab : List ExceptionTableEntry}
theorem z_clonei (C : zC l D Γ own nm cc nL ret tab) {a n : Nat} {f : Nat → Int32} (hV : V a = some (.inl (D.arr 0, n, .inl f))) {index : Nat} (hq : Cond.methodLink own index ⟨"[I", "clone", "()Ljava/lang/Object;"⟩ ∈ lw_all) (hc : kc + 1 ≤ R.cells) (hs : ks + n ≤ R.slots) (hf : 1 ≤ R.frames) (hl : (st.map fun v => v.category).sum + 14 ≤ R.locals) (d : decode cc pc = .ok (.invokevirtual index, 3)) (kk : ∀ q, V q = none → ZW l D Γ R (pc + 3) lv (.ref q :: st) (va_up V q (some (.inl (D.arr 0, n, .inl f)))) (kc + 1) (ks + n)) : ZW l D Γ R pc lv (.ref a :: st) V kc ks := by
  intro H locs ls ws h
  obtain ⟨k0, hk0⟩ := zk h hV
  refine va_clone C.x C.b h.2.2.2.2.2.1.symm C.ow (ad := "[I") (C.ts _ hq) (C.ts _ q1076) (C.ts _ q1077) (C.ts _ q1078) (C.ts _ q1079) (C.w q1080 rfl) C.K h.2.2.1 h.2.2.2.1 h.2.2.2.2.1 C.fr k0 0 (ty := .int) hk0 rfl (va_nm_int (C.K.2 0 (D.arr 0, .int) rfl).2) (fun i v hv => va_fit (F := fun j => .int (f j)) (fun _ _ => rfl) i v hv) hf hl hc hs d (fun q H1 hK hP hD hS => ?_)
  obtain ⟨h1, h2⟩ := h.1.push hD
  exact kk q h1 H1 locs ls _ ⟨h2, h.2.1, hP, hD, hS, h.2.2.2.2.2⟩
theorem z_ldcM (C : zC l D Γ own nm cc nL ret tab) {index : Nat} (hq : Cond.classLink own index "[Ljava/lang/Object;" ∈ lw_all) (d : decode cc pc = .ok (.ldc index, 2)) (kk : ZW l D Γ R (pc + 2) lv (.ref (D.at 2) :: st) V kc ks) : ZW l D Γ R pc lv st V kc ks := fun H locs ls ws h => va_ldcM C.x C.b C.ow (C.ts _ hq) C.S.1.2.2.2.2.1 d (kk H locs ls ws h)
theorem z_getC (C : zC l D Γ own nm cc nL ret tab) {a : Nat} {x : vp_A} (hV : V a = some (.inl (D.arr 2, x))) {index : Nat} (hq : Cond.methodLink own index ⟨"java/lang/Object", "getClass", "()Ljava/lang/Class;"⟩ ∈ lw_all) (hf : 1 ≤ R.frames) (hl : (st.map fun v => v.category).sum + 14 ≤ R.locals) (d : decode cc pc = .ok (.invokevirtual index, 3)) (kk : ZW l D Γ R (pc + 3) lv (.ref (D.at 2) :: st) V kc ks) : ZW l D Γ R pc lv (.ref a :: st) V kc ks := by
  intro H locs ls ws h
  obtain ⟨k0, hk0⟩ := zk h hV
  have hcell : H[a]? = some (vp_cell (D.arr 2) x) := h.2.2.1 k0 _ hk0
  have hcls : Γ.s.vm.findClass "[Ljava/lang/Object;" = some (D.arr 2) := va_nmO (C.K.2 2 (D.arr 2, .object "java/lang/Object") rfl).2 (by decide +kernel)
  have hc1 : (vp_cell (D.arr 2) x).cls = D.arr 2 := by
    obtain ⟨n, z⟩ := x
    rcases z with z | z | z | z | z <;> rfl
  have hc2 : (vp_cell (D.arr 2) x).vm.isStatics = false := by
    obtain ⟨n, z⟩ := x
    rcases z with z | z | z | z | z <;> rfl
  exact va_getC C.x C.b h.2.2.2.2.2.1.symm C.ow (C.ts _ hq) (va_Nw.use rfl (C.w q1724 rfl)) (C.ts _ q1723) (C.ts _ q890) (C.ts _ q914) C.S.1.2.2.2.2.1 ⟨_, hcell, hc2, by rw [hc1]; exact hcls⟩ hf hl d (kk H locs ls ws h)
theorem z_getsD (C : zC l D Γ own nm cc nL ret tab) {index : Nat} (hq : Cond.fieldLink own index "java/util/ArrayList" "DEFAULTCAPACITY_EMPTY_ELEMENTDATA" "[Ljava/lang/Object;" ∈ lw_all) (d : decode cc pc = .ok (.getstatic index, 3)) (kk : ZW l D Γ R (pc + 3) lv (.ref (D.at 0) :: st) V kc ks) : ZW l D Γ R pc lv st V kc ks := fun H locs ls ws h => va_gets C.x C.b C.S.2.2.1.1 h.2.2.2.2.1 C.ow (C.ts _ hq) (fun _ z => z) d (kk H locs ls ws h)
theorem z_alenD (C : zC l D Γ own nm cc nL ret tab) (d : decode cc pc = .ok (.arraylength, 1)) (kk : ZW l D Γ R (pc + 1) lv (.int (nI 0) :: st) V kc ks) : ZW l D Γ R pc lv (.ref (D.at 0) :: st) V kc ks := fun H locs ls ws h => va_tlen C.x C.b C.S.2.2.1.2 h.2.2.2.2.1 rfl d (kk H locs ls ws h)
theorem z_getsH (C : zC l D Γ own nm cc nL ret tab) {index : Nat} (hq : Cond.fieldLink own index "java/lang/Integer$IntegerCache" "high" "I" ∈ lw_all) (d : decode cc pc = .ok (.getstatic index, 3)) (kk : ZW l D Γ R (pc + 3) lv (.int (nI 127) :: st) V kc ks) : ZW l D Γ R pc lv st V kc ks := fun H locs ls ws h => va_gets C.x C.b C.S.2.2.2.2.1 h.2.2.2.2.1 C.ow (C.ts _ hq) (fun _ z => z) d (kk H locs ls ws h)
theorem z_getsC (C : zC l D Γ own nm cc nL ret tab) {index : Nat} (hq : Cond.fieldLink own index "java/lang/Integer$IntegerCache" "cache" "[Ljava/lang/Integer;" ∈ lw_all) (d : decode cc pc = .ok (.getstatic index, 3)) (kk : ZW l D Γ R (pc + 3) lv (.ref (D.at 1) :: st) V kc ks) : ZW l D Γ R pc lv st V kc ks := fun H locs ls ws h => va_gets C.x C.b C.S.2.2.2.2.2.1 h.2.2.2.2.1 C.ow (C.ts _ hq) (fun _ z => z) d (kk H locs ls ws h)
theorem z_aaldC (C : zC l D Γ own nm cc nL ret tab) {j : Nat} (hj : j < 256) (d : decode cc pc = .ok (.aaload, 1)) (kk : ZW l D Γ R (pc + 1) lv (.ref (D.box j) :: st) V kc ks) : ZW l D Γ R pc lv (.int (nI j) :: .ref (D.at 1) :: st) V kc ks := by
  intro H locs ls ws h
  obtain ⟨h1, h2⟩ := z_cl hj (by decide)
  exact vb_tq C.x C.b C.S.2.2.2.2.2.2 h.2.2.2.2.1 h1 (by rw [h2]) d (kk H locs ls ws h)
theorem zrecvI (C : zC l D Γ own nm cc nL ret tab) {j : Nat} (hj : j < 256) {H : Heap} {locs : List Loc} {ls : Array Slot} {ws : va_W} (h : zH D Γ V lv H locs ls ws) : ∃ cell : Cell, H[D.box j]? = some cell ∧ cell.vm.isStatics = false ∧ Γ.s.vm.findClass "java/lang/Integer" = some cell.cls := by
  obtain ⟨cell, h1, h2, h3, -⟩ := (C.S.2.2.2.1.1 j hj).kept h.2.2.2.2.1.2.1
  exact ⟨cell, h1, h2, h3⟩
theorem z_castI (C : zC l D Γ own nm cc nL ret tab) {j : Nat} (hj : j < 256) {index : Nat} (hq : Cond.classLink own index "java/lang/Integer" ∈ lw_all) (d : decode cc pc = .ok (.checkcast index, 3)) (kk : ZW l D Γ R (pc + 3) lv (.ref (D.box j) :: st) V kc ks) : ZW l D Γ R pc lv (.ref (D.box j) :: st) V kc ks := fun H locs ls ws h => va_castS C.x C.b C.ow (C.ts _ hq) (zat C k_I) (zrecvI C hj h) d (kk H locs ls ws h)
theorem z_getI (C : zC l D Γ own nm cc nL ret tab) {n : Nat} (hn : n < 128) {index : Nat} (hq : Cond.fieldLink own index "java/lang/Integer" "value" "I" ∈ lw_all) (d : decode cc pc = .ok (.getfield index, 3)) (kk : ZW l D Γ R (pc + 3) lv (.int (nI n) :: st) V kc ks) : ZW l D Γ R pc lv (.ref (D.box (128 + n)) :: st) V kc ks := by
  intro H locs ls ws h
  refine vb_get C.x C.b (T := TJ19) (ci := 14) (X := []) (LP := []) (pv := fun _ => 0) C.ts in_J19 C.ow C.S.2.2.2.1 h.2.2.2.2.1 C.K (fun k q hk => by cases hk) rfl ⟨rfl, rfl, rfl⟩ (Or.inr ⟨128 + n, by omega, rfl, ?_⟩) (C.ts _ hq) (fun _ z => z) d (kk H locs ls ws h)
  show nI n = nI (128 + n) - nI 128
  rw [pk_sub (by omega), Nat.add_sub_cancel_left]
theorem z_callVI (C : zC l D Γ own nm cc nL ret tab) {j : Nat} (hj : j < 256) {ρ : Type} {enc : ρ → Option Value} {Post : ρ → ZV → Prop} {PX : String → ZV → Prop} {y : MethodName} {bytes : ByteArray} {maxL : Nat} {rt : Option FieldType} {h9 mc ms hR MC MS n index : Nat} {As : List Value} {st0 : List Value} (hM : ZM l D y (ws_ y bytes maxL rt) h9 mc ms enc V (.ref (D.box j) :: As) Post PX) (hL : GoodIn lw_all (wsV own index "java/lang/Integer" y (ws_ y bytes maxL rt))) (hy : y.cls = "java/lang/Integer") (hd : y.cls ≠ "java/lang/invoke/MethodHandle" ∧ y.cls ≠ "java/lang/invoke/VarHandle" ∧ (parseMethodDescriptor y.desc).map (fun d => d.parameters.length) = some n) (hn : As.length = n) (hw : (st.map fun v => v.category).sum ≤ 8) (hh9 : h9 < hR) (hm : maxL ≤ 41) (hc : kc + mc ≤ MC) (hs : ks + ms ≤ MS) (hst : st0 = As.reverse ++ .ref (D.box j) :: st) (d : decode cc pc = .ok (.invokevirtual index, 3)) (kx : ∀ E V', PX E V' → ZX l D Γ (zr hR MC MS) pc lv st V' (kc + mc) (ks + ms) E) (kk : ∀ r V', Post r V' → ZW l D Γ (zr hR MC MS) (pc + 3) lv ((enc r).toList ++ st) V' (kc + mc) (ks + ms)) : ZW l D Γ (zr hR MC MS) pc lv st0 V kc ks := by
  intro H locs ls ws h
  subst hst
  exact z_back C h (vx_runV (zfix C) (hM C.tr ws H.size h.1) (cwV n C.ts hL rfl rfl rfl ⟨hy, hd⟩ ⟨(show h9 + 1 ≤ hR from hh9), (show 8 + (maxL + 11) + 60 * h9 ≤ 60 * hR by omega)⟩) ⟨zPc_blind ws _ _, zrecvI C hj h, zPc_at C h _⟩ rfl hn (h.2.2.2.2.2.1.trans C.ml) rfl (lv_room hw) d ⟨hc, hs⟩) kx kk
end Z2
