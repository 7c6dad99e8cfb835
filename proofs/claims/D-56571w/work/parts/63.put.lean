/-! COMPONENT: a yard put among the seen -/
set_option maxRecDepth 100000
theorem yEf_cg {Y1 Y2 : YD} : ∀ (n s : Nat), (∀ k, s ≤ k → k < s + n → Y1 k = Y2 k) → yEf Y1 n s = yEf Y2 n s
  | 0, _, _ => rfl
  | n + 1, s, h => by
    show (Y1 s).length :: (Y1 s ++ yEf Y1 n (s + 1)) = (Y2 s).length :: (Y2 s ++ yEf Y2 n (s + 1))
    rw [h s (Nat.le_refl _) (by omega), yEf_cg n (s + 1) (fun k h1 h2 => h k (by omega) (by omega))]
theorem tSo_set {kc : Nat → List Nat} {C : List (Nat × Nat)} {j v : Nat} {q0 : Nat × Nat} (h : tSo kc C) (hj : C[j]? = some q0) : tSo kc (C.set j (q0.1, v)) := fun i k p q hp hq hik => by
  have hl := (List.getElem?_eq_some_iff.mp hj).1
  have key : ∀ (m : Nat) (x : Nat × Nat), (C.set j (q0.1, v))[m]? = some x → ∃ y, C[m]? = some y ∧ y.1 = x.1 := fun m x hx => by
    rw [List.getElem?_set] at hx
    by_cases e : j = m
    · rw [if_pos e, if_pos hl] at hx
      cases hx
      exact ⟨q0, by rw [← e]; exact hj, rfl⟩
    · rw [if_neg e] at hx; exact ⟨x, hx, rfl⟩
  obtain ⟨p2, a1, a2⟩ := key i p hp
  obtain ⟨q2, b1, b2⟩ := key k q hq
  rw [← a2, ← b2]; exact h i k p2 q2 a1 b1 hik
section PUT
variable {D : ZD} {V V1 : ZV} {ba : Nat → Nat} {st bx t : Nat} {rch wt : Nat → Nat} {ins pin : Nat → Bool} {Y0 : YD} {Dn : List (List Nat)} {sn : Nat} {Ls : List Nat} {Cs : List (Nat × Nat)} {ms : Int32} {kc : Nat → List Nat}
theorem sW.old (h : sW D V ba (yLeg st rch wt ins pin t) Y0 Dn sn Ls Cs ms kc) (hst : st ≤ 4) (hrc : ∀ s, s < st → rch s ≤ 4) (hg : yGood st bx ins Y0) {P : List Nat} {Z : YD} (hZ : yRun (yLeg st rch wt ins pin t) Y0 P = some Z) (hP : P.length ≤ 5) {j : Nat} {q0 : Nat × Nat} (hj : Cs[j]? = some q0) (hk : kc q0.1 = yEnc Z)
    (hM : tM V1 sn Ls (Cs.set j (q0.1, D.box (128 + P.length))) ms) (hU : zUnc V V1 (tC sn Ls)) : sW D V1 ba (yLeg st rch wt ins pin t) Y0 (P :: Dn) sn Ls (Cs.set j (q0.1, D.box (128 + P.length))) ms kc := by
  have fr : ∀ {y yb yh : Nat} {fb : Nat → Option Nat} {fh : Nat → Int32}, hYd D V y yb yh fb fh → hYd D V1 y yb yh fb fh := fun {y yb yh fb fh} hy => by
    have k : ∀ {z e}, V z = some e → pk e = true → V1 z = some e := fun {z e} hz hp => hU.get (fun hs => by rw [tm_k h.1 z e hz hs] at hp; cases hp) hz
    exact ⟨k hy.1 rfl, k hy.2.1 rfl, k hy.2.2 rfl⟩
  refine ⟨hM, tSo_set h.2.1 hj, fun q hq => ?_⟩
  rcases List.mem_or_eq_of_mem_set hq with e | e
  · obtain ⟨P2, W, h1, h2, h3, h4, h5, yb, yh, fb, fh, h6, h7⟩ := h.2.2 q e
    exact ⟨P2, W, List.mem_cons_of_mem _ h1, h2, h3, h4, h5, yb, yh, fb, fh, fr h6, h7⟩
  · rw [e]
    obtain ⟨P2, W, h1, h2, h3, h4, h5, yb, yh, fb, fh, h6, h7⟩ := h.2.2 q0 (List.mem_of_getElem? hj)
    have hWZ : W = Z := yEnc_inj hst (yGood_run hrc P2 hg h2).1 (yGood_run hrc P hg hZ).1 (h4.symm.trans hk)
    rw [hWZ] at h7
    exact ⟨P, Z, List.mem_cons_self, hZ, hP, hk, rfl, yb, yh, fb, fh, fr h6, h7⟩
theorem sW.add (h : sW D V ba (yLeg st rch wt ins pin t) Y0 Dn sn Ls Cs ms kc) (hrc : ∀ s, s < st → rch s ≤ 4) (hg : yGood st bx ins Y0) {wt2 : Nat → Nat} {hc : Nat → Int32} {uc : Nat → Nat} (hB : hBx V ba bx wt2 hc uc) (hbx : bx ≤ 20) {P : List Nat} {Z : YD} (hZ : yRun (yLeg st rch wt ins pin t) Y0 P = some Z) (hP : P.length ≤ 5) {k yb yh : Nat} {fb : Nat → Option Nat} {fh : Nat → Int32} (hk : hYd D V k yb yh fb fh) (hr : yRel ba Z fb fh)
    {e j : Nat} {ms2 : Int32} (hj : j ≤ Cs.length) (hM : tM V1 sn (lI Ls j e) (cI Cs j (k, D.box (128 + P.length))) ms2) (ho : ∀ (i : Nat) (q : Nat × Nat), Cs[i]? = some q → (i < j → lexL (kc q.1) (yEnc Z)) ∧ (j ≤ i → lexL (yEnc Z) (kc q.1))) (hU : zUnc V V1 (tC sn Ls)) :
    sW D V1 ba (yLeg st rch wt ins pin t) Y0 (P :: Dn) sn (lI Ls j e) (cI Cs j (k, D.box (128 + P.length))) ms2 (va_up kc k (yEnc Z)) := by
  have fr : ∀ {y yb yh : Nat} {fb : Nat → Option Nat} {fh : Nat → Int32}, hYd D V y yb yh fb fh → hYd D V1 y yb yh fb fh := fun {y yb yh fb fh} hy => by
    have k : ∀ {z e}, V z = some e → pk e = true → V1 z = some e := fun {z e} hz hp => hU.get (fun hs => by rw [tm_k h.1 z e hz hs] at hp; cases hp) hz
    exact ⟨k hy.1 rfl, k hy.2.1 rfl, k hy.2.2 rfl⟩
  have hgZ := yGood_run hrc P hg hZ
  have hne : ∀ q ∈ Cs, q.1 ≠ k := fun q hq e9 => by
    obtain ⟨P2, W, h1, h2, h3, h4, h5, yb2, yh2, fb2, fh2, h6, h7⟩ := h.2.2 q hq
    have hgW := yGood_run hrc P2 hg h2
    rw [e9] at h6
    have hu := yRel_uq hB hbx h6 hk h7 hr hgW.1.1 hgZ.1.1 (fun s c hc => (hgW.2.2 s c hc).1) (fun s c hc => (hgZ.2.2 s c hc).1)
    have he : yEnc W = yEnc Z := yEf_cg 4 0 (fun s _ hs => hu s (by omega))
    obtain ⟨i, hi, hiq⟩ := List.getElem_of_mem hq
    have hiq2 : Cs[i]? = some q := by rw [List.getElem?_eq_getElem hi, hiq]
    obtain ⟨o1, o2⟩ := ho i q hiq2
    rw [h4, he] at o1 o2
    rcases Nat.lt_or_ge i j with c | c
    · exact lexL_irr _ (o1 c)
    · exact lexL_irr _ (o2 c)
  have hkc : ∀ q ∈ Cs, va_up kc k (yEnc Z) q.1 = kc q.1 := fun q hq => zvn (hne q hq)
  refine ⟨hM, cI_so (h.2.1.cg hkc) hj (zvs _ _ _) (fun i q hq => by rw [hkc q (List.mem_of_getElem? hq)]; exact ho i q hq), fun q hq => ?_⟩
  rcases (cI_mem q).mp hq with e9 | hq
  · rw [e9]; exact ⟨P, Z, List.mem_cons_self, hZ, hP, zvs _ _ _, rfl, yb, yh, fb, fh, fr hk, hr⟩
  · obtain ⟨P2, W, h1, h2, h3, h4, h5, yb2, yh2, fb2, fh2, h6, h7⟩ := h.2.2 q hq
    exact ⟨P2, W, List.mem_cons_of_mem _ h1, h2, h3, by rw [hkc q hq]; exact h4, h5, yb2, yh2, fb2, fh2, fr h6, h7⟩
end PUT
theorem hPQ.nw {D : ZD} {V V1 : ZV} {q d cap : Nat} {f : Nat → Option Nat} {A : List Nat} {cmp : Nat} {mc : Int32} (h : hPQ D V q d cap f A cmp mc) (hU : zUnc V V1 (fun _ => False)) : hPQ D V1 q d cap f A cmp mc := ⟨hU.get (fun h => h) h.1, hU.get (fun h => h) h.2.1, hU.get (fun h => h) h.2.2.1, h.2.2.2⟩
theorem hPQ.tm {D : ZD} {V V1 : ZV} {q d cap : Nat} {f : Nat → Option Nat} {A : List Nat} {cmp : Nat} {mc : Int32} {t : Nat} {L : List Nat} {C : List (Nat × Nat)} {ms : Int32} (h : hPQ D V q d cap f A cmp mc) (hM : tM V t L C ms) (hU : zUnc V V1 (tC t L)) : hPQ D V1 q d cap f A cmp mc := by
  obtain ⟨ky, vl, ⟨rt, lf, rg, pa, cl, ps, lo, hi, hI, hW⟩, rfl⟩ := hM
  have nt : ∀ {z e}, V z = some e → (∀ vs, e ≠ .inr (9, vs)) → (∀ vs, e ≠ .inr (12, vs)) → ¬ tC t L z := fun {z e} hz h1 h2 hs => by
    rcases hs with hs | hs
    · rw [hs, hW.1] at hz; cases hz; exact h1 _ rfl
    · rw [hW.2 z hs] at hz; cases hz; exact h2 _ rfl
  exact ⟨hU.get (nt h.1 (fun _ z => by cases z) (fun _ z => by cases z)) h.1, hU.get (nt h.2.1 (fun _ z => by cases z) (fun _ z => by cases z)) h.2.1, hU.get (nt h.2.2.1 (fun _ z => by cases z) (fun _ z => by cases z)) h.2.2.1, h.2.2.2⟩
