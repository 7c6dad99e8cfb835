/-! COMPONENT: the yards seen -/
set_option maxRecDepth 100000
theorem yEf_inj {Y1 Y2 : YD} : ∀ (n s : Nat), yEf Y1 n s = yEf Y2 n s → ∀ k, s ≤ k → k < s + n → Y1 k = Y2 k
  | 0, s, _, k, h1, h2 => by omega
  | n + 1, s, h, k, h1, h2 => by
    have h3 : (Y1 s).length :: (Y1 s ++ yEf Y1 n (s + 1)) = (Y2 s).length :: (Y2 s ++ yEf Y2 n (s + 1)) := h
    obtain ⟨a, b⟩ := List.cons.inj h3
    obtain ⟨c, d⟩ := List.append_inj b a
    by_cases e : k = s
    · rw [e]; exact c
    · exact yEf_inj n (s + 1) d k (by omega) (by omega)
theorem yEnc_inj {st : Nat} {Y1 Y2 : YD} (hst : st ≤ 4) (h1 : yOK st Y1) (h2 : yOK st Y2) (h : yEnc Y1 = yEnc Y2) : Y1 = Y2 := by
  funext k
  by_cases c : k < 4
  · exact yEf_inj 4 0 h k (Nat.zero_le _) (by omega)
  · rw [h1.2.1 k (by omega), h2.2.1 k (by omega)]
/-- one yard's cells hold one yard -/
theorem yRel_uq {D : ZD} {V : ZV} {y yb yh yb2 yh2 : Nat} {fb fb2 : Nat → Option Nat} {fh fh2 : Nat → Int32} {ba : Nat → Nat} {bx : Nat} {wt : Nat → Nat} {hc : Nat → Int32} {uc : Nat → Nat} {Y1 Y2 : YD} (hB : hBx V ba bx wt hc uc) (hbx : bx ≤ 20) (h1 : hYd D V y yb yh fb fh) (h2 : hYd D V y yb2 yh2 fb2 fh2) (r1 : yRel ba Y1 fb fh) (r2 : yRel ba Y2 fb2 fh2)
    (l1 : ∀ s, (Y1 s).length ≤ 4) (l2 : ∀ s, (Y2 s).length ≤ 4) (m1 : ∀ s, ∀ c ∈ Y1 s, c < bx) (m2 : ∀ s, ∀ c ∈ Y2 s, c < bx) : ∀ s, s < 4 → Y1 s = Y2 s := fun s hs => by
  have e1 := h1.1
  rw [h2.1] at e1
  simp only [Option.some.injEq, Sum.inr.injEq, Prod.mk.injEq, List.cons.injEq, Value.ref.injEq, true_and, and_true] at e1
  obtain ⟨eb, eh⟩ := e1
  subst eb; subst eh
  have e2 := h1.2.1
  rw [h2.2.1] at e2
  have e3 := h1.2.2
  rw [h2.2.2] at e3
  simp only [Option.some.injEq, Sum.inl.injEq, Sum.inr.injEq, Prod.mk.injEq, true_and] at e2 e3
  subst e2; subst e3
  have hlen : (Y1 s).length = (Y2 s).length := by
    have k1 := r1.1 s hs
    rw [r2.1 s hs] at k1
    have k2 := congrArg vN k1
    have := l1 s
    have := l2 s
    rw [vN_nI (by omega), vN_nI (by omega)] at k2
    exact k2.symm
  refine List.ext_getElem? (fun i => ?_)
  cases e : (Y1 s)[i]? with
  | none =>
    have := List.getElem?_eq_none_iff.mp e
    exact (List.getElem?_eq_none_iff.mpr (by omega)).symm
  | some b =>
    have hi := (List.getElem?_eq_some_iff.mp e).1
    have hi2 : i < (Y2 s).length := by omega
    have e4 := List.getElem?_eq_getElem hi2
    have k1 := r1.2 s i b hs e
    rw [r2.2 s i _ hs e4] at k1
    rw [e4, hB.inj hbx (m2 s _ (List.getElem_mem hi2)) (m1 s b (List.mem_of_getElem? e)) (Option.some.inj k1)]
/-- the map sn: yards gone on from, and the lengths of the plans that led there -/
def sW (D : ZD) (V : ZV) (ba : Nat → Nat) (L : YD → Nat → Bool) (Y0 : YD) (Dn : List (List Nat)) (sn : Nat) (Ls : List Nat) (Cs : List (Nat × Nat)) (ms : Int32) (kc : Nat → List Nat) : Prop :=
  tM V sn Ls Cs ms ∧ tSo kc Cs ∧ ∀ q ∈ Cs, ∃ P W, P ∈ Dn ∧ yRun L Y0 P = some W ∧ P.length ≤ 5 ∧ kc q.1 = yEnc W ∧ q.2 = D.box (128 + P.length) ∧ ∃ yb yh fb fh, hYd D V q.1 yb yh fb fh ∧ yRel ba W fb fh
theorem sW.mv {D : ZD} {V V1 : ZV} {ba : Nat → Nat} {L : YD → Nat → Bool} {Y0 : YD} {Dn : List (List Nat)} {sn : Nat} {Ls : List Nat} {Cs : List (Nat × Nat)} {ms : Int32} {kc : Nat → List Nat} {S : Nat → Prop} (h : sW D V ba L Y0 Dn sn Ls Cs ms kc) (hU : zUnc V V1 S) (hS : ∀ z e, V z = some e → S z → pk e = false) (hS2 : ∀ a, tC sn Ls a → ¬ S a) : sW D V1 ba L Y0 Dn sn Ls Cs ms kc :=
  ⟨h.1.mv hU hS2, h.2.1, fun q hq => by
    obtain ⟨P, W, h1, h2, h3, h4, h5, yb, yh, fb, fh, ⟨q1, q2, q3⟩, h7⟩ := h.2.2 q hq
    have k : ∀ {z e}, V z = some e → pk e = true → V1 z = some e := fun {z e} hz hp => hU.get (fun hs => by rw [hS z e hz hs] at hp; cases hp) hz
    exact ⟨P, W, h1, h2, h3, h4, h5, yb, yh, fb, fh, ⟨k q1 rfl, k q2 rfl, k q3 rfl⟩, h7⟩⟩
theorem sW.more {D : ZD} {V : ZV} {ba : Nat → Nat} {L : YD → Nat → Bool} {Y0 : YD} {Dn Dn2 : List (List Nat)} {sn : Nat} {Ls : List Nat} {Cs : List (Nat × Nat)} {ms : Int32} {kc : Nat → List Nat} (h : sW D V ba L Y0 Dn sn Ls Cs ms kc) (hs : ∀ P ∈ Dn, P ∈ Dn2) : sW D V ba L Y0 Dn2 sn Ls Cs ms kc :=
  ⟨h.1, h.2.1, fun q hq => by
    obtain ⟨P, W, h1, h2⟩ := h.2.2 q hq
    exact ⟨P, W, hs P h1, h2⟩⟩
theorem sW_cmp {l : Launch} {D : ZD} {V : ZV} {ba : Nat → Nat} {st bx t : Nat} {rch wt wt2 : Nat → Nat} {ins pin : Nat → Bool} {Y0 : YD} {Dn : List (List Nat)} {sn : Nat} {Ls : List Nat} {Cs : List (Nat × Nat)} {ms : Int32} {kc : Nat → List Nat} {hc : Nat → Int32} {uc : Nat → Nat} (h : sW D V ba (yLeg st rch wt ins pin t) Y0 Dn sn Ls Cs ms kc) (hrc : ∀ s, s < st → rch s ≤ 4) (hg : yGood st bx ins Y0) (hB : hBx V ba bx wt2 hc uc) (hbx : bx ≤ 20) {k yb yh : Nat} {fb : Nat → Option Nat} {fh : Nat → Int32} {Z : YD} (hk : hYd D V k yb yh fb fh) (hr : yRel ba Z fb fh) (hgZ : yGood st bx ins Z) :
    ∀ q ∈ Cs, ZM l D yX2_compareTo (ws_ yX2_compareTo cX2_compareTo 2 (some .int)) 3 0 0 eI V [.ref k, .ref q.1] (fun r V2 => V2 = V ∧ zCmp r (yEnc Z) (kc q.1)) zno_x := fun q hq => by
  obtain ⟨P, W, h1, h2, h3, h4, h5, yb2, yh2, fb2, fh2, h6, h7⟩ := h.2.2 q hq
  have hgW := yGood_run hrc P hg h2
  rw [h4]
  exact mX2_compareTo hk h6 hr h7 hgZ.1.1 hgW.1.1 hB hbx (fun s c hc => (hgZ.2.2 s c hc).1) (fun s c hc => (hgW.2.2 s c hc).1)
