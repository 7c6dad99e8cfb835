/-! TREE: the shape of a TreeMap, flat -/
set_option maxRecDepth 100000
/-- L: the entries in order; lf rg pa: links; ps: an entry's place; lo hi: what its subtree covers -/
def tI (L : List Nat) (rt : Option Nat) (lf rg pa : Nat → Option Nat) (ps lo hi : Nat → Nat) : Prop :=
  (∀ i a, L[i]? = some a → ps a = i ∧ lo a ≤ i ∧ i < hi a ∧ hi a ≤ L.length) ∧
  ((∀ r, rt = some r → r ∈ L ∧ pa r = none ∧ lo r = 0 ∧ hi r = L.length) ∧ (rt = none → L = [])) ∧
  (∀ a ∈ L, (lf a = none → lo a = ps a) ∧ ∀ b, lf a = some b → b ∈ L ∧ pa b = some a ∧ lo b = lo a ∧ hi b = ps a) ∧
  (∀ a ∈ L, (rg a = none → hi a = ps a + 1) ∧ ∀ b, rg a = some b → b ∈ L ∧ pa b = some a ∧ lo b = ps a + 1 ∧ hi b = hi a) ∧
  (∀ a ∈ L, (pa a = none → rt = some a) ∧ ∀ p, pa a = some p → p ∈ L ∧ (lf p = some a ∨ rg p = some a))
theorem tI.m {L : List Nat} {rt : Option Nat} {lf rg pa : Nat → Option Nat} {ps lo hi : Nat → Nat} (h : tI L rt lf rg pa ps lo hi) {a : Nat} (ha : a ∈ L) : L[ps a]? = some a ∧ lo a ≤ ps a ∧ ps a < hi a ∧ hi a ≤ L.length := by
  obtain ⟨i, hi2, rfl⟩ := List.getElem_of_mem ha
  have e : L[i]? = some L[i] := List.getElem?_eq_getElem hi2
  obtain ⟨k1, k2, k3, k4⟩ := h.1 i _ e
  rw [k1]
  exact ⟨e, k2, k3, k4⟩
def xL (lf : Nat → Option Nat) (p r : Nat) (a : Nat) : Option Nat := if a = r then some p else if lf a = some p then some r else lf a
def xR (lf rg : Nat → Option Nat) (p r : Nat) (a : Nat) : Option Nat := if a = p then lf r else if rg a = some p then some r else rg a
def xP (lf pa : Nat → Option Nat) (p r : Nat) (a : Nat) : Option Nat := if a = p then some r else if a = r then pa p else if lf r = some a then some p else pa a
def xT (rt : Option Nat) (p r : Nat) : Option Nat := if rt = some p then some r else rt
theorem tI_rotL {L : List Nat} {rt : Option Nat} {lf rg pa : Nat → Option Nat} {ps lo hi : Nat → Nat} (h : tI L rt lf rg pa ps lo hi) {p r : Nat} (hp : p ∈ L) (hr : rg p = some r) :
    tI L (xT rt p r) (xL lf p r) (xR lf rg p r) (xP lf pa p r) ps (va_up lo r (lo p)) (va_up hi p (ps r)) := by
  obtain ⟨r1, r2, r3, r4⟩ := (h.2.2.2.1 p hp).2 r hr
  obtain ⟨p1, p2, p3, p4⟩ := h.m hp
  obtain ⟨s1, s2, s3, s4⟩ := h.m r1
  have hpr : p ≠ r := fun e => by rw [e] at p1 p2 p3 r3; omega
  have hlr : ∀ b, lf r = some b → b ≠ p ∧ b ≠ r := fun b e => by
    obtain ⟨b1, b2, b3, b4⟩ := (h.2.2.1 r r1).2 b e
    obtain ⟨c1, c2, c3, c4⟩ := h.m b1
    exact ⟨fun e => by rw [e] at b4; omega, fun e => by rw [e] at b4; omega⟩
  refine ⟨fun i a hi2 => ?_, ⟨fun x hx => ?_, fun hx => ?_⟩, fun a ha => ?_, fun a ha => ?_, fun a ha => ?_⟩
  · obtain ⟨k1, k2, k3, k4⟩ := h.1 i a hi2
    refine ⟨k1, ?_, ?_, ?_⟩
    · by_cases e : a = r
      · rw [e, zvs]; rw [e] at k1; omega
      · rw [zvn e]; exact k2
    · by_cases e : a = p
      · rw [e, zvs]; rw [e] at k1; omega
      · rw [zvn e]; exact k3
    · by_cases e : a = p
      · rw [e, zvs]; omega
      · rw [zvn e]; exact k4
  · unfold xT at hx
    by_cases e : rt = some p
    · rw [if_pos e] at hx
      cases hx
      obtain ⟨q1, q2, q3, q4⟩ := h.2.1.1 p e
      refine ⟨r1, ?_, by rw [zvs]; exact q3, by rw [zvn (Ne.symm hpr)]; omega⟩
      unfold xP; rw [if_neg (Ne.symm hpr), if_pos rfl]; exact q2
    · rw [if_neg e] at hx
      obtain ⟨q1, q2, q3, q4⟩ := h.2.1.1 x hx
      have x1 : x ≠ p := fun z => e (by rw [← z]; exact hx)
      have x2 : x ≠ r := fun z => by rw [z, r2] at q2; cases q2
      refine ⟨q1, ?_, by rw [zvn x2]; exact q3, by rw [zvn x1]; exact q4⟩
      unfold xP; rw [if_neg x1, if_neg x2, if_neg]
      · exact q2
      · intro z
        have := ((h.2.2.1 r r1).2 x z).2.1
        rw [q2] at this; cases this
  · unfold xT at hx
    by_cases e : rt = some p
    · rw [if_pos e] at hx; cases hx
    · rw [if_neg e] at hx; exact h.2.1.2 hx
  · by_cases e : a = r
    · subst e
      have e1 : xL lf p a a = some p := by unfold xL; rw [if_pos rfl]
      rw [e1]
      refine ⟨fun z => (by cases z), fun b z => ?_⟩
      cases z
      refine ⟨hp, by unfold xP; rw [if_pos rfl], by rw [zvs, zvn hpr], by rw [zvs]⟩
    · by_cases e2 : lf a = some p
      · have e1 : xL lf p r a = some r := by unfold xL; rw [if_neg e, if_pos e2]
        rw [e1]
        obtain ⟨b1, b2, b3, b4⟩ := (h.2.2.1 a ha).2 p e2
        refine ⟨fun z => (by cases z), fun b z => ?_⟩
        cases z
        refine ⟨r1, by unfold xP; rw [if_neg (Ne.symm hpr), if_pos rfl]; exact b2, by rw [zvs, zvn e]; exact b3, by rw [zvn (Ne.symm hpr)]; omega⟩
      · have e1 : xL lf p r a = lf a := by unfold xL; rw [if_neg e, if_neg e2]
        rw [e1]
        refine ⟨fun z => by rw [zvn e]; exact (h.2.2.1 a ha).1 z, fun b z => ?_⟩
        obtain ⟨b1, b2, b3, b4⟩ := (h.2.2.1 a ha).2 b z
        have hb1 : b ≠ p := fun q => e2 (by rw [← q]; exact z)
        have hb2 : b ≠ r := fun q => by
          rw [q, r2] at b2
          have : a = p := (Option.some.inj b2).symm
          rw [q, this] at b3; omega
        refine ⟨b1, ?_, by rw [zvn hb2, zvn e]; exact b3, by rw [zvn hb1]; exact b4⟩
        unfold xP; rw [if_neg hb1, if_neg hb2, if_neg]
        · exact b2
        · intro q
          have := ((h.2.2.1 r r1).2 b q).2.1
          rw [b2] at this; exact e (Option.some.inj this)
  · by_cases e : a = p
    · subst e
      have e1 : xR lf rg a r a = lf r := by unfold xR; rw [if_pos rfl]
      rw [e1]
      refine ⟨fun z => ?_, fun b z => ?_⟩
      · rw [zvs]; have := (h.2.2.1 r r1).1 z; omega
      · obtain ⟨b1, b2, b3, b4⟩ := (h.2.2.1 r r1).2 b z
        obtain ⟨hb1, hb2⟩ := hlr b z
        refine ⟨b1, by unfold xP; rw [if_neg hb1, if_neg hb2, if_pos z], by rw [zvn hb2]; omega, by rw [zvs, zvn hb1]; exact b4⟩
    · by_cases e2 : rg a = some p
      · have e1 : xR lf rg p r a = some r := by unfold xR; rw [if_neg e, if_pos e2]
        rw [e1]
        obtain ⟨b1, b2, b3, b4⟩ := (h.2.2.2.1 a ha).2 p e2
        refine ⟨fun z => (by cases z), fun b z => ?_⟩
        cases z
        refine ⟨r1, by unfold xP; rw [if_neg (Ne.symm hpr), if_pos rfl]; exact b2, by rw [zvs]; exact b3, by rw [zvn (Ne.symm hpr), zvn e]; omega⟩
      · have e1 : xR lf rg p r a = rg a := by unfold xR; rw [if_neg e, if_neg e2]
        rw [e1]
        refine ⟨fun z => by rw [zvn e]; exact (h.2.2.2.1 a ha).1 z, fun b z => ?_⟩
        obtain ⟨b1, b2, b3, b4⟩ := (h.2.2.2.1 a ha).2 b z
        have hb1 : b ≠ p := fun q => e2 (by rw [← q]; exact z)
        have hb2 : b ≠ r := fun q => by
          rw [q, r2] at b2
          exact e (Option.some.inj b2).symm
        refine ⟨b1, ?_, by rw [zvn hb2]; exact b3, by rw [zvn hb1, zvn e]; exact b4⟩
        unfold xP; rw [if_neg hb1, if_neg hb2, if_neg]
        · exact b2
        · intro q
          obtain ⟨d1, d2, d3, d4⟩ := (h.2.2.1 r r1).2 b q
          rw [b2] at d2
          have : a = r := Option.some.inj d2
          rw [this] at b3
          obtain ⟨c1, c2, c3, c4⟩ := h.m b1
          omega
  · by_cases e : a = p
    · subst e
      have e1 : xP lf pa a r a = some r := by unfold xP; rw [if_pos rfl]
      rw [e1]
      refine ⟨fun z => (by cases z), fun q z => ?_⟩
      cases z
      exact ⟨r1, Or.inl (by unfold xL; rw [if_pos rfl])⟩
    · by_cases e2 : a = r
      · subst e2
        have e1 : xP lf pa p a a = pa p := by unfold xP; rw [if_neg e, if_pos rfl]
        rw [e1]
        refine ⟨fun z => ?_, fun q z => ?_⟩
        · unfold xT; rw [if_pos ((h.2.2.2.2 p hp).1 z)]
        · obtain ⟨q1, q2⟩ := (h.2.2.2.2 p hp).2 q z
          refine ⟨q1, ?_⟩
          rcases q2 with q2 | q2
          · refine Or.inl ?_
            have hq : q ≠ a := fun w => by
              rw [w] at q2
              exact (hlr p q2).1 rfl
            unfold xL; rw [if_neg hq, if_pos q2]
          · refine Or.inr ?_
            have hq : q ≠ p := fun w => by
              rw [w, hr] at q2
              exact e (Option.some.inj q2)
            unfold xR; rw [if_neg hq, if_pos q2]
      · by_cases e3 : lf r = some a
        · have e1 : xP lf pa p r a = some p := by unfold xP; rw [if_neg e, if_neg e2, if_pos e3]
          rw [e1]
          refine ⟨fun z => (by cases z), fun q z => ?_⟩
          cases z
          exact ⟨hp, Or.inr (by unfold xR; rw [if_pos rfl]; exact e3)⟩
        · have e1 : xP lf pa p r a = pa a := by unfold xP; rw [if_neg e, if_neg e2, if_neg e3]
          rw [e1]
          refine ⟨fun z => ?_, fun q z => ?_⟩
          · have := (h.2.2.2.2 a ha).1 z
            unfold xT; rw [if_neg (fun w => e (Option.some.inj (this.symm.trans w)))]; exact this
          · obtain ⟨q1, q2⟩ := (h.2.2.2.2 a ha).2 q z
            refine ⟨q1, ?_⟩
            rcases q2 with q2 | q2
            · refine Or.inl ?_
              have hq : q ≠ r := fun w => e3 (by rw [← w]; exact q2)
              unfold xL; rw [if_neg hq, if_neg (fun w => e (Option.some.inj (q2.symm.trans w)))]; exact q2
            · refine Or.inr ?_
              have hq : q ≠ p := fun w => e2 (by rw [w, hr] at q2; exact (Option.some.inj q2).symm)
              unfold xR; rw [if_neg hq, if_neg (fun w => e (Option.some.inj (q2.symm.trans w)))]; exact q2
theorem tI_rotR {L : List Nat} {rt : Option Nat} {lf rg pa : Nat → Option Nat} {ps lo hi : Nat → Nat} (h : tI L rt lf rg pa ps lo hi) {p r : Nat} (hp : p ∈ L) (hr : lf p = some r) :
    tI L (xT rt p r) (xR rg lf p r) (xL rg p r) (xP rg pa p r) ps (va_up lo p (ps r + 1)) (va_up hi r (hi p)) := by
  obtain ⟨r1, r2, r3, r4⟩ := (h.2.2.1 p hp).2 r hr
  obtain ⟨p1, p2, p3, p4⟩ := h.m hp
  obtain ⟨s1, s2, s3, s4⟩ := h.m r1
  have hpr : p ≠ r := fun e => by rw [← e] at r4; omega
  have hlr : ∀ b, rg r = some b → b ≠ p ∧ b ≠ r := fun b e => by
    obtain ⟨b1, b2, b3, b4⟩ := (h.2.2.2.1 r r1).2 b e
    obtain ⟨c1, c2, c3, c4⟩ := h.m b1
    exact ⟨fun e => by rw [e] at b3 b4; omega, fun e => by rw [e] at b3; omega⟩
  refine ⟨fun i a hi2 => ?_, ⟨fun x hx => ?_, fun hx => ?_⟩, fun a ha => ?_, fun a ha => ?_, fun a ha => ?_⟩
  · obtain ⟨k1, k2, k3, k4⟩ := h.1 i a hi2
    refine ⟨k1, ?_, ?_, ?_⟩
    · by_cases e : a = p
      · rw [e, zvs]; rw [e] at k1; omega
      · rw [zvn e]; exact k2
    · by_cases e : a = r
      · rw [e, zvs]; rw [e] at k1; omega
      · rw [zvn e]; exact k3
    · by_cases e : a = r
      · rw [e, zvs]; omega
      · rw [zvn e]; exact k4
  · unfold xT at hx
    by_cases e : rt = some p
    · rw [if_pos e] at hx
      cases hx
      obtain ⟨q1, q2, q3, q4⟩ := h.2.1.1 p e
      refine ⟨r1, ?_, by rw [zvn (Ne.symm hpr)]; omega, by rw [zvs]; exact q4⟩
      unfold xP; rw [if_neg (Ne.symm hpr), if_pos rfl]; exact q2
    · rw [if_neg e] at hx
      obtain ⟨q1, q2, q3, q4⟩ := h.2.1.1 x hx
      have x1 : x ≠ p := fun z => e (by rw [← z]; exact hx)
      have x2 : x ≠ r := fun z => by rw [z, r2] at q2; cases q2
      refine ⟨q1, ?_, by rw [zvn x1]; exact q3, by rw [zvn x2]; exact q4⟩
      unfold xP; rw [if_neg x1, if_neg x2, if_neg]
      · exact q2
      · intro z
        have := ((h.2.2.2.1 r r1).2 x z).2.1
        rw [q2] at this; cases this
  · unfold xT at hx
    by_cases e : rt = some p
    · rw [if_pos e] at hx; cases hx
    · rw [if_neg e] at hx; exact h.2.1.2 hx
  · by_cases e : a = p
    · subst e
      have e1 : xR rg lf a r a = rg r := by unfold xR; rw [if_pos rfl]
      rw [e1]
      refine ⟨fun z => ?_, fun b z => ?_⟩
      · rw [zvs]; have := (h.2.2.2.1 r r1).1 z; omega
      · obtain ⟨b1, b2, b3, b4⟩ := (h.2.2.2.1 r r1).2 b z
        obtain ⟨hb1, hb2⟩ := hlr b z
        refine ⟨b1, by unfold xP; rw [if_neg hb1, if_neg hb2, if_pos z], by rw [zvn hb1, zvs]; exact b3, by rw [zvn hb2]; omega⟩
    · by_cases e2 : lf a = some p
      · have e1 : xR rg lf p r a = some r := by unfold xR; rw [if_neg e, if_pos e2]
        rw [e1]
        obtain ⟨b1, b2, b3, b4⟩ := (h.2.2.1 a ha).2 p e2
        refine ⟨fun z => (by cases z), fun b z => ?_⟩
        cases z
        refine ⟨r1, by unfold xP; rw [if_neg (Ne.symm hpr), if_pos rfl]; exact b2, by rw [zvn (Ne.symm hpr), zvn e]; omega, by rw [zvs]; exact b4⟩
      · have e1 : xR rg lf p r a = lf a := by unfold xR; rw [if_neg e, if_neg e2]
        rw [e1]
        refine ⟨fun z => by rw [zvn e]; exact (h.2.2.1 a ha).1 z, fun b z => ?_⟩
        obtain ⟨b1, b2, b3, b4⟩ := (h.2.2.1 a ha).2 b z
        have hb1 : b ≠ p := fun q => e2 (by rw [← q]; exact z)
        have hb2 : b ≠ r := fun q => by
          rw [q, r2] at b2
          exact e (Option.some.inj b2).symm
        refine ⟨b1, ?_, by rw [zvn hb1, zvn e]; exact b3, by rw [zvn hb2]; exact b4⟩
        unfold xP; rw [if_neg hb1, if_neg hb2, if_neg]
        · exact b2
        · intro q
          obtain ⟨d1, d2, d3, d4⟩ := (h.2.2.2.1 r r1).2 b q
          rw [b2] at d2
          have : a = r := Option.some.inj d2
          rw [this] at b4
          obtain ⟨c1, c2, c3, c4⟩ := h.m b1
          omega
  · by_cases e : a = r
    · subst e
      have e1 : xL rg p a a = some p := by unfold xL; rw [if_pos rfl]
      rw [e1]
      refine ⟨fun z => (by cases z), fun b z => ?_⟩
      cases z
      refine ⟨hp, by unfold xP; rw [if_pos rfl], by rw [zvs], by rw [zvs, zvn hpr]⟩
    · by_cases e2 : rg a = some p
      · have e1 : xL rg p r a = some r := by unfold xL; rw [if_neg e, if_pos e2]
        rw [e1]
        obtain ⟨b1, b2, b3, b4⟩ := (h.2.2.2.1 a ha).2 p e2
        refine ⟨fun z => (by cases z), fun b z => ?_⟩
        cases z
        refine ⟨r1, by unfold xP; rw [if_neg (Ne.symm hpr), if_pos rfl]; exact b2, by rw [zvn (Ne.symm hpr)]; omega, by rw [zvs, zvn e]; exact b4⟩
      · have e1 : xL rg p r a = rg a := by unfold xL; rw [if_neg e, if_neg e2]
        rw [e1]
        refine ⟨fun z => by rw [zvn e]; exact (h.2.2.2.1 a ha).1 z, fun b z => ?_⟩
        obtain ⟨b1, b2, b3, b4⟩ := (h.2.2.2.1 a ha).2 b z
        have hb1 : b ≠ p := fun q => e2 (by rw [← q]; exact z)
        have hb2 : b ≠ r := fun q => by
          rw [q, r2] at b2
          have : a = p := (Option.some.inj b2).symm
          rw [q, this] at b3; omega
        refine ⟨b1, ?_, by rw [zvn hb1]; exact b3, by rw [zvn hb2, zvn e]; exact b4⟩
        unfold xP; rw [if_neg hb1, if_neg hb2, if_neg]
        · exact b2
        · intro q
          have := ((h.2.2.2.1 r r1).2 b q).2.1
          rw [b2] at this; exact e (Option.some.inj this)
  · by_cases e : a = p
    · subst e
      have e1 : xP rg pa a r a = some r := by unfold xP; rw [if_pos rfl]
      rw [e1]
      refine ⟨fun z => (by cases z), fun q z => ?_⟩
      cases z
      exact ⟨r1, Or.inr (by unfold xL; rw [if_pos rfl])⟩
    · by_cases e2 : a = r
      · subst e2
        have e1 : xP rg pa p a a = pa p := by unfold xP; rw [if_neg e, if_pos rfl]
        rw [e1]
        refine ⟨fun z => ?_, fun q z => ?_⟩
        · unfold xT; rw [if_pos ((h.2.2.2.2 p hp).1 z)]
        · obtain ⟨q1, q2⟩ := (h.2.2.2.2 p hp).2 q z
          refine ⟨q1, ?_⟩
          rcases q2 with q2 | q2
          · refine Or.inl ?_
            have hq : q ≠ p := fun w => by
              rw [w, hr] at q2
              exact e (Option.some.inj q2)
            unfold xR; rw [if_neg hq, if_pos q2]
          · refine Or.inr ?_
            have hq : q ≠ a := fun w => by
              rw [w] at q2
              exact (hlr p q2).1 rfl
            unfold xL; rw [if_neg hq, if_pos q2]
      · by_cases e3 : rg r = some a
        · have e1 : xP rg pa p r a = some p := by unfold xP; rw [if_neg e, if_neg e2, if_pos e3]
          rw [e1]
          refine ⟨fun z => (by cases z), fun q z => ?_⟩
          cases z
          exact ⟨hp, Or.inl (by unfold xR; rw [if_pos rfl]; exact e3)⟩
        · have e1 : xP rg pa p r a = pa a := by unfold xP; rw [if_neg e, if_neg e2, if_neg e3]
          rw [e1]
          refine ⟨fun z => ?_, fun q z => ?_⟩
          · have := (h.2.2.2.2 a ha).1 z
            unfold xT; rw [if_neg (fun w => e (Option.some.inj (this.symm.trans w)))]; exact this
          · obtain ⟨q1, q2⟩ := (h.2.2.2.2 a ha).2 q z
            refine ⟨q1, ?_⟩
            rcases q2 with q2 | q2
            · refine Or.inl ?_
              have hq : q ≠ p := fun w => e2 (by rw [w, hr] at q2; exact (Option.some.inj q2).symm)
              unfold xR; rw [if_neg hq, if_neg (fun w => e (Option.some.inj (q2.symm.trans w)))]; exact q2
            · refine Or.inr ?_
              have hq : q ≠ r := fun w => e3 (by rw [← w]; exact q2)
              unfold xL; rw [if_neg hq, if_neg (fun w => e (Option.some.inj (q2.symm.trans w)))]; exact q2
