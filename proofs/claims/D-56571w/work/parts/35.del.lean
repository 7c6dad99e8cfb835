/-! TREE: a node taken out that has one child at most -/
set_option maxRecDepth 100000
def lD (L : List Nat) (j : Nat) : List Nat := L.take j ++ L.drop (j + 1)
theorem lD_at {L : List Nat} {j : Nat} (hj : j < L.length) (i : Nat) : (lD L j)[i]? = if i < j then L[i]? else L[i + 1]? := by
  have hl : (L.take j).length = j := by rw [List.length_take]; omega
  unfold lD
  by_cases h : i < j
  · rw [if_pos h, List.getElem?_append_left (by omega), List.getElem?_take, if_pos h]
  · rw [if_neg h, List.getElem?_append_right (by omega), hl, List.getElem?_drop]
    congr 1; omega
theorem lD_len {L : List Nat} {j : Nat} (hj : j < L.length) : (lD L j).length = L.length - 1 := by
  unfold lD; rw [List.length_append, List.length_take, List.length_drop]; omega
theorem lD_mem {L : List Nat} {rt : Option Nat} {lf rg pa : Nat → Option Nat} {ps lo hi : Nat → Nat} (h : tI L rt lf rg pa ps lo hi) {e : Nat} (he : e ∈ L) (a : Nat) : a ∈ lD L (ps e) ↔ a ∈ L ∧ a ≠ e := by
  obtain ⟨e1, e2, e3, e4⟩ := h.m he
  have hj : ps e < L.length := by omega
  constructor
  · intro ha
    obtain ⟨i, hi, hia⟩ := List.getElem_of_mem ha
    have h1 : (lD L (ps e))[i]? = some a := by rw [List.getElem?_eq_getElem hi, hia]
    rw [lD_at hj] at h1
    by_cases c : i < ps e
    · rw [if_pos c] at h1
      have k := (h.1 i a h1).1
      exact ⟨List.mem_of_getElem? h1, fun q => by rw [q] at k; omega⟩
    · rw [if_neg c] at h1
      have k := (h.1 (i + 1) a h1).1
      exact ⟨List.mem_of_getElem? h1, fun q => by rw [q] at k; omega⟩
  · rintro ⟨ha, hne⟩
    obtain ⟨a1, a2, a3, a4⟩ := h.m ha
    have c : ps a ≠ ps e := fun w => hne (h.inj ha he w)
    rcases Nat.lt_or_gt_of_ne c with q | q
    · exact List.mem_of_getElem? (i := ps a) (by rw [lD_at hj, if_pos q]; exact a1)
    · refine List.mem_of_getElem? (i := ps a - 1) ?_
      rw [lD_at hj, if_neg (by omega), show ps a - 1 + 1 = ps a by omega]; exact a1
def dS (j x : Nat) : Nat := if j < x then x - 1 else x
def dL (lf : Nat → Option Nat) (e : Nat) (o : Option Nat) (a : Nat) : Option Nat := if lf a = some e then o else lf a
def dP (pa : Nat → Option Nat) (e : Nat) (o : Option Nat) (a : Nat) : Option Nat := if o = some a then pa e else pa a
def dT (rt : Option Nat) (e : Nat) (o : Option Nat) : Option Nat := if rt = some e then o else rt
theorem tI_del {L : List Nat} {rt : Option Nat} {lf rg pa : Nat → Option Nat} {ps lo hi : Nat → Nat} (h : tI L rt lf rg pa ps lo hi) {e : Nat} {o : Option Nat} (he : e ∈ L) (ho : (lf e = none ∧ o = rg e) ∨ (rg e = none ∧ o = lf e)) :
    tI (lD L (ps e)) (dT rt e o) (dL lf e o) (dL rg e o) (dP pa e o) (fun a => dS (ps e) (ps a)) (fun a => dS (ps e) (lo a)) (fun a => dS (ps e) (hi a)) := by
  obtain ⟨e1, e2, e3, e4⟩ := h.m he
  have hj : ps e < L.length := by omega
  have inj : ∀ {a}, a ∈ L → a ≠ e → ps a ≠ ps e := fun ha q w => q (h.inj ha he w)
  -- the child, if any
  have hc : ∀ c, o = some c → c ∈ L ∧ c ≠ e ∧ pa c = some e ∧ dS (ps e) (lo c) = dS (ps e) (lo e) ∧ dS (ps e) (hi c) = dS (ps e) (hi e) := fun c hoc => by
    rcases ho with ⟨l1, l2⟩ | ⟨l1, l2⟩
    · rw [l2] at hoc
      obtain ⟨b1, b2, b3, b4⟩ := (h.2.2.2.1 e he).2 c hoc
      have k1 := (h.2.2.1 e he).1 l1
      obtain ⟨c1, c2, c3, c4⟩ := h.m b1
      refine ⟨b1, fun q => by rw [q] at b3 c2; omega, b2, ?_, by (try dsimp only); rw [b4]⟩
      (try dsimp only); unfold dS; (repeat' split) <;> omega
    · rw [l2] at hoc
      obtain ⟨b1, b2, b3, b4⟩ := (h.2.2.1 e he).2 c hoc
      have k1 := (h.2.2.2.1 e he).1 l1
      obtain ⟨c1, c2, c3, c4⟩ := h.m b1
      refine ⟨b1, fun q => by rw [q] at b4 c3; omega, b2, by (try dsimp only); rw [b3], ?_⟩
      (try dsimp only); unfold dS; (repeat' split) <;> omega
  have hn : o = none → lo e = ps e ∧ hi e = ps e + 1 := fun hon => by
    rcases ho with ⟨l1, l2⟩ | ⟨l1, l2⟩
    · exact ⟨(h.2.2.1 e he).1 l1, (h.2.2.2.1 e he).1 (by rw [← l2]; exact hon)⟩
    · exact ⟨(h.2.2.1 e he).1 (by rw [← l2]; exact hon), (h.2.2.2.1 e he).1 l1⟩
  have keep : ∀ {a b}, a ∈ L → a ≠ e → pa b = some a → dP pa e o b = some a := fun {a b} ha hae hb => by
    unfold dP
    rw [if_neg]
    · exact hb
    · intro q
      have := (hc b q).2.2.1
      rw [hb] at this
      exact hae (Option.some.inj this)
  refine ⟨fun i a hi2 => ?_, ⟨fun x hx => ?_, fun hx => ?_⟩, fun a ha => ?_, fun a ha => ?_, fun a ha => ?_⟩
  · rw [lD_len hj]
    rw [lD_at hj] at hi2
    by_cases c : i < ps e
    · rw [if_pos c] at hi2
      obtain ⟨k1, k2, k3, k4⟩ := h.1 i a hi2
      (try dsimp only); unfold dS
      refine ⟨?_, ?_, ?_, ?_⟩ <;> (repeat' split) <;> omega
    · rw [if_neg c] at hi2
      obtain ⟨k1, k2, k3, k4⟩ := h.1 (i + 1) a hi2
      (try dsimp only); unfold dS
      refine ⟨?_, ?_, ?_, ?_⟩ <;> (repeat' split) <;> omega
  · unfold dT at hx
    rw [lD_len hj]
    by_cases c : rt = some e
    · rw [if_pos c] at hx
      obtain ⟨q1, q2, q3, q4⟩ := h.2.1.1 e c
      obtain ⟨c1, c2, c3, c4, c5⟩ := hc x hx
      refine ⟨(lD_mem h he x).mpr ⟨c1, c2⟩, by unfold dP; rw [if_pos hx]; exact q2, ?_, ?_⟩
      · (try dsimp only); rw [c4, q3]; (try dsimp only); unfold dS; split <;> omega
      · (try dsimp only); rw [c5, q4]; (try dsimp only); unfold dS; rw [if_pos hj]
    · rw [if_neg c] at hx
      obtain ⟨q1, q2, q3, q4⟩ := h.2.1.1 x hx
      have hxe : x ≠ e := fun w => c (by rw [← w]; exact hx)
      refine ⟨(lD_mem h he x).mpr ⟨q1, hxe⟩, ?_, ?_, ?_⟩
      · unfold dP
        rw [if_neg]
        · exact q2
        · intro q
          have := (hc x q).2.2.1
          rw [q2] at this; cases this
      · (try dsimp only); rw [q3]; (try dsimp only); unfold dS; split <;> omega
      · (try dsimp only); rw [q4]; (try dsimp only); unfold dS; rw [if_pos hj]
  · unfold dT at hx
    by_cases c : rt = some e
    · rw [if_pos c] at hx
      obtain ⟨q1, q2, q3, q4⟩ := h.2.1.1 e c
      obtain ⟨k1, k2⟩ := hn hx
      exact List.length_eq_zero_iff.mp (by rw [lD_len hj]; omega)
    · rw [if_neg c] at hx
      rw [h.2.1.2 hx] at he; cases he
  · obtain ⟨ha, hae⟩ := (lD_mem h he a).mp ha
    have ia := inj ha hae
    by_cases c : lf a = some e
    · have d1 : dL lf e o a = o := by unfold dL; rw [if_pos c]
      rw [d1]
      obtain ⟨b1, b2, b3, b4⟩ := (h.2.2.1 a ha).2 e c
      refine ⟨fun z => ?_, fun b z => ?_⟩
      · obtain ⟨k1, k2⟩ := hn z
        (try dsimp only); unfold dS; (repeat' split) <;> omega
      · obtain ⟨c1, c2, c3, c4, c5⟩ := hc b z
        exact ⟨(lD_mem h he b).mpr ⟨c1, c2⟩, by unfold dP; rw [if_pos z]; exact b2, by (try dsimp only); rw [c4, b3], by (try dsimp only); rw [c5, b4]⟩
    · have d1 : dL lf e o a = lf a := by unfold dL; rw [if_neg c]
      rw [d1]
      refine ⟨fun z => by (try dsimp only); rw [(h.2.2.1 a ha).1 z], fun b z => ?_⟩
      obtain ⟨b1, b2, b3, b4⟩ := (h.2.2.1 a ha).2 b z
      exact ⟨(lD_mem h he b).mpr ⟨b1, fun w => c (by rw [← w]; exact z)⟩, keep ha hae b2, by (try dsimp only); rw [b3], by (try dsimp only); rw [b4]⟩
  · obtain ⟨ha, hae⟩ := (lD_mem h he a).mp ha
    have ia := inj ha hae
    by_cases c : rg a = some e
    · have d1 : dL rg e o a = o := by unfold dL; rw [if_pos c]
      rw [d1]
      obtain ⟨b1, b2, b3, b4⟩ := (h.2.2.2.1 a ha).2 e c
      refine ⟨fun z => ?_, fun b z => ?_⟩
      · obtain ⟨k1, k2⟩ := hn z
        (try dsimp only); unfold dS; (repeat' split) <;> omega
      · obtain ⟨c1, c2, c3, c4, c5⟩ := hc b z
        refine ⟨(lD_mem h he b).mpr ⟨c1, c2⟩, by unfold dP; rw [if_pos z]; exact b2, ?_, by (try dsimp only); rw [c5, b4]⟩
        (try dsimp only); rw [c4]; (try dsimp only); unfold dS; (repeat' split) <;> omega
    · have d1 : dL rg e o a = rg a := by unfold dL; rw [if_neg c]
      rw [d1]
      refine ⟨fun z => ?_, fun b z => ?_⟩
      · have := (h.2.2.2.1 a ha).1 z
        (try dsimp only); unfold dS; (repeat' split) <;> omega
      · obtain ⟨b1, b2, b3, b4⟩ := (h.2.2.2.1 a ha).2 b z
        refine ⟨(lD_mem h he b).mpr ⟨b1, fun w => c (by rw [← w]; exact z)⟩, keep ha hae b2, ?_, by (try dsimp only); rw [b4]⟩
        (try dsimp only); unfold dS; (repeat' split) <;> omega
  · obtain ⟨ha, hae⟩ := (lD_mem h he a).mp ha
    by_cases c : o = some a
    · have d1 : dP pa e o a = pa e := by unfold dP; rw [if_pos c]
      rw [d1]
      refine ⟨fun z => ?_, fun q z => ?_⟩
      · unfold dT; rw [if_pos ((h.2.2.2.2 e he).1 z)]; exact c
      · obtain ⟨q1, q2⟩ := (h.2.2.2.2 e he).2 q z
        have hqe : q ≠ e := fun w => by
          rw [w] at z
          rcases q2 with q2 | q2
          · rw [w] at q2
            obtain ⟨b1, b2, b3, b4⟩ := (h.2.2.1 e he).2 e q2
            omega
          · rw [w] at q2
            obtain ⟨b1, b2, b3, b4⟩ := (h.2.2.2.1 e he).2 e q2
            omega
        refine ⟨(lD_mem h he q).mpr ⟨q1, hqe⟩, ?_⟩
        rcases q2 with q2 | q2
        · exact Or.inl (by unfold dL; rw [if_pos q2]; exact c)
        · exact Or.inr (by unfold dL; rw [if_pos q2]; exact c)
    · have d1 : dP pa e o a = pa a := by unfold dP; rw [if_neg c]
      rw [d1]
      refine ⟨fun z => ?_, fun q z => ?_⟩
      · have := (h.2.2.2.2 a ha).1 z
        unfold dT; rw [if_neg (fun w => hae (Option.some.inj (this.symm.trans w)))]; exact this
      · obtain ⟨q1, q2⟩ := (h.2.2.2.2 a ha).2 q z
        have hqe : q ≠ e := fun w => by
          rcases ho with ⟨l1, l2⟩ | ⟨l1, l2⟩
          · rcases q2 with q2 | q2
            · rw [w, l1] at q2; cases q2
            · rw [w] at q2; exact c (by rw [l2]; exact q2)
          · rcases q2 with q2 | q2
            · rw [w] at q2; exact c (by rw [l2]; exact q2)
            · rw [w, l1] at q2; cases q2
        refine ⟨(lD_mem h he q).mpr ⟨q1, hqe⟩, ?_⟩
        rcases q2 with q2 | q2
        · exact Or.inl (by unfold dL; rw [if_neg (fun w => hae (Option.some.inj (q2.symm.trans w)))]; exact q2)
        · exact Or.inr (by unfold dL; rw [if_neg (fun w => hae (Option.some.inj (q2.symm.trans w)))]; exact q2)
