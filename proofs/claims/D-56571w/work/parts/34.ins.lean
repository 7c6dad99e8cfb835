/-! TREE: a leaf put in -/
set_option maxRecDepth 100000
def lI (L : List Nat) (j e : Nat) : List Nat := L.take j ++ e :: L.drop j
theorem lI_at {L : List Nat} {j e : Nat} (hj : j ≤ L.length) (i : Nat) : (lI L j e)[i]? = if i < j then L[i]? else if i = j then some e else L[i - 1]? := by
  have hl : (L.take j).length = j := by rw [List.length_take]; omega
  unfold lI
  by_cases h : i < j
  · rw [if_pos h, List.getElem?_append_left (by omega), List.getElem?_take, if_pos h]
  · rw [if_neg h, List.getElem?_append_right (by omega), hl]
    by_cases h2 : i = j
    · rw [if_pos h2, h2, Nat.sub_self]; rfl
    · rw [if_neg h2]
      obtain ⟨k, hk⟩ : ∃ k, i - j = k + 1 := ⟨i - j - 1, by omega⟩
      rw [hk, List.getElem?_cons_succ, List.getElem?_drop]
      congr 1; omega
theorem lI_len {L : List Nat} {j e : Nat} (hj : j ≤ L.length) : (lI L j e).length = L.length + 1 := by
  unfold lI; rw [List.length_append, List.length_cons, List.length_take, List.length_drop]; omega
theorem lI_mem {L : List Nat} {j e : Nat} (a : Nat) : a ∈ lI L j e ↔ a = e ∨ a ∈ L := by
  unfold lI
  rw [List.mem_append, List.mem_cons]
  constructor
  · rintro (h | h | h)
    · exact Or.inr (List.mem_of_mem_take h)
    · exact Or.inl h
    · exact Or.inr (List.mem_of_mem_drop h)
  · rintro (h | h)
    · exact Or.inr (Or.inl h)
    · rw [← List.take_append_drop j L, List.mem_append] at h
      rcases h with h | h
      · exact Or.inl h
      · exact Or.inr (Or.inr h)
def iP (ps : Nat → Nat) (e j : Nat) (a : Nat) : Nat := if a = e then j else if j ≤ ps a then ps a + 1 else ps a
theorem tI.inj {L : List Nat} {rt : Option Nat} {lf rg pa : Nat → Option Nat} {ps lo hi : Nat → Nat} (h : tI L rt lf rg pa ps lo hi) {a b : Nat} (ha : a ∈ L) (hb : b ∈ L) (e : ps a = ps b) : a = b := by
  have h1 := (h.m ha).1
  rw [e, (h.m hb).1] at h1
  exact (Option.some.inj h1).symm
theorem tI_insL {L : List Nat} {rt : Option Nat} {lf rg pa : Nat → Option Nat} {ps lo hi : Nat → Nat} (h : tI L rt lf rg pa ps lo hi) {p e : Nat} (hp : p ∈ L) (hl : lf p = none) (he : e ∉ L) :
    tI (lI L (ps p) e) rt (va_up (va_up lf e none) p (some e)) (va_up rg e none) (va_up pa e (some p)) (iP ps e (ps p)) (fun a => if a = e then ps p else if ps p < lo a then lo a + 1 else lo a) (fun a => if a = e then ps p + 1 else if ps p < hi a then hi a + 1 else hi a) := by
  obtain ⟨p1, p2, p3, p4⟩ := h.m hp
  have hlo := (h.2.2.1 p hp).1 hl
  have hj : ps p ≤ L.length := by omega
  have ne : ∀ {a}, a ∈ L → a ≠ e := fun ha q => he (by rw [← q]; exact ha)
  have hpe := ne hp
  have inj : ∀ {a}, a ∈ L → a ≠ p → ps a ≠ ps p := fun ha q w => q (h.inj ha hp w)
  refine ⟨fun i a hi2 => ?_, ⟨fun x hx => ?_, fun hx => ?_⟩, fun a ha => ?_, fun a ha => ?_, fun a ha => ?_⟩
  · rw [lI_len hj]
    rw [lI_at hj] at hi2
    unfold iP
    by_cases c1 : i < ps p
    · rw [if_pos c1] at hi2
      have hm := List.mem_of_getElem? hi2
      obtain ⟨k1, k2, k3, k4⟩ := h.1 i a hi2
      simp only [if_neg (ne hm)]
      refine ⟨?_, ?_, ?_, ?_⟩ <;> (repeat' split) <;> omega
    · rw [if_neg c1] at hi2
      by_cases c2 : i = ps p
      · rw [if_pos c2] at hi2
        cases hi2
        simp only [if_pos]
        omega
      · rw [if_neg c2] at hi2
        have hm := List.mem_of_getElem? hi2
        obtain ⟨k1, k2, k3, k4⟩ := h.1 (i - 1) a hi2
        simp only [if_neg (ne hm)]
        refine ⟨?_, ?_, ?_, ?_⟩ <;> (repeat' split) <;> omega
  · obtain ⟨q1, q2, q3, q4⟩ := h.2.1.1 x hx
    refine ⟨(lI_mem x).mpr (Or.inr q1), by rw [zvn (ne q1)]; exact q2, ?_, ?_⟩
    · simp only [if_neg (ne q1)]; split <;> omega
    · rw [lI_len hj]; simp only [if_neg (ne q1)]; split <;> omega
  · have := h.2.1.2 hx
    rw [this] at hp; cases hp
  · rcases (lI_mem a).mp ha with rfl | ha
    · refine ⟨fun _ => by simp [iP], fun b z => ?_⟩
      rw [zvn (Ne.symm hpe), zvs] at z; cases z
    · by_cases c : a = p
      · subst c
        rw [zvs]
        refine ⟨fun z => (by cases z), fun b z => ?_⟩
        cases z
        refine ⟨(lI_mem e).mpr (Or.inl rfl), by rw [zvs], ?_, ?_⟩
        · simp only [if_pos, if_neg hpe]; split <;> omega
        · unfold iP; simp only [if_pos, if_neg hpe]; split <;> omega
      · have ic := inj ha c
        rw [zvn c, zvn (ne ha)]
        refine ⟨fun z => ?_, fun b z => ?_⟩
        · have := (h.2.2.1 a ha).1 z
          unfold iP; simp only [if_neg (ne ha)]; (repeat' split) <;> omega
        · obtain ⟨b1, b2, b3, b4⟩ := (h.2.2.1 a ha).2 b z
          refine ⟨(lI_mem b).mpr (Or.inr b1), by rw [zvn (ne b1)]; exact b2, ?_, ?_⟩
          · simp only [if_neg (ne ha), if_neg (ne b1), b3]
          · unfold iP; simp only [if_neg (ne ha), if_neg (ne b1)]; (repeat' split) <;> omega
  · rcases (lI_mem a).mp ha with rfl | ha
    · refine ⟨fun _ => by simp [iP], fun b z => ?_⟩
      rw [zvs] at z; cases z
    · rw [zvn (ne ha)]
      refine ⟨fun z => ?_, fun b z => ?_⟩
      · have := (h.2.2.2.1 a ha).1 z
        unfold iP; simp only [if_neg (ne ha)]; (repeat' split) <;> omega
      · obtain ⟨b1, b2, b3, b4⟩ := (h.2.2.2.1 a ha).2 b z
        refine ⟨(lI_mem b).mpr (Or.inr b1), by rw [zvn (ne b1)]; exact b2, ?_, ?_⟩
        · unfold iP; simp only [if_neg (ne ha), if_neg (ne b1)]; (repeat' split) <;> omega
        · simp only [if_neg (ne ha), if_neg (ne b1), b4]
  · rcases (lI_mem a).mp ha with rfl | ha
    · rw [zvs]
      refine ⟨fun z => (by cases z), fun q z => ?_⟩
      cases z
      exact ⟨(lI_mem p).mpr (Or.inr hp), Or.inl (by rw [zvs])⟩
    · rw [zvn (ne ha)]
      refine ⟨(h.2.2.2.2 a ha).1, fun q z => ?_⟩
      obtain ⟨q1, q2⟩ := (h.2.2.2.2 a ha).2 q z
      refine ⟨(lI_mem q).mpr (Or.inr q1), ?_⟩
      rcases q2 with q2 | q2
      · refine Or.inl ?_
        have c : q ≠ p := fun w => by rw [w, hl] at q2; cases q2
        rw [zvn c, zvn (ne q1)]; exact q2
      · exact Or.inr (by rw [zvn (ne q1)]; exact q2)
theorem tI_insR {L : List Nat} {rt : Option Nat} {lf rg pa : Nat → Option Nat} {ps lo hi : Nat → Nat} (h : tI L rt lf rg pa ps lo hi) {p e : Nat} (hp : p ∈ L) (hl : rg p = none) (he : e ∉ L) :
    tI (lI L (ps p + 1) e) rt (va_up lf e none) (va_up (va_up rg e none) p (some e)) (va_up pa e (some p)) (iP ps e (ps p + 1)) (fun a => if a = e then ps p + 1 else if ps p + 1 ≤ lo a then lo a + 1 else lo a) (fun a => if a = e then ps p + 2 else if ps p + 1 ≤ hi a then hi a + 1 else hi a) := by
  obtain ⟨p1, p2, p3, p4⟩ := h.m hp
  have hlo := (h.2.2.2.1 p hp).1 hl
  have hj : ps p + 1 ≤ L.length := by omega
  have ne : ∀ {a}, a ∈ L → a ≠ e := fun ha q => he (by rw [← q]; exact ha)
  have hpe := ne hp
  have inj : ∀ {a}, a ∈ L → a ≠ p → ps a ≠ ps p := fun ha q w => q (h.inj ha hp w)
  refine ⟨fun i a hi2 => ?_, ⟨fun x hx => ?_, fun hx => ?_⟩, fun a ha => ?_, fun a ha => ?_, fun a ha => ?_⟩
  · rw [lI_len hj]
    rw [lI_at hj] at hi2
    unfold iP
    by_cases c1 : i < ps p + 1
    · rw [if_pos c1] at hi2
      have hm := List.mem_of_getElem? hi2
      obtain ⟨k1, k2, k3, k4⟩ := h.1 i a hi2
      simp only [if_neg (ne hm)]
      refine ⟨?_, ?_, ?_, ?_⟩ <;> (repeat' split) <;> omega
    · rw [if_neg c1] at hi2
      by_cases c2 : i = ps p + 1
      · rw [if_pos c2] at hi2
        cases hi2
        simp only [if_pos]
        omega
      · rw [if_neg c2] at hi2
        have hm := List.mem_of_getElem? hi2
        obtain ⟨k1, k2, k3, k4⟩ := h.1 (i - 1) a hi2
        simp only [if_neg (ne hm)]
        refine ⟨?_, ?_, ?_, ?_⟩ <;> (repeat' split) <;> omega
  · obtain ⟨q1, q2, q3, q4⟩ := h.2.1.1 x hx
    refine ⟨(lI_mem x).mpr (Or.inr q1), by rw [zvn (ne q1)]; exact q2, ?_, ?_⟩
    · simp only [if_neg (ne q1)]; split <;> omega
    · rw [lI_len hj]; simp only [if_neg (ne q1)]; split <;> omega
  · have := h.2.1.2 hx
    rw [this] at hp; cases hp
  · rcases (lI_mem a).mp ha with rfl | ha
    · refine ⟨fun _ => by simp [iP], fun b z => ?_⟩
      rw [zvs] at z; cases z
    · rw [zvn (ne ha)]
      refine ⟨fun z => ?_, fun b z => ?_⟩
      · have := (h.2.2.1 a ha).1 z
        unfold iP; simp only [if_neg (ne ha)]; (repeat' split) <;> omega
      · obtain ⟨b1, b2, b3, b4⟩ := (h.2.2.1 a ha).2 b z
        refine ⟨(lI_mem b).mpr (Or.inr b1), by rw [zvn (ne b1)]; exact b2, ?_, ?_⟩
        · simp only [if_neg (ne ha), if_neg (ne b1), b3]
        · unfold iP; simp only [if_neg (ne ha), if_neg (ne b1)]; (repeat' split) <;> omega
  · rcases (lI_mem a).mp ha with rfl | ha
    · refine ⟨fun _ => by simp [iP], fun b z => ?_⟩
      rw [zvn (Ne.symm hpe), zvs] at z; cases z
    · by_cases c : a = p
      · subst c
        rw [zvs]
        refine ⟨fun z => (by cases z), fun b z => ?_⟩
        cases z
        refine ⟨(lI_mem e).mpr (Or.inl rfl), by rw [zvs], ?_, ?_⟩
        · unfold iP; simp only [if_pos, if_neg hpe]; split <;> omega
        · simp only [if_pos, if_neg hpe]; split <;> omega
      · have ic := inj ha c
        rw [zvn c, zvn (ne ha)]
        refine ⟨fun z => ?_, fun b z => ?_⟩
        · have := (h.2.2.2.1 a ha).1 z
          unfold iP; simp only [if_neg (ne ha)]; (repeat' split) <;> omega
        · obtain ⟨b1, b2, b3, b4⟩ := (h.2.2.2.1 a ha).2 b z
          refine ⟨(lI_mem b).mpr (Or.inr b1), by rw [zvn (ne b1)]; exact b2, ?_, ?_⟩
          · unfold iP; simp only [if_neg (ne ha), if_neg (ne b1)]; (repeat' split) <;> omega
          · simp only [if_neg (ne ha), if_neg (ne b1), b4]
  · rcases (lI_mem a).mp ha with rfl | ha
    · rw [zvs]
      refine ⟨fun z => (by cases z), fun q z => ?_⟩
      cases z
      exact ⟨(lI_mem p).mpr (Or.inr hp), Or.inr (by rw [zvs])⟩
    · rw [zvn (ne ha)]
      refine ⟨(h.2.2.2.2 a ha).1, fun q z => ?_⟩
      obtain ⟨q1, q2⟩ := (h.2.2.2.2 a ha).2 q z
      refine ⟨(lI_mem q).mpr (Or.inr q1), ?_⟩
      rcases q2 with q2 | q2
      · exact Or.inl (by rw [zvn (ne q1)]; exact q2)
      · refine Or.inr ?_
        have c : q ≠ p := fun w => by rw [w, hl] at q2; cases q2
        rw [zvn c, zvn (ne q1)]; exact q2
