/-! SEARCH: plans for a box, in the order of a dictionary; the depth-first search -/
set_option maxRecDepth 100000
def yGo (Y : YD) (m : Nat) : YD := yMv Y (yPl Y (m / 4)) (m % 4) (m / 4)
def yRun (L : YD → Nat → Bool) : YD → List Nat → Option YD
  | Y, [] => some Y
  | Y, m :: ms => if L Y m = true then yRun L (yGo Y m) ms else none
def yTop (t : Nat) (Y : YD) : Bool := decide ((Y (yPl Y t)).getLast? = some t)
def yPlan (L : YD → Nat → Bool) (t : Nat) (Y : YD) (ms : List Nat) : Prop := ∃ Z, yRun L Y ms = some Z ∧ yTop t Z = true
theorem yRun_app (L : YD → Nat → Bool) : ∀ (a : List Nat) (Y : YD) (b : List Nat), yRun L Y (a ++ b) = (yRun L Y a).bind (fun Z => yRun L Z b)
  | [], _, _ => rfl
  | m :: a, Y, b => by
    show (if L Y m = true then yRun L (yGo Y m) (a ++ b) else none) = _
    rw [yRun]
    by_cases h : L Y m = true
    · rw [if_pos h, if_pos h]; exact yRun_app L a _ b
    · rw [if_neg h, if_neg h]; rfl
theorem yRun_mid {L : YD → Nat → Bool} {P rest : List Nat} {m : Nat} {Y Z : YD} (h : yRun L Y (P ++ m :: rest) = some Z) : ∃ W, yRun L Y P = some W ∧ L W m = true ∧ yRun L (yGo W m) rest = some Z := by
  rw [yRun_app] at h
  cases hw : yRun L Y P with
  | none => rw [hw] at h; cases h
  | some W =>
    rw [hw] at h
    have h : (if L W m = true then yRun L (yGo W m) rest else none) = some Z := h
    by_cases hl : L W m = true
    · rw [if_pos hl] at h; exact ⟨W, rfl, hl, h⟩
    · rw [if_neg hl] at h; cases h
theorem yRun_snoc {L : YD → Nat → Bool} {P : List Nat} {m : Nat} {Y W : YD} (h : yRun L Y P = some W) (hl : L W m = true) : yRun L Y (P ++ [m]) = some (yGo W m) := by
  rw [yRun_app, h]
  show (if L W m = true then yRun L (yGo W m) [] else none) = _
  rw [if_pos hl]; rfl
/-- ms isn't ahead of P followed by f -/
def geP : List Nat → List Nat → Nat → Prop
  | [], [], _ => True
  | m :: _, [], f => f ≤ m
  | [], _ :: _, _ => True
  | m :: ms, p :: P, f => p < m ∨ (p = m ∧ geP ms P f)
theorem geP_lex : ∀ {ms P : List Nat} {f : Nat}, ms.length = P.length → geP ms P f → ms = P ∨ lexL P ms
  | [], [], _, _, _ => Or.inl rfl
  | m :: ms, p :: P, f, hl, h => by
    rcases h with h | ⟨rfl, h⟩
    · exact Or.inr (Or.inl h)
    · rcases geP_lex (by simpa using hl) h with rfl | h
      · exact Or.inl rfl
      · exact Or.inr (Or.inr ⟨rfl, h⟩)
theorem geP_pop1 : ∀ {ms P : List Nat} {p f : Nat}, ms.length = P.length + 1 → ms ≠ P ++ [p] → geP ms (P ++ [p]) f → geP ms P (p + 1)
  | [m], [], p, f, _, hne, h => by
    rcases h with h | ⟨rfl, -⟩
    · exact h
    · exact absurd rfl hne
  | m :: m2 :: ms, [], _, _, hl, _, _ => by simp at hl
  | m :: ms, q :: P, p, f, hl, hne, h => by
    rcases h with h | ⟨rfl, h⟩
    · exact Or.inl h
    · exact Or.inr ⟨rfl, geP_pop1 (by simpa using hl) (fun e => hne (by rw [e]; rfl)) h⟩
theorem geP_push : ∀ {ms P : List Nat} {m f : Nat}, P.length < ms.length → (∀ m' rest, ms = P ++ m' :: rest → f ≤ m' → m ≤ m') → geP ms P f → geP ms (P ++ [m]) 0
  | x :: ms, [], m, f, _, hm, h => by
    have h1 := hm x ms rfl h
    rcases Nat.lt_or_ge m x with q | q
    · exact Or.inl q
    · refine Or.inr ⟨Nat.le_antisymm h1 q, ?_⟩
      cases ms with
      | nil => trivial
      | cons y ys => exact Nat.zero_le _
  | x :: ms, q :: P, m, f, hl, hm, h => by
    rcases h with h | ⟨rfl, h⟩
    · exact Or.inl h
    · exact Or.inr ⟨rfl, geP_push (by simpa using hl) (fun m' rest e => hm m' rest (by rw [e]; rfl)) h⟩
theorem geP_pop2 : ∀ {ms P : List Nat} {p f : Nat}, P.length + 1 < ms.length → (∀ m' rest, ms = (P ++ [p]) ++ m' :: rest → f ≤ m' → False) → geP ms (P ++ [p]) f → geP ms P (p + 1)
  | x :: y :: ms, [], p, f, _, hm, h => by
    rcases h with h | ⟨rfl, h⟩
    · exact h
    · exact (hm y ms rfl h).elim
  | [x], [], _, _, hl, _, _ => by simp at hl
  | x :: ms, q :: P, p, f, hl, hm, h => by
    rcases h with h | ⟨rfl, h⟩
    · exact Or.inl h
    · exact Or.inr ⟨rfl, geP_pop2 (by simpa using hl) (fun m' rest e => hm m' rest (by rw [e]; rfl)) h⟩
theorem geP_nil {ms : List Nat} : geP ms [] 0 := by
  cases ms with
  | nil => trivial
  | cons y ys => exact Nat.zero_le _
/-- what is left to search -/
def sMu : Nat → List Nat → Nat → Nat
  | n, [], f => (81 - f) * 82 ^ n
  | n, p :: P, f => (80 - p) * 82 ^ n + sMu (n - 1) P f
theorem sMu_pop : ∀ {n : Nat} {P : List Nat} {p f : Nat}, P.length < n → p < 80 → f ≤ 80 → sMu n P (p + 1) < sMu n (P ++ [p]) f
  | n, [], p, f, hn, hp, hf => by
    show (81 - (p + 1)) * 82 ^ n < (80 - p) * 82 ^ n + (81 - f) * 82 ^ (n - 1)
    have h1 : 81 - (p + 1) = 80 - p := by omega
    rw [h1]
    have h2 : 0 < (81 - f) * 82 ^ (n - 1) := Nat.mul_pos (by omega) (Nat.pow_pos (by decide))
    omega
  | n, q :: P, p, f, hn, hp, hf => by
    show (80 - q) * 82 ^ n + sMu (n - 1) P (p + 1) < (80 - q) * 82 ^ n + sMu (n - 1) (P ++ [p]) f
    have := sMu_pop (n := n - 1) (P := P) (p := p) (f := f) (by simp at hn; omega) hp hf
    omega
theorem sMu_push : ∀ {n : Nat} {P : List Nat} {m f : Nat}, P.length < n → m < 80 → f ≤ m → sMu n (P ++ [m]) 0 < sMu n P f
  | n, [], m, f, hn, hm, hf => by
    show (80 - m) * 82 ^ n + (81 - 0) * 82 ^ (n - 1) < (81 - f) * 82 ^ n
    have hn : 0 < n := hn
    obtain ⟨k, rfl⟩ : ∃ k, n = k + 1 := ⟨n - 1, by omega⟩
    have h1 : (80 - m + 1) * 82 ^ (k + 1) ≤ (81 - f) * 82 ^ (k + 1) := Nat.mul_le_mul_right _ (by omega)
    have h2 : (80 - m + 1) * 82 ^ (k + 1) = (80 - m) * 82 ^ (k + 1) + 82 ^ (k + 1) := Nat.succ_mul _ _
    have h3 : (82 : Nat) ^ (k + 1) = 82 ^ k * 82 := Nat.pow_succ ..
    have h4 : 0 < (82 : Nat) ^ k := Nat.pow_pos (by decide)
    simp only [Nat.add_sub_cancel]
    omega
  | n, q :: P, m, f, hn, hm, hf => by
    show (80 - q) * 82 ^ n + sMu (n - 1) (P ++ [m]) 0 < (80 - q) * 82 ^ n + sMu (n - 1) P f
    have := sMu_push (n := n - 1) (P := P) (m := m) (f := f) (by simp at hn; omega) hm hf
    omega
/-- a yard that holds just the boxes that are there -/
def yGood (st bx : Nat) (ins : Nat → Bool) (Y : YD) : Prop := yOK st Y ∧ (∀ c, c < bx → ins c = true → ∃ t, c ∈ Y t) ∧ ∀ s c, c ∈ Y s → c < bx ∧ ins c = true
theorem yMv_in {Y : YD} {p s b : Nat} (hne : p ≠ s) (hl : (Y p).getLast? = some b) (z c : Nat) : c ∈ yMv Y p s b z ↔ (z = s ∧ (c ∈ Y s ∨ c = b)) ∨ (z = p ∧ c ∈ (Y p).dropLast) ∨ (z ≠ s ∧ z ≠ p ∧ c ∈ Y z) := by
  unfold yMv
  by_cases h : z = s
  · subst h; rw [zvs, zvn (Ne.symm hne)]; simp [Ne.symm hne]
  · rw [zvn h]
    by_cases h2 : z = p
    · subst h2; rw [zvs]; simp [h]
    · rw [zvn h2]; simp [h, h2]
theorem drop_in {l : List Nat} {b : Nat} (hl : l.getLast? = some b) : l = l.dropLast ++ [b] := by
  have hne : l ≠ [] := by intro e; rw [e] at hl; cases hl
  rw [List.getLast?_eq_some_getLast hne] at hl
  have := List.dropLast_concat_getLast hne
  rw [Option.some.inj hl] at this
  exact this.symm
theorem yOK_mv {st : Nat} {Y : YD} {p s b : Nat} (h : yOK st Y) (hne : p ≠ s) (hs : s < st) (hlt : (Y s).length < 4) (hl : (Y p).getLast? = some b) : yOK st (yMv Y p s b) ∧ ∀ c, (∃ z, c ∈ yMv Y p s b z) ↔ ∃ z, c ∈ Y z := by
  have hY := drop_in hl
  have hbp : b ∈ Y p := by rw [hY]; simp
  have hpd : ∀ c, c ∈ (Y p).dropLast → c ∈ Y p ∧ c ≠ b := fun c hc => by
    have hnd := h.2.2.2.1 p
    rw [hY] at hnd
    refine ⟨by rw [hY]; exact List.mem_append_left _ hc, fun e => ?_⟩
    have := (List.nodup_append.mp hnd).2.2 c hc b (by simp)
    exact this e
  have hin : ∀ z c, c ∈ yMv Y p s b z → (c = b ∧ z = s) ∨ (c ≠ b ∧ c ∈ Y z) := fun z c hc => by
    rcases (yMv_in hne hl z c).mp hc with ⟨rfl, q | q⟩ | ⟨rfl, q⟩ | ⟨q1, q2, q⟩
    · exact Or.inr ⟨fun e => hne (h.2.2.2.2 p z b hbp (by rw [← e]; exact q)), q⟩
    · exact Or.inl ⟨q, rfl⟩
    · exact Or.inr ⟨(hpd c q).2, (hpd c q).1⟩
    · exact Or.inr ⟨fun e => q2 (h.2.2.2.2 z p b (by rw [← e]; exact q) hbp), q⟩
  refine ⟨⟨fun z => ?_, fun z hz => ?_, fun z c hc => ?_, fun z => ?_, fun z w c hc hd => ?_⟩, fun c => ⟨?_, ?_⟩⟩
  · unfold yMv
    by_cases e : z = s
    · subst e; rw [zvs, zvn (Ne.symm hne), List.length_append]; simp; omega
    · rw [zvn e]
      by_cases e2 : z = p
      · subst e2; rw [zvs, List.length_dropLast]; have := h.1 z; omega
      · rw [zvn e2]; exact h.1 z
  · unfold yMv
    rw [zvn (by omega)]
    by_cases e2 : z = p
    · subst e2; rw [zvs, h.2.1 z hz]; rfl
    · rw [zvn e2]; exact h.2.1 z hz
  · rcases hin z c hc with ⟨rfl, -⟩ | ⟨-, q⟩
    · exact h.2.2.1 p c hbp
    · exact h.2.2.1 z c q
  · unfold yMv
    by_cases e : z = s
    · subst e; rw [zvs, zvn (Ne.symm hne)]
      refine List.nodup_append.mpr ⟨h.2.2.2.1 z, by simp, fun a ha d hd e => ?_⟩
      rw [List.mem_singleton] at hd
      exact hne (h.2.2.2.2 p z b hbp (by rw [← hd, ← e]; exact ha))
    · rw [zvn e]
      by_cases e2 : z = p
      · subst e2; rw [zvs]; exact (h.2.2.2.1 z).sublist (List.dropLast_sublist _)
      · rw [zvn e2]; exact h.2.2.2.1 z
  · rcases hin z c hc with ⟨rfl, rfl⟩ | ⟨q1, q⟩
    · rcases hin w c hd with ⟨-, rfl⟩ | ⟨q2, -⟩
      · rfl
      · exact absurd rfl q2
    · rcases hin w c hd with ⟨rfl, rfl⟩ | ⟨-, q2⟩
      · exact absurd rfl q1
      · exact h.2.2.2.2 z w c q q2
  · rintro ⟨z, hz⟩
    rcases hin z c hz with ⟨rfl, -⟩ | ⟨-, q⟩
    · exact ⟨p, hbp⟩
    · exact ⟨z, q⟩
  · rintro ⟨z, hz⟩
    by_cases e : c = b
    · exact ⟨s, (yMv_in hne hl s c).mpr (Or.inl ⟨rfl, Or.inr e⟩)⟩
    · refine ⟨z, (yMv_in hne hl z c).mpr ?_⟩
      by_cases e1 : z = s
      · subst e1; exact Or.inl ⟨rfl, Or.inl hz⟩
      · by_cases e2 : z = p
        · subst e2
          rw [hY] at hz
          rcases List.mem_append.mp hz with q | q
          · exact Or.inr (Or.inl ⟨rfl, q⟩)
          · exact absurd (List.mem_singleton.mp q) e
        · exact Or.inr (Or.inr ⟨e1, e2, hz⟩)
theorem yCan_spec {rch wt : Nat → Nat} {pin : Nat → Bool} {Y : YD} {t b s : Nat} (h : yCan rch wt pin Y t b s = true) : (Y t).getLast? = some b ∧ pin b = false ∧ t ≠ s ∧ (Y s).length < rch s := by
  unfold yCan yTk at h
  simp only [Bool.and_eq_true, decide_eq_true_eq, Bool.not_eq_true'] at h
  exact ⟨h.1, h.2.1, h.2.2.1, h.2.2.2.1⟩
theorem yLeg_spec {st : Nat} {rch wt : Nat → Nat} {ins pin : Nat → Bool} {t : Nat} {Y : YD} {m : Nat} (h : yLeg st rch wt ins pin t Y m = true) : m / 4 ≠ t ∧ m % 4 < st ∧ ins (m / 4) = true ∧ yCan rch wt pin Y (yPl Y (m / 4)) (m / 4) (m % 4) = true := by
  unfold yLeg at h
  simp only [Bool.and_eq_true, decide_eq_true_eq] at h
  exact h
theorem yGood_go {st bx : Nat} {rch wt : Nat → Nat} {ins pin : Nat → Bool} {t : Nat} {Y : YD} {m : Nat} (hrc : ∀ s, s < st → rch s ≤ 4) (h : yGood st bx ins Y) (hl : yLeg st rch wt ins pin t Y m = true) : yGood st bx ins (yGo Y m) := by
  obtain ⟨-, h2, h3, h4⟩ := yLeg_spec hl
  obtain ⟨c1, -, c3, c4⟩ := yCan_spec h4
  have := hrc _ h2
  obtain ⟨k1, k2⟩ := yOK_mv h.1 c3 h2 (by omega) c1
  refine ⟨k1, fun c a b => (k2 c).mpr (h.2.1 c a b), fun s c hc => ?_⟩
  obtain ⟨z, hz⟩ := (k2 c).mp ⟨s, hc⟩
  exact h.2.2 z c hz
theorem yGood_run {st bx : Nat} {rch wt : Nat → Nat} {ins pin : Nat → Bool} {t : Nat} (hrc : ∀ s, s < st → rch s ≤ 4) : ∀ (ms : List Nat) {Y Z : YD}, yGood st bx ins Y → yRun (yLeg st rch wt ins pin t) Y ms = some Z → yGood st bx ins Z
  | [], Y, Z, h, e => by cases e; exact h
  | m :: ms, Y, Z, h, e => by
    rw [yRun] at e
    by_cases hl : yLeg st rch wt ins pin t Y m = true
    · rw [if_pos hl] at e; exact yGood_run hrc ms (yGood_go hrc h hl) e
    · rw [if_neg hl] at e; cases e
/-- the first plan of n moves, or that there is none -/
def sFirst (L : YD → Nat → Bool) (t : Nat) (Y : YD) (n : Nat) (r : Option (List Nat)) : Prop :=
  match r with
  | some ms => ms.length = n ∧ yPlan L t Y ms ∧ ∀ ms', ms'.length = n → yPlan L t Y ms' → ms' = ms ∨ lexL ms ms'
  | none => ∀ ms', ms'.length = n → ¬ yPlan L t Y ms'
