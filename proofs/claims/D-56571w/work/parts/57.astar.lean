/-! SEARCH: the most promising plan first -/
set_option maxRecDepth 100000
theorem lex_ext : ∀ {P A R : List Nat}, lexL P A → A.length ≤ P.length → lexL P (A ++ R)
  | [], [], _, h, _ => h.elim
  | [], _ :: _, _, _, hl => absurd hl (by simp)
  | p :: P, [], _, h, _ => h.elim
  | p :: P, a :: A, R, h, hl => by
    rcases h with h | ⟨rfl, h⟩
    · exact Or.inl h
    · exact Or.inr ⟨rfl, lex_ext h (by simpa using hl)⟩
theorem lex_pre : ∀ {A : List Nat} {q : Nat} {R : List Nat}, lexL A (A ++ q :: R)
  | [], _, _ => trivial
  | a :: A, q, R => Or.inr ⟨rfl, lex_pre⟩
theorem lex_nil (A : List Nat) : ¬ lexL A [] := by cases A <;> exact fun h => h
/-- the yard behind a plan -/
def zrP (L : YD → Nat → Bool) (Y0 : YD) (P : List Nat) : YD := (yRun L Y0 P).getD Y0
def alP (L : YD → Nat → Bool) (t : Nat) (Y0 : YD) (P : List Nat) : Nat := P.length + yAb (zrP L Y0 P) t
def keP (L : YD → Nat → Bool) (t : Nat) (Y0 : YD) (P : List Nat) : List Nat := alP L t Y0 P :: P
/-- the best plan's beginning is in the row; D: plans gone on from -/
def aInv (L : YD → Nat → Bool) (t : Nat) (Y0 : YD) (B : List Nat) (O D : List (List Nat)) : Prop :=
  ∃ A R, B = A ++ R ∧ A ∈ O ∧ ∀ P ∈ D, ¬ lexL (keP L t Y0 A) (keP L t Y0 P) ∧ P ≠ A
def aBest (L : YD → Nat → Bool) (t : Nat) (Y0 : YD) (B : List Nat) : Prop := yPlan L t Y0 B ∧ ∀ M, yPlan L t Y0 M → B.length < M.length ∨ (B.length = M.length ∧ (M = B ∨ lexL B M))
section AST
variable {L : YD → Nat → Bool} {t : Nat} {Y0 : YD}
/-- a move takes at most one box away from above t; a plan is done when none is above -/
def aOk (L : YD → Nat → Bool) (t : Nat) (Y0 : YD) : Prop := (∀ P q Z, yRun L Y0 P = some Z → L Z q = true → yAb Z t ≤ yAb (yGo Z q) t + 1) ∧ ∀ P Z, yRun L Y0 P = some Z → (yTop t Z = true ↔ yAb Z t = 0)
theorem zr_some {P : List Nat} {Z : YD} (h : yRun L Y0 P = some Z) : zrP L Y0 P = Z := by unfold zrP; rw [h]; rfl
theorem run_pre {A R : List Nat} {Z : YD} (h : yRun L Y0 (A ++ R) = some Z) : ∃ W, yRun L Y0 A = some W ∧ yRun L W R = some Z := by
  rw [yRun_app] at h
  cases e : yRun L Y0 A with
  | none => rw [e] at h; cases h
  | some W => rw [e] at h; exact ⟨W, rfl, h⟩
theorem al_snoc (hk : aOk L t Y0) {P : List Nat} {q : Nat} {Z : YD} (h : yRun L Y0 P = some Z) (hl : L Z q = true) : alP L t Y0 P ≤ alP L t Y0 (P ++ [q]) := by
  have h1 := hk.1 P q Z h hl
  unfold alP
  rw [zr_some h, zr_some (yRun_snoc h hl), List.length_append, List.length_singleton]; omega
theorem al_mono (hk : aOk L t Y0) : ∀ {R A : List Nat} {Z : YD}, yRun L Y0 (A ++ R) = some Z → alP L t Y0 A ≤ alP L t Y0 (A ++ R)
  | [], A, Z, h => by rw [List.append_nil]; exact Nat.le_refl _
  | q :: R, A, Z, h => by
    obtain ⟨W, h1, h2, h3⟩ := yRun_mid h
    have h4 := al_snoc hk h1 h2
    have h5 : A ++ q :: R = (A ++ [q]) ++ R := by simp
    rw [h5] at h ⊢
    exact Nat.le_trans h4 (al_mono hk h)
theorem ke_pre (hk : aOk L t Y0) {A : List Nat} {q : Nat} {Z : YD} (h : yRun L Y0 A = some Z) (hl : L Z q = true) : lexL (keP L t Y0 A) (keP L t Y0 (A ++ [q])) := by
  have h1 := al_snoc hk h hl
  rcases Nat.lt_or_ge (alP L t Y0 A) (alP L t Y0 (A ++ [q])) with c | c
  · exact Or.inl c
  · exact Or.inr ⟨Nat.le_antisymm h1 c, lex_pre⟩
theorem al_plan (hk : aOk L t Y0) {B : List Nat} (h : yPlan L t Y0 B) : alP L t Y0 B = B.length := by
  obtain ⟨Z, h1, h2⟩ := h
  unfold alP; rw [zr_some h1, (hk.2 B Z h1).mp h2]; rfl
/-- keys in order: the plan P isn't behind A -/
theorem ke_le {P A : List Nat} (h : ¬ lexL (keP L t Y0 A) (keP L t Y0 P)) : alP L t Y0 P ≤ alP L t Y0 A ∧ (alP L t Y0 P = alP L t Y0 A → P = A ∨ lexL P A) := by
  constructor
  · rcases Nat.lt_or_ge (alP L t Y0 A) (alP L t Y0 P) with c | c
    · exact absurd (Or.inl c) h
    · exact c
  · intro e
    rcases lexL_tri P A with q | q | q
    · exact Or.inr q
    · exact Or.inl q
    · exact absurd (Or.inr ⟨e.symm, q⟩) h
/-- a done plan that is polled is the best -/
theorem a_hit (hk : aOk L t Y0) {B : List Nat} (hB : aBest L t Y0 B) {O D : List (List Nat)} (hv : aInv L t Y0 B O D) {P : List Nat} (hm : ∀ A ∈ O, ¬ lexL (keP L t Y0 A) (keP L t Y0 P)) (hp : yPlan L t Y0 P) : P = B := by
  obtain ⟨A, R, rfl, hA, -⟩ := hv
  obtain ⟨ZB, hb1, hb2⟩ := hB.1
  have h1 := ke_le (hm A hA)
  have h2 := al_mono hk hb1
  rw [al_plan hk hB.1] at h2
  rw [al_plan hk hp] at h1
  rcases hB.2 P hp with c | ⟨c1, c2 | c2⟩
  · omega
  · exact c2
  · exfalso
    have h3 : P.length = alP L t Y0 A := by omega
    rcases h1.2 h3 with e | e
    · rw [e] at c1
      rw [List.length_append] at c1
      have hR : R = [] := List.length_eq_zero_iff.mp (by omega)
      rw [e, hR, List.append_nil] at c2
      exact lexL_irr _ c2
    · have h4 : A.length ≤ P.length := by rw [← c1, List.length_append]; omega
      exact lexL_as (lex_ext e h4) c2
/-- none is left: there is no plan -/
theorem a_nil {B : List Nat} {D : List (List Nat)} (hv : aInv L t Y0 B [] D) : False := by
  obtain ⟨A, R, -, hA, -⟩ := hv
  cases hA
/-- a plan dropped since its yard was reached before by no more moves -/
theorem a_drop (hk : aOk L t Y0) {B : List Nat} (hB : aBest L t Y0 B) {O O2 D : List (List Nat)} (hv : aInv L t Y0 B O D) {P P2 : List Nat} (hO : ∀ A, A ∈ O → A = P ∨ A ∈ O2) {Z : YD} (h1 : yRun L Y0 P = some Z) (h2 : yRun L Y0 P2 = some Z) (hD : P2 ∈ D) (hl : P2.length ≤ P.length) : aInv L t Y0 B O2 D := by
  obtain ⟨A, R, rfl, hA, hd⟩ := hv
  rcases hO A hA with e | e
  · exfalso
    subst e
    obtain ⟨ZB, hb1, hb2⟩ := hB.1
    obtain ⟨W, w1, w2⟩ := run_pre hb1
    rw [h1] at w1; cases w1
    have hp : yPlan L t Y0 (P2 ++ R) := ⟨ZB, by rw [yRun_app, h2]; exact w2, hb2⟩
    obtain ⟨d1, d2⟩ := hd P2 hD
    have hlen : P2.length = A.length := by
      rcases hB.2 _ hp with c | ⟨c, -⟩
      · rw [List.length_append, List.length_append] at c; omega
      · rw [List.length_append, List.length_append] at c; omega
    have hal : alP L t Y0 P2 = alP L t Y0 A := by unfold alP; rw [zr_some h1, zr_some h2, hlen]
    rcases (ke_le d1).2 hal with c | c
    · exact d2 c
    · have h3 := lex_ext (R := R) c (by omega)
      rcases hB.2 _ hp with c3 | ⟨-, c3 | c3⟩
      · rw [List.length_append, List.length_append] at c3; omega
      · exact d2 (List.append_cancel_right c3)
      · have h4 : lexL (P2 ++ R) (A ++ R) := by
          have : ∀ {X Y : List Nat}, X.length = Y.length → lexL X Y → lexL (X ++ R) (Y ++ R) := by
            intro X
            induction X with
            | nil => intro Y hXY h; cases Y with
              | nil => exact h.elim
              | cons => cases hXY
            | cons a X ih =>
              intro Y hXY h
              cases Y with
              | nil => cases hXY
              | cons b Y =>
                rcases h with h | ⟨rfl, h⟩
                · exact Or.inl h
                · exact Or.inr ⟨rfl, ih (by simpa using hXY) h⟩
          exact this hlen c
        exact lexL_as h4 c3
  · exact ⟨A, R, rfl, e, hd⟩
/-- a plan gone on from -/
theorem a_go (hk : aOk L t Y0) {B : List Nat} (hB : aBest L t Y0 B) {O O2 O3 D : List (List Nat)} (hv : aInv L t Y0 B O D) {P : List Nat} (hO : ∀ A, A ∈ O → A = P ∨ A ∈ O2) (hm : ∀ A ∈ O, ¬ lexL (keP L t Y0 A) (keP L t Y0 P)) {Z : YD} (h1 : yRun L Y0 P = some Z) (hn : ¬ yTop t Z = true)
    (h2 : ∀ A ∈ O2, A ∈ O3) (h3 : ∀ q, L Z q = true → alP L t Y0 (P ++ [q]) ≤ B.length → P ++ [q] ∈ O3) : aInv L t Y0 B O3 (P :: D) := by
  obtain ⟨A, R, rfl, hA, hd⟩ := hv
  obtain ⟨ZB, hb1, hb2⟩ := hB.1
  by_cases e : A = P
  · subst e
    cases R with
    | nil =>
      rw [List.append_nil, h1] at hb1
      cases hb1
      exact absurd hb2 hn
    | cons q R =>
      obtain ⟨W, w1, w2, w3⟩ := yRun_mid hb1
      rw [h1] at w1; cases w1
      have hkp := ke_pre hk h1 w2
      have hb3 : yRun L Y0 ((A ++ [q]) ++ R) = some ZB := by rw [List.append_assoc]; exact hb1
      refine ⟨A ++ [q], R, by simp, h3 q w2 ?_, fun P2 hP2 => ?_⟩
      · have h4 := al_mono hk hb3
        rw [show (A ++ [q]) ++ R = A ++ q :: R by simp, al_plan hk hB.1] at h4
        exact h4
      · rcases List.mem_cons.mp hP2 with e2 | e2
        · rw [e2]; exact ⟨lexL_as hkp, fun z => by have := congrArg List.length z; simp at this⟩
        · obtain ⟨d1, d2⟩ := hd P2 e2
          refine ⟨fun z => d1 (lexL_tr hkp z), fun z => ?_⟩
          rw [z] at d1; exact d1 hkp
  · have hA2 : A ∈ O2 := (hO A hA).resolve_left e
    refine ⟨A, R, rfl, h2 A hA2, fun P2 hP2 => ?_⟩
    rcases List.mem_cons.mp hP2 with e2 | e2
    · rw [e2]; exact ⟨hm A hA, Ne.symm e⟩
    · exact hd P2 e2
end AST
