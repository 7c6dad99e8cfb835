/-! SEARCH: the best plan is the model's -/
set_option maxRecDepth 100000
theorem aOk_of {st bx t : Nat} {rch wt : Nat → Nat} {ins pin : Nat → Bool} {Y0 : YD} (hst : st ≤ 4) (hrc : ∀ s, s < st → rch s ≤ 4) (hg : yGood st bx ins Y0) (ht : t < bx) (hti : ins t = true) : aOk (yLeg st rch wt ins pin t) t Y0 := by
  refine ⟨fun P q Z h hl => ?_, fun P Z h => ?_⟩
  · have hgZ := yGood_run hrc P hg h
    have h1 := (ab_go hst hrc hgZ ht hti hl).2
    have : (if yPl Z (q / 4) = yPl Z t then 1 else 0) ≤ 1 := by split <;> omega
    omega
  · have hgZ := yGood_run hrc P hg h
    obtain ⟨p0, hp0⟩ := hgZ.2.1 t ht hti
    rw [yTop_ab hgZ.1 hst hp0]
    exact decide_eq_true_iff
theorem best_of {L : YD → Nat → Bool} {t : Nat} {Y : YD} {B : List Nat} (h : sPlan L t Y (some B)) : aBest L t Y B ∧ B.length ≤ yAb Y t + 1 := by
  obtain ⟨h1, ⟨-, h2, h3⟩, h4⟩ := h
  refine ⟨⟨h2, fun M hM => ?_⟩, h1⟩
  rcases Nat.lt_trichotomy M.length B.length with c | c | c
  · exact absurd hM (h4 _ c M rfl)
  · exact Or.inr ⟨c.symm, h3 M c hM⟩
  · exact Or.inl c
/-- what the search holds to -/
def aAll (L : YD → Nat → Bool) (t : Nat) (Y0 : YD) (O D : List (List Nat)) : Prop := ∀ B, aBest L t Y0 B → B.length ≤ yAb Y0 t + 1 → aInv L t Y0 B O D
theorem aAll_0 {L : YD → Nat → Bool} {t : Nat} {Y0 : YD} : aAll L t Y0 [[]] [] := fun B _ _ => ⟨[], B, rfl, by simp, fun P hP => absurd hP (by simp)⟩
theorem plan_hit {S : QS} {t : Nat} (hk : aOk (qL S t) t (qY S)) {O D : List (List Nat)} (h : aAll (qL S t) t (qY S) O D) {P : List Nat} (hm : ∀ A ∈ O, ¬ lexL (keP (qL S t) t (qY S) A) (keP (qL S t) t (qY S) P)) (hp : yPlan (qL S t) t (qY S) P) (hl : P.length ≤ yAb (qY S) t + 1) : qPlan S t = some P := by
  have h0 := qPlan_ok S t
  cases e : qPlan S t with
  | none => rw [e] at h0; exact absurd hp (h0 _ hl P rfl)
  | some B =>
    rw [e] at h0
    obtain ⟨b1, b2⟩ := best_of h0
    rw [a_hit hk b1 (h B b1 b2) hm hp]
theorem plan_nil {S : QS} {t : Nat} {D : List (List Nat)} (h : aAll (qL S t) t (qY S) [] D) : qPlan S t = none := by
  have h0 := qPlan_ok S t
  cases e : qPlan S t with
  | none => rfl
  | some B =>
    rw [e] at h0
    obtain ⟨b1, b2⟩ := best_of h0
    exact (a_nil (h B b1 b2)).elim
theorem all_drop {L : YD → Nat → Bool} {t : Nat} {Y0 : YD} (hk : aOk L t Y0) {O O2 D : List (List Nat)} (h : aAll L t Y0 O D) {P P2 : List Nat} (hO : ∀ A, A ∈ O → A = P ∨ A ∈ O2) {Z : YD} (h1 : yRun L Y0 P = some Z) (h2 : yRun L Y0 P2 = some Z) (hD : P2 ∈ D) (hl : P2.length ≤ P.length) : aAll L t Y0 O2 D := fun B b1 b2 => a_drop hk b1 (h B b1 b2) hO h1 h2 hD hl
theorem all_go {L : YD → Nat → Bool} {t : Nat} {Y0 : YD} (hk : aOk L t Y0) {O O2 O3 D : List (List Nat)} (h : aAll L t Y0 O D) {P : List Nat} (hO : ∀ A, A ∈ O → A = P ∨ A ∈ O2) (hm : ∀ A ∈ O, ¬ lexL (keP L t Y0 A) (keP L t Y0 P)) {Z : YD} (h1 : yRun L Y0 P = some Z) (hn : ¬ yTop t Z = true) (h2 : ∀ A ∈ O2, A ∈ O3) (h3 : ∀ q, L Z q = true → alP L t Y0 (P ++ [q]) ≤ yAb Y0 t + 1 → P ++ [q] ∈ O3) : aAll L t Y0 O3 (P :: D) :=
  fun B b1 b2 => a_go hk b1 (h B b1 b2) hO hm h1 hn h2 (fun q hq hl => h3 q hq (Nat.le_trans hl b2))
/-- all that is still to come, of the plans A -/
def potA (L : YD → Nat → Bool) (t : Nat) (Y0 : YD) (lim : Nat) (pm : Nat → List Nat) (A : List Nat) : Nat := (A.map (fun a => pot L t Y0 lim (pm a))).sum
theorem potA_perm {L : YD → Nat → Bool} {t : Nat} {Y0 : YD} {lim : Nat} {pm : Nat → List Nat} {A B : List Nat} (h : A.Perm B) : potA L t Y0 lim pm A = potA L t Y0 lim pm B := (h.map _).sum_nat
theorem potA_cg {L : YD → Nat → Bool} {t : Nat} {Y0 : YD} {lim : Nat} {pm pm2 : Nat → List Nat} {A : List Nat} (h : ∀ a ∈ A, pm2 a = pm a) : potA L t Y0 lim pm2 A = potA L t Y0 lim pm A := by
  unfold potA
  congr 1
  exact List.map_congr_left (fun a ha => by rw [h a ha])
theorem potA_len {L : YD → Nat → Bool} {t : Nat} {Y0 : YD} {lim : Nat} {pm : Nat → List Nat} : ∀ A : List Nat, A.length ≤ potA L t Y0 lim pm A
  | [] => Nat.le_refl _
  | a :: A => by
    have h1 := potA_len (L := L) (t := t) (Y0 := Y0) (lim := lim) (pm := pm) A
    have h2 : 1 ≤ pot L t Y0 lim (pm a) := pot_pos
    have h3 : potA L t Y0 lim pm (a :: A) = pot L t Y0 lim (pm a) + potA L t Y0 lim pm A := rfl
    rw [h3, List.length_cons]; omega
theorem potA_app {L : YD → Nat → Bool} {t : Nat} {Y0 : YD} {lim : Nat} {pm : Nat → List Nat} {A B : List Nat} : potA L t Y0 lim pm (A ++ B) = potA L t Y0 lim pm A + potA L t Y0 lim pm B := by
  unfold potA; rw [List.map_append, List.sum_append]
theorem potA_new {L : YD → Nat → Bool} {t : Nat} {Y0 : YD} {lim : Nat} {pm : Nat → List Nat} {N : List Nat} {P : List Nat} {C : List Nat} (h : N.map pm = (C.map (fun m => P ++ [m])).reverse) : potA L t Y0 lim pm N = (C.map (fun m => pot L t Y0 lim (P ++ [m]))).sum := by
  unfold potA
  have e1 : N.map (fun a => pot L t Y0 lim (pm a)) = (N.map pm).map (pot L t Y0 lim) := by rw [List.map_map]; rfl
  rw [e1, h, List.map_reverse, List.map_map]
  exact (List.reverse_perm _).sum_nat
theorem pot_0 {r : Nat} (h : r ≤ 3) : nP r 1 ≤ 730 := by
  rcases (show r = 0 ∨ r = 1 ∨ r = 2 ∨ r = 3 by omega) with rfl | rfl | rfl | rfl <;> decide
