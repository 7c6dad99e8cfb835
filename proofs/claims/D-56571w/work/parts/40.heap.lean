/-! HEAP: a priority queue's array as a list -/
set_option maxRecDepth 100000
theorem sw_perm {A : List Nat} {i j a b : Nat} (hi : A[i]? = some a) (hj : A[j]? = some b) : ((A.set i b).set j a).Perm A := by
  obtain ⟨h1, h2⟩ := List.getElem?_eq_some_iff.mp hi
  obtain ⟨h3, h4⟩ := List.getElem?_eq_some_iff.mp hj
  have h := List.set_set_perm (as := A) h1 h3
  rw [h2, h4] at h
  exact h
theorem sw_at {A : List Nat} {i j a b : Nat} (hi : i < A.length) (hj : j < A.length) (m : Nat) : ((A.set i b).set j a)[m]? = if m = j then some a else if m = i then some b else A[m]? := by
  rw [List.getElem?_set, List.length_set, List.getElem?_set]
  by_cases h : m = j
  · rw [if_pos h.symm, if_pos h, if_pos hj]
  · rw [if_neg (Ne.symm h), if_neg h]
    by_cases h2 : m = i
    · rw [if_pos h2.symm, if_pos h2, if_pos hi]
    · rw [if_neg (Ne.symm h2), if_neg h2]
theorem nlx_tr {a b c : List Nat} (h1 : ¬ lexL b a) (h2 : ¬ lexL c b) : ¬ lexL c a := fun h => by
  rcases lexL_tri a b with q | q | q
  · exact h2 (lexL_tr h q)
  · rw [q] at h; exact h2 h
  · exact h1 q
def hpA (K : Nat → List Nat) (A : List Nat) : Prop := ∀ i p c : Nat, 0 < i → A[(i - 1) / 2]? = some p → A[i]? = some c → ¬ lexL (K c) (K p)
def hpU (K : Nat → List Nat) (A : List Nat) (k : Nat) : Prop := (∀ i p c : Nat, 0 < i → i ≠ k → A[(i - 1) / 2]? = some p → A[i]? = some c → ¬ lexL (K c) (K p)) ∧ ∀ i q c : Nat, 0 < k → 0 < i → (i - 1) / 2 = k → A[(k - 1) / 2]? = some q → A[i]? = some c → ¬ lexL (K c) (K q)
def hpD (K : Nat → List Nat) (A : List Nat) (k : Nat) : Prop := (∀ i p c : Nat, 0 < i → (i - 1) / 2 ≠ k → A[(i - 1) / 2]? = some p → A[i]? = some c → ¬ lexL (K c) (K p)) ∧ ∀ i q c : Nat, 0 < k → 0 < i → (i - 1) / 2 = k → A[(k - 1) / 2]? = some q → A[i]? = some c → ¬ lexL (K c) (K q)
theorem len_of {A : List Nat} {i a : Nat} (h : A[i]? = some a) : i < A.length := (List.getElem?_eq_some_iff.mp h).1
theorem hpU_step {K : Nat → List Nat} {A : List Nat} {k x e : Nat} (h : hpU K A k) (hk : 0 < k) (hx : A[k]? = some x) (he : A[(k - 1) / 2]? = some e) (hl : lexL (K x) (K e)) : hpU K ((A.set k e).set ((k - 1) / 2) x) ((k - 1) / 2) := by
  have l1 := len_of hx
  have l2 := len_of he
  refine ⟨fun i p c hi hne hp hc => ?_, fun i q c h0 hi hpar hq hc => ?_⟩
  · rw [sw_at l1 l2] at hp hc
    rw [if_neg hne] at hc
    by_cases c1 : i = k
    · rw [if_pos c1] at hc; cases hc
      rw [c1, if_pos rfl] at hp; cases hp
      exact lexL_as hl
    · rw [if_neg c1] at hc
      by_cases c2 : (i - 1) / 2 = (k - 1) / 2
      · rw [if_pos c2] at hp; cases hp
        rw [← c2] at he
        exact fun z => h.1 i e c hi c1 he hc (lexL_tr z hl)
      · rw [if_neg c2] at hp
        by_cases c3 : (i - 1) / 2 = k
        · rw [if_pos c3] at hp; cases hp
          exact h.2 i e c hk hi c3 he hc
        · rw [if_neg c3] at hp
          exact h.1 i p c hi c1 hp hc
  · rw [sw_at l1 l2] at hq hc
    rw [if_neg (by omega), if_neg (by omega)] at hq
    rw [if_neg (by omega)] at hc
    have hqe := h.1 ((k - 1) / 2) q e h0 (by omega) hq he
    by_cases c1 : i = k
    · rw [if_pos c1] at hc; cases hc; exact hqe
    · rw [if_neg c1] at hc
      rw [← hpar] at he
      exact nlx_tr hqe (h.1 i e c hi c1 he hc)
theorem hpU_end {K : Nat → List Nat} {A : List Nat} {k : Nat} (h : hpU K A k) (he : k = 0 ∨ ∃ x e, A[k]? = some x ∧ A[(k - 1) / 2]? = some e ∧ ¬ lexL (K x) (K e)) : hpA K A := fun i p c hi hp hc => by
  by_cases c1 : i = k
  · rcases he with q | ⟨x, e, q1, q2, q3⟩
    · omega
    · rw [c1] at hp hc
      rw [q1] at hc; rw [q2] at hp; cases hc; cases hp; exact q3
  · exact h.1 i p c hi c1 hp hc
theorem hpU_new {K : Nat → List Nat} {A : List Nat} {x : Nat} (h : hpA K A) : hpU K (A ++ [x]) A.length := by
  refine ⟨fun i p c hi hne hp hc => ?_, fun i q c h0 hi hpar hq hc => ?_⟩
  · have l1 := len_of hc
    rw [List.length_append, List.length_singleton] at l1
    rw [List.getElem?_append_left (by omega)] at hp hc
    exact h i p c hi hp hc
  · have l1 := len_of hc
    rw [List.length_append, List.length_singleton] at l1
    omega
theorem hpD_step {K : Nat → List Nat} {A : List Nat} {k j x c0 : Nat} (h : hpD K A k) (hx : A[k]? = some x) (hc0 : A[j]? = some c0) (hj : 0 < j ∧ (j - 1) / 2 = k) (hl : lexL (K c0) (K x)) (hmin : ∀ i d : Nat, 0 < i → (i - 1) / 2 = k → A[i]? = some d → ¬ lexL (K d) (K c0)) : hpD K ((A.set k c0).set j x) j := by
  have l1 := len_of hx
  have l2 := len_of hc0
  refine ⟨fun i p c hi hne hp hc => ?_, fun i q c h0 hi hpar hq hc => ?_⟩
  · rw [sw_at l1 l2] at hp hc
    rw [if_neg hne] at hp
    by_cases c1 : i = j
    · rw [if_pos c1] at hc; cases hc
      rw [c1, hj.2, if_pos rfl] at hp; cases hp
      exact lexL_as hl
    · rw [if_neg c1] at hc
      by_cases c2 : i = k
      · rw [if_pos c2] at hc; cases hc
        rw [c2, if_neg (by omega)] at hp
        exact h.2 j p c0 (by omega) hj.1 hj.2 hp hc0
      · rw [if_neg c2] at hc
        by_cases c3 : (i - 1) / 2 = k
        · rw [if_pos c3] at hp; cases hp
          exact hmin i c hi c3 hc
        · rw [if_neg c3] at hp
          exact h.1 i p c hi c3 hp hc
  · rw [sw_at l1 l2] at hq hc
    rw [if_neg (by omega), if_pos hj.2] at hq; cases hq
    rw [if_neg (by omega), if_neg (by omega)] at hc
    exact h.1 i c0 c hi (by omega) (by rw [hpar]; exact hc0) hc
theorem hpD_end {K : Nat → List Nat} {A : List Nat} {k x : Nat} (h : hpD K A k) (hx : A[k]? = some x) (hmin : ∀ i d : Nat, 0 < i → (i - 1) / 2 = k → A[i]? = some d → ¬ lexL (K d) (K x)) : hpA K A := fun i p c hi hp hc => by
  by_cases c1 : (i - 1) / 2 = k
  · rw [c1, hx] at hp; cases hp; exact hmin i c hi c1 hc
  · exact h.1 i p c hi c1 hp hc
theorem hpA_min {K : Nat → List Nat} {A : List Nat} {m : Nat} (h : hpA K A) (hm : A[0]? = some m) : ∀ i c : Nat, A[i]? = some c → ¬ lexL (K c) (K m) := fun i => by
  induction i using Nat.strongRecOn with
  | ind i ih =>
    intro c hc
    by_cases c1 : i = 0
    · rw [c1, hm] at hc; cases hc; exact lexL_irr _
    · have l1 := len_of hc
      have l2 : (i - 1) / 2 < A.length := by omega
      have hp := List.getElem?_eq_getElem l2
      exact nlx_tr (ih _ (by omega) _ hp) (h i _ c (by omega) hp hc)
/-- the last one put first -/
theorem poll_perm {A : List Nat} {m x n : Nat} (hm : A[0]? = some m) (hx : A[n]? = some x) (hn : A.length = n + 1) (h1 : 0 < n) : A.Perm (m :: (A.take n).set 0 x) := by
  cases A with
  | nil => cases hm
  | cons a T =>
    cases hm
    obtain ⟨k, rfl⟩ : ∃ k, n = k + 1 := ⟨n - 1, by omega⟩
    rw [List.length_cons] at hn
    rw [List.getElem?_cons_succ] at hx
    have hT : T = T.take k ++ [x] := by
      have h2 := List.getElem?_eq_some_iff.mp hx
      obtain ⟨h3, h4⟩ := h2
      have h5 : T.drop k = [x] := by
        rw [List.drop_eq_getElem_cons h3, h4, List.drop_eq_nil_of_le (by omega)]
      rw [← h5, List.take_append_drop]
    cases T with
    | nil => cases hx
    | cons b T2 =>
      have e1 : (m :: b :: T2).take (k + 1) = m :: (b :: T2).take k := rfl
      rw [e1, List.set_cons_zero]
      refine List.Perm.cons m ?_
      have h6 : ((b :: T2).take k ++ [x]).Perm (x :: (b :: T2).take k) := List.perm_append_singleton x _
      rw [← hT] at h6
      exact h6
theorem poll_hp {K : Nat → List Nat} {A : List Nat} {x n : Nat} (h : hpA K A) : hpD K ((A.take n).set 0 x) 0 := by
  refine ⟨fun i p c hi hne hp hc => ?_, fun i q c h0 => absurd h0 (Nat.lt_irrefl 0)⟩
  rw [List.getElem?_set_ne (Ne.symm hne), List.getElem?_take] at hp
  rw [List.getElem?_set_ne (by omega), List.getElem?_take] at hc
  by_cases c1 : i < n
  · rw [if_pos c1] at hc; rw [if_pos (by omega)] at hp; exact h i p c hi hp hc
  · rw [if_neg c1] at hc; cases hc
