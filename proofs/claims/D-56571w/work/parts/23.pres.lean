/-! STATE: what each call keeps -/
set_option maxRecDepth 100000
theorem fC_mono {p q : Nat → Bool} (h : ∀ j, p j = true → q j = true) : ∀ n, fC p n ≤ fC q n
  | 0 => Nat.le_refl _
  | n + 1 => by
    have ih := fC_mono h n
    rw [fC_succ, fC_succ]
    by_cases e : p n = true
    · rw [if_pos e, if_pos (h n e)]; omega
    · rw [if_neg e]; omega
theorem fC_up (p : Nat → Bool) (v : Bool) : ∀ {n k : Nat}, n ≤ k → fC (va_up p k v) n = fC p n := fun {n k} h => fC_cong (fun j hj => zvn (by omega))
theorem yLen_go {st : Nat} {rch wt : Nat → Nat} {ins pin : Nat → Bool} {t : Nat} {Y : YD} {m : Nat} (h : ∀ s, s < st → (Y s).length ≤ rch s) (hl : yLeg st rch wt ins pin t Y m = true) (s : Nat) (hs : s < st) : (yGo Y m s).length ≤ rch s := by
  obtain ⟨-, h2, h3, h4⟩ := yLeg_spec hl
  obtain ⟨c1, -, c3, c4⟩ := yCan_spec h4
  unfold yGo yMv
  by_cases e : s = m % 4
  · subst e; rw [zvs, zvn (Ne.symm c3), List.length_append]; simp; omega
  · rw [zvn e]
    by_cases e2 : s = yPl Y (m / 4)
    · subst e2; rw [zvs, List.length_dropLast]; have := h _ hs; omega
    · rw [zvn e2]; exact h s hs
theorem yLen_run {st : Nat} {rch wt : Nat → Nat} {ins pin : Nat → Bool} {t : Nat} : ∀ (ms : List Nat) {Y Z : YD}, (∀ s, s < st → (Y s).length ≤ rch s) → yRun (yLeg st rch wt ins pin t) Y ms = some Z → ∀ s, s < st → (Z s).length ≤ rch s
  | [], Y, Z, h, e => by cases e; exact h
  | m :: ms, Y, Z, h, e => by
    rw [yRun] at e
    by_cases hl : yLeg st rch wt ins pin t Y m = true
    · rw [if_pos hl] at e; exact yLen_run ms (yLen_go h hl) e
    · rw [if_neg hl] at e; cases e
theorem yGood_out {st bx b : Nat} {ins : Nat → Bool} {Z : YD} (hst : st ≤ 4) (h : yGood st bx ins Z) (ht : (Z (yPl Z b)).getLast? = some b) : yGood st bx (va_up ins b false) (va_up Z (yPl Z b) (Z (yPl Z b)).dropLast) := by
  generalize hp : yPl Z b = p at *
  have hY := drop_in ht
  have hbp : b ∈ Z p := List.mem_of_getLast? ht
  have hin : ∀ z c, c ∈ va_up Z p (Z p).dropLast z → c ∈ Z z ∧ c ≠ b := fun z c hc => by
    by_cases e : z = p
    · subst e
      rw [zvs] at hc
      have hnd := h.1.2.2.2.1 z
      rw [hY] at hnd
      exact ⟨List.dropLast_subset _ hc, fun e => (List.nodup_append.mp hnd).2.2 c hc b (by simp) e⟩
    · rw [zvn e] at hc
      exact ⟨hc, fun e2 => e (h.1.2.2.2.2 z p b (by rw [← e2]; exact hc) hbp)⟩
  refine ⟨⟨fun z => ?_, fun z hz => ?_, fun z c hc => h.1.2.2.1 z c (hin z c hc).1, fun z => ?_, fun z w c hc hd => h.1.2.2.2.2 z w c (hin z c hc).1 (hin w c hd).1⟩, fun c hc hi => ?_, fun z c hc => ?_⟩
  · by_cases e : z = p
    · subst e; rw [zvs, List.length_dropLast]; have := h.1.1 z; omega
    · rw [zvn e]; exact h.1.1 z
  · by_cases e : z = p
    · subst e; rw [zvs, h.1.2.1 z hz]; rfl
    · rw [zvn e]; exact h.1.2.1 z hz
  · by_cases e : z = p
    · subst e; rw [zvs]; exact (h.1.2.2.2.1 z).sublist (List.dropLast_sublist _)
    · rw [zvn e]; exact h.1.2.2.2.1 z
  · have hcb : c ≠ b := fun e => by rw [e, zvs] at hi; cases hi
    rw [zvn hcb] at hi
    obtain ⟨z, hz⟩ := h.2.1 c hc hi
    refine ⟨z, ?_⟩
    by_cases e : z = p
    · subst e; rw [zvs]
      rw [hY] at hz
      rcases List.mem_append.mp hz with q | q
      · exact q
      · exact absurd (List.mem_singleton.mp q) hcb
    · rw [zvn e]; exact hz
  · obtain ⟨k1, k2⟩ := hin z c hc
    rw [zvn k2]; exact h.2.2 z c k1
theorem qI_yd {k : Nat} {S : QS} {Y : YD} (h : qI k S) (hg : yGood (qst S) (qbx S) (qins S) Y) (hl : ∀ s, s < qst S → (Y s).length ≤ qrch S s) : qI k (sYd S Y) := ⟨h.1, ⟨hg, hl, h.2.1.2.2⟩, h.2.2⟩
theorem qI_mv {k : Nat} {S : QS} {v : Int32} (h : qI k S) : qI k (sMv S v) := h
theorem qI_lf {k : Nat} {S : QS} {v : Int64} (h : qI k S) : qI k (sLf S v) := h
theorem qI_make {k t : Nat} {S : QS} {ms : List Nat} {Y : YD} (h : qI k S) (hr : yRun (qL S t) (qY S) ms = some Y) : qI k (qMake S t ms) ∧ qY (qMake S t ms) = Y := by
  have e : (yRun (qL S t) (qY S) ms).getD (qY S) = Y := by rw [hr]; rfl
  unfold qMake
  rw [e]
  exact ⟨qI_mv (qI_yd h (yGood_run (fun s hs => (h.1.2.2.1 s hs).2) ms h.2.1.1 hr) (yLen_run ms h.2.1.2.1 hr)), rfl⟩
theorem qI_out {k b : Nat} {S : QS} (h : qI k S) (ht : (qY S (yPl (qY S) b)).getLast? = some b) (hnb : ∀ a, a < qap S → qsa S a = nI 98 → qab S a ≠ b) : qI k (qOut S b) := by
  have hg := yGood_out h.1.1 h.2.1.1 ht
  refine ⟨h.1, ⟨hg, fun s hs => ?_, ?_⟩, h.2.2.1, ⟨h.2.2.2.1.1, h.2.2.2.1.2.1, fun a ha e => ⟨?_, (h.2.2.2.1.2.2.1 a ha e).2⟩, h.2.2.2.1.2.2.2⟩, h.2.2.2.2⟩
  · show (va_up (qY S) (yPl (qY S) b) (qY S (yPl (qY S) b)).dropLast s).length ≤ qrch S s
    have h9 : (qY S s).length ≤ qrch S s := h.2.1.2.1 s hs
    by_cases e : s = yPl (qY S) b
    · rw [e, zvs, List.length_dropLast, ← e]; omega
    · rw [zvn e]; exact h9
  · have h9 := h.2.1.2.2
    have h8 : fC (va_up (qins S) b false) (qbx S) ≤ fC (qins S) (qbx S) := fC_mono (fun j hj => by
      by_cases e : j = b
      · subst e; rw [zvs] at hj; cases hj
      · rw [zvn e] at hj; exact hj) _
    show fC (va_up (qins S) b false) (qbx S) ≤ 8
    omega
  · show va_up (qins S) b false (qab S a) = true
    rw [zvn (hnb a ha e)]; exact (h.2.2.2.1.2.2.1 a ha e).1
theorem qI_k {k j : Nat} {S : QS} (h : qI k S) (hj : ∀ a, a < qap S → qsa S a = nI 98 → qnw S = qhr S a → j ≤ qln S a) : qI j S :=
  ⟨h.1, h.2.1, h.2.2.1, ⟨h.2.2.2.1.1, h.2.2.2.1.2.1, fun a ha e => ⟨(h.2.2.2.1.2.2.1 a ha e).1, by
    rcases (h.2.2.2.1.2.2.1 a ha e).2 with q | q
    · exact Or.inl q
    · exact Or.inr ⟨q.1, hj a ha e q.1⟩⟩, h.2.2.2.1.2.2.2⟩, h.2.2.2.2⟩
theorem qI_sa2 {k a : Nat} {S : QS} {v : Int32} (h : qI k S) (hv : v = nI 99 ∨ v = nI 103 ∨ v = nI 100 ∨ v = nI 109) : qI k (sSa S a v) := qI_sa h hv
theorem qsa_ne {S : QS} {a c : Nat} {v : Int32} (hv : v = nI 99 ∨ v = nI 103 ∨ v = nI 100 ∨ v = nI 109) (h : qsa (sSa S a v) c = nI 98) : c ≠ a ∧ qsa S c = nI 98 := by
  have h : va_up (qsa S) a v c = nI 98 := h
  by_cases q : c = a
  · subst q; rw [zvs] at h; rcases hv with z | z | z | z <;> rw [z] at h <;> exact absurd h (by decide)
  · rw [zvn q] at h; exact ⟨q, h⟩
/-- a plan that is found: its moves run, its box is on top -/
theorem qPlan_run {S : QS} {t : Nat} {ms : List Nat} (h : sPlan (qL S t) t (qY S) (some ms)) : ∃ Z, yRun (qL S t) (qY S) ms = some Z ∧ (Z (yPl Z t)).getLast? = some t := by
  obtain ⟨Z, h1, h2⟩ := h.2.1.2.1
  exact ⟨Z, h1, by unfold yTop at h2; simpa using h2⟩
theorem least_nat {p : Nat → Prop} (h : ∃ n, p n) : ∃ n, p n ∧ ∀ k, k < n → ¬ p k := by
  obtain ⟨n, hn⟩ := h
  induction n using Nat.strongRecOn with
  | ind n ih =>
    rcases Classical.em (∃ k, k < n ∧ p k) with ⟨k, hk, hp⟩ | hno
    · exact ih k hk hp
    · exact ⟨n, hn, fun k hk hp => hno ⟨k, hk, hp⟩⟩
theorem least_list : ∀ (n : Nat) (p : List Nat → Prop), (∃ ms, ms.length = n ∧ p ms) → ∃ ms, ms.length = n ∧ p ms ∧ ∀ ms', ms'.length = n → p ms' → ms' = ms ∨ lexL ms ms'
  | 0, p, ⟨ms, h1, h2⟩ => ⟨ms, h1, h2, fun ms' h3 _ => Or.inl (by rw [List.length_eq_zero_iff.mp h1, List.length_eq_zero_iff.mp h3])⟩
  | n + 1, p, ⟨ms, h1, h2⟩ => by
    obtain ⟨m, ⟨r, hr1, hr2⟩, hm⟩ := least_nat (p := fun m => ∃ r, r.length = n ∧ p (m :: r)) (by
      cases ms with
      | nil => simp at h1
      | cons m r => exact ⟨m, r, by simpa using h1, h2⟩)
    obtain ⟨r0, k1, k2, k3⟩ := least_list n (fun r => p (m :: r)) ⟨r, hr1, hr2⟩
    refine ⟨m :: r0, by simp [k1], k2, fun ms' h3 h4 => ?_⟩
    cases ms' with
    | nil => simp at h3
    | cons m' r' =>
      have h5 : r'.length = n := by simpa using h3
      rcases Nat.lt_trichotomy m m' with q | rfl | q
      · exact Or.inr (Or.inl q)
      · rcases k3 r' h5 h4 with e | e
        · exact Or.inl (by rw [e])
        · exact Or.inr (Or.inr ⟨rfl, e⟩)
      · exact absurd ⟨r', h5, h4⟩ (hm m' q)
theorem sPlan_ex (L : YD → Nat → Bool) (t : Nat) (Y : YD) : ∃ o, sPlan L t Y o := by
  rcases Classical.em (∃ n, n ≤ yAb Y t + 1 ∧ ∃ ms, ms.length = n ∧ yPlan L t Y ms) with h | h
  · obtain ⟨n, ⟨h1, h2⟩, h3⟩ := least_nat h
    obtain ⟨ms, k1, k2, k3⟩ := least_list n _ h2
    refine ⟨some ms, by omega, ⟨rfl, k2, fun ms' e => k3 ms' (by omega)⟩, fun j hj ms' e1 e2 => h3 j (by omega) ⟨by omega, ms', e1, e2⟩⟩
  · exact ⟨none, fun n hn ms e1 e2 => h ⟨n, hn, ms, e1, e2⟩⟩
theorem qPlan_ok (S : QS) (t : Nat) : sPlan (qL S t) t (qY S) (qPlan S t) := by
  obtain ⟨o, h⟩ := sPlan_ex (qL S t) t (qY S)
  rw [qPlan_eq h]; exact h
theorem qI_serve {k a : Nat} {S : QS} (h : qI k S) (ha : a < qap S) (hb : qsa S a = nI 98) : qI k (qServe S a).2 ∧ qnw (qServe S a).2 = qnw S ∧ qap (qServe S a).2 = qap S ∧ qhr (qServe S a).2 = qhr S ∧ qln (qServe S a).2 = qln S ∧ (∀ c, qsa (qServe S a).2 c = nI 98 → c ≠ a ∧ qsa S c = nI 98) := by
  unfold qServe
  generalize ho : (if qhld S (qab S a) = nI 45 then qPlan S (qab S a) else none) = o
  cases o with
  | none => exact ⟨qI_sa2 h (Or.inr (Or.inr (Or.inr rfl))), rfl, rfl, rfl, rfl, fun c hc => qsa_ne (Or.inr (Or.inr (Or.inr rfl))) hc⟩
  | some ms =>
    have hp : qPlan S (qab S a) = some ms := by
      by_cases e : qhld S (qab S a) = nI 45
      · rw [if_pos e] at ho; exact ho
      · rw [if_neg e] at ho; cases ho
    have hS := qPlan_ok S (qab S a)
    rw [hp] at hS
    obtain ⟨Z, h1, h2⟩ := qPlan_run hS
    have hS1 : qI k (sSa S a (nI 100)) := qI_sa2 h (Or.inr (Or.inr (Or.inl rfl)))
    obtain ⟨k1, k2⟩ := qI_make (t := qab S a) hS1 h1
    refine ⟨qI_out k1 (by rw [k2]; exact h2) (fun c hc e => ?_), rfl, rfl, rfl, rfl, fun c hc => qsa_ne (Or.inr (Or.inr (Or.inl rfl))) hc⟩
    obtain ⟨q1, q2⟩ := qsa_ne (S := S) (Or.inr (Or.inr (Or.inl rfl))) e
    intro e2
    exact q1 (h.2.2.2.1.2.2.2 c a hc ha q2 hb (Or.inl e2))
theorem qBin_some {S : QS} {l t a : Nat} (h : qBin S l t = some a) : a < qap S ∧ qln S a = l ∧ qhr S a = t ∧ qsa S a = nI 98 := by
  obtain ⟨h1, h2, -⟩ := fF_some h
  simp only [Bool.and_eq_true, decide_eq_true_eq] at h2
  exact ⟨h1, h2.1, h2.2.1, h2.2.2⟩
theorem qBin_none {S : QS} {l t : Nat} (h : qBin S l t = none) (a : Nat) (ha : a < qap S) (h1 : qln S a = l) (h2 : qhr S a = t) : qsa S a ≠ nI 98 := by
  have h3 := fF_none h a ha
  intro e
  rw [h1, h2, e] at h3
  simp at h3
theorem qAin_some {S : QS} {b a : Nat} (h : qAin S b = some a) : a < qap S ∧ qab S a = b ∧ qsa S a = nI 98 := by
  obtain ⟨h1, h2, -⟩ := fF_some h
  simp only [Bool.and_eq_true, decide_eq_true_eq] at h2
  exact ⟨h1, h2.1, h2.2⟩
theorem qAin_none {S : QS} {b : Nat} (h : qAin S b = none) (a : Nat) (ha : a < qap S) (h1 : qab S a = b) : qsa S a ≠ nI 98 := by
  have h3 := fF_none h a ha
  intro e
  rw [h1, e] at h3
  simp at h3
theorem qI_lane {l n : Nat} {S : QS} (h : qI l S) : qI (l + 1) (qLane n S l).2 ∧ qnw (qLane n S l).2 = qnw S := by
  unfold qLane
  cases ho : qBin S l (qnw S) with
  | none =>
    refine ⟨qI_k h (fun a ha e hn => ?_), rfl⟩
    have ha : a < qap S := ha
    have e : qsa S a = nI 98 := e
    have hn : qnw S = qhr S a := hn
    show l + 1 ≤ qln S a
    have h1 := (h.2.2.2.1.2.2.1 a ha e).2
    have h2 : qln S a ≠ l := fun q => qBin_none ho a ha q hn.symm e
    omega
  | some a =>
    obtain ⟨b1, b2, b3, b4⟩ := qBin_some ho
    obtain ⟨k1, k2, k3, k4, k5, k6⟩ := qI_serve h b1 b4
    refine ⟨qI_k k1 (fun c hc e hn => ?_), k2⟩
    obtain ⟨e1, e2⟩ := k6 c e
    show l + 1 ≤ qln (qServe S a).2 c
    have hn : qnw (qServe S a).2 = qhr (qServe S a).2 c := hn
    have hc : c < qap (qServe S a).2 := hc
    rw [k5]
    rw [k2, k4] at hn
    rw [k3] at hc
    have h1 := (h.2.2.2.1.2.2.1 c hc e2).2
    have h2 : qln S c ≠ l := fun q => e1 (h.2.2.2.1.2.2.2 c a hc b1 e2 b4 (Or.inr ⟨by rw [← hn, b3], by rw [q, b2]⟩))
    omega
theorem qI_tick {S : QS} (h : qI 3 S) (hn : qnw S < 999) : qI 0 (qTick S) := by
  refine ⟨h.1, h.2.1, ⟨h.2.2.1.1, h.2.2.1.2.1, fun b hb => ?_⟩, ⟨h.2.2.2.1.1, h.2.2.2.1.2.1, fun a ha e => ⟨(h.2.2.2.1.2.2.1 a ha e).1, ?_⟩, h.2.2.2.1.2.2.2⟩, ?_⟩
  · have e : qhld (qTick S) b = if b < qbx S ∧ qunt S b = qnw S + 1 then nI 45 else qhld S b := rfl
    rw [e]
    by_cases q : b < qbx S ∧ qunt S b = qnw S + 1
    · rw [if_pos q]; exact Or.inl rfl
    · rw [if_neg q]; exact h.2.2.1.2.2 b hb
  · show qnw S + 1 < qhr S a ∨ (qnw S + 1 = qhr S a ∧ 0 ≤ qln S a)
    have h1 := (h.2.2.2.1.2.2.1 a ha e).2
    have h2 := (h.2.2.2.1.2.1 a ha).2.2.1
    omega
  · show qnw S + 1 ≤ 999
    omega
theorem qI_hour {n : Nat} {S : QS} (h : qI 3 S) (hn : qnw S < 999) : qI 3 (qHour n S).2 ∧ qnw (qHour n S).2 = qnw S + 1 := by
  have h0 := qI_tick h hn
  obtain ⟨h1, e1⟩ := qI_lane (n := n) h0
  obtain ⟨h2, e2⟩ := qI_lane (n := (qLane n (qTick S) 0).1) h1
  obtain ⟨h3, e3⟩ := qI_lane (n := (qLane (qLane n (qTick S) 0).1 (qLane n (qTick S) 0).2 1).1) h2
  exact ⟨h3, by
    show qnw (qLane _ _ 2).2 = _
    rw [e3, e2, e1]; rfl⟩
theorem qI_hours {S : QS} (h : qI 3 S) : ∀ (k n : Nat), qnw S + k ≤ 999 → qI 3 (qHours k n S).2 ∧ qnw (qHours k n S).2 = qnw S + k
  | 0, n, _ => ⟨h, rfl⟩
  | k + 1, n, hk => by
    obtain ⟨h1, e1⟩ := qI_hours h k n (by omega)
    obtain ⟨h2, e2⟩ := qI_hour (n := (qHours k n S).1) h1 (by omega)
    exact ⟨h2, by show qnw (qHour _ _).2 = _; rw [e2, e1]; omega⟩
theorem qI_pass {S : QS} {k : Nat} (h : qI 3 S) : qI 3 (oPass S k).2.2 := by
  unfold oPass
  by_cases e : ¬(1 ≤ k ∧ k ≤ 24) ∨ 999 < qnw S + k
  · rw [if_pos e]; exact h
  · rw [if_neg e]; exact (qI_hours h k 0 (by omega)).1
theorem qI_addStack {S : QS} {r : Nat} (h : qI 3 S) : qI 3 (oAddStack S r).2.2 := by
  unfold oAddStack
  by_cases e : ¬(1 ≤ r ∧ r ≤ 4)
  · rw [if_pos e]; exact h
  · rw [if_neg e]
    by_cases e2 : qst S = 4
    · rw [if_pos e2]; exact h
    · rw [if_neg e2]
      have h4 := h.1.1
      have hr : ∀ s, s < qst S + 1 → 1 ≤ va_up (qrch S) (qst S) r s ∧ va_up (qrch S) (qst S) r s ≤ 4 := fun s hs => by
        by_cases q : s = qst S
        · rw [q, zvs]; omega
        · rw [zvn q]; exact h.1.2.2.1 s (by omega)
      refine ⟨⟨by show qst S + 1 ≤ 4; omega, h.1.2.1, hr, h.1.2.2.2⟩, ⟨⟨⟨h.2.1.1.1.1, fun s hs => h.2.1.1.1.2.1 s (by have hs : qst S + 1 ≤ s := hs; omega), h.2.1.1.1.2.2⟩, h.2.1.1.2⟩, fun s hs => ?_, h.2.1.2.2⟩, h.2.2⟩
      show (qY S s).length ≤ va_up (qrch S) (qst S) r s
      have hs : s < qst S + 1 := hs
      by_cases q : s = qst S
      · rw [q, zvs, h.2.1.1.1.2.1 _ (Nat.le_refl _)]; simp
      · rw [zvn q]; exact h.2.1.2.1 s (by omega)
theorem yTk_len {wt : Nat → Nat} {Y : YD} {s r w : Nat} (h : ¬ yTk wt Y s r w = false) : (Y s).length < r := by
  unfold yTk at h
  simp only [Bool.and_eq_false_iff, decide_eq_false_iff_not, not_or] at h
  omega
theorem qI_addBox {S : QS} {w s : Nat} (h : qI 3 S) : qI 3 (oAddBox S w s).2.2 := by
  unfold oAddBox
  by_cases e1 : ¬ s < qst S
  · rw [if_pos e1]; exact h
  rw [if_neg e1]
  by_cases e2 : ¬(1 ≤ w ∧ w ≤ 30)
  · rw [if_pos e2]; exact h
  rw [if_neg e2]
  by_cases e3 : yTk (qwt S) (qY S) s (qrch S s) w = false
  · rw [if_pos e3]; exact h
  rw [if_neg e3]
  by_cases e4 : fC (qins S) (qbx S) = 8 ∨ qbx S = 20
  · rw [if_pos e4]; exact h
  rw [if_neg e4]
  have hl := yTk_len e3
  have hg := h.2.1.1
  have h8 := h.2.1.2.2
  have hb20 := h.1.2.1
  have hr := (h.1.2.2.1 s (by omega)).2
  have hnew : ∀ z c, c ∈ va_up (qY S) s (qY S s ++ [qbx S]) z ↔ c ∈ qY S z ∨ (z = s ∧ c = qbx S) := fun z c => by
    by_cases q : z = s
    · subst q; rw [zvs]; simp
    · rw [zvn q]; simp [q]
  have hold : ∀ z c, c ∈ qY S z → c ≠ qbx S := fun z c hc e => by have := (hg.2.2 z c hc).1; omega
  refine ⟨⟨h.1.1, by show qbx S + 1 ≤ 20; omega, h.1.2.2.1, fun b hb => ?_⟩, ⟨⟨⟨fun z => ?_, fun z hz => ?_, fun z c hc => ?_, fun z => ?_, fun z v c hc hd => ?_⟩, fun c hc hi => ?_, fun z c hc => ?_⟩, fun z hz => ?_, ?_⟩, ⟨fun b hb => h.2.2.1.1 b (by have hb : qbx S + 1 ≤ b := hb; omega), h.2.2.1.2.1, fun b hb => ?_⟩, ⟨h.2.2.2.1.1, fun a ha => ?_, fun a ha e => ⟨?_, (h.2.2.2.1.2.2.1 a ha e).2⟩, h.2.2.2.1.2.2.2⟩, h.2.2.2.2⟩
  · show 1 ≤ va_up (qwt S) (qbx S) w b ∧ va_up (qwt S) (qbx S) w b ≤ 30
    have hb : b < qbx S + 1 := hb
    by_cases q : b = qbx S
    · rw [q, zvs]; omega
    · rw [zvn q]; exact h.1.2.2.2 b (by omega)
  · show (va_up (qY S) s (qY S s ++ [qbx S]) z).length ≤ 4
    by_cases q : z = s
    · subst q; rw [zvs, List.length_append]; simp; omega
    · rw [zvn q]; exact hg.1.1 z
  · show va_up (qY S) s (qY S s ++ [qbx S]) z = []
    have hz : qst S ≤ z := hz
    rw [zvn (by omega)]; exact hg.1.2.1 z hz
  · rcases (hnew z c).mp hc with q | ⟨-, q⟩
    · exact hg.1.2.2.1 z c q
    · omega
  · show (va_up (qY S) s (qY S s ++ [qbx S]) z).Nodup
    by_cases q : z = s
    · subst q; rw [zvs]
      refine List.nodup_append.mpr ⟨hg.1.2.2.2.1 z, by simp, fun a ha d hd => ?_⟩
      rw [List.mem_singleton] at hd; rw [hd]; exact hold z a ha
    · rw [zvn q]; exact hg.1.2.2.2.1 z
  · rcases (hnew z c).mp hc with q | ⟨q1, q2⟩ <;> rcases (hnew v c).mp hd with p | ⟨p1, p2⟩
    · exact hg.1.2.2.2.2 z v c q p
    · exact absurd p2 (hold z c q)
    · exact absurd q2 (hold v c p)
    · rw [q1, p1]
  · have hc : c < qbx S + 1 := hc
    by_cases q : c = qbx S
    · exact ⟨s, (hnew s c).mpr (Or.inr ⟨rfl, q⟩)⟩
    · have hi : va_up (qins S) (qbx S) true c = true := hi
      rw [zvn q] at hi
      obtain ⟨z, hz⟩ := hg.2.1 c (by omega) hi
      exact ⟨z, (hnew z c).mpr (Or.inl hz)⟩
  · show c < qbx S + 1 ∧ va_up (qins S) (qbx S) true c = true
    rcases (hnew z c).mp hc with q | ⟨q1, q2⟩
    · obtain ⟨k1, k2⟩ := hg.2.2 z c q
      exact ⟨by omega, by rw [zvn (by omega)]; exact k2⟩
    · exact ⟨by omega, by rw [q2, zvs]⟩
  · show (va_up (qY S) s (qY S s ++ [qbx S]) z).length ≤ qrch S z
    by_cases q : z = s
    · subst q; rw [zvs, List.length_append]; simp; omega
    · rw [zvn q]; exact h.2.1.2.1 z hz
  · show fC (va_up (qins S) (qbx S) true) (qbx S + 1) ≤ 8
    rw [fC_t (zvs _ _ _), fC_up _ _ (Nat.le_refl _)]
    omega
  · show va_up (qhld S) (qbx S) (nI 45) b = nI 45 ∨ va_up (qhld S) (qbx S) (nI 45) b = nI 112 ∨ va_up (qhld S) (qbx S) (nI 45) b = nI 108
    have hb : b < qbx S + 1 := hb
    by_cases q : b = qbx S
    · rw [q, zvs]; exact Or.inl rfl
    · rw [zvn q]; exact h.2.2.1.2.2 b (by omega)
  · obtain ⟨k1, k2⟩ := h.2.2.2.1.2.1 a ha
    exact ⟨by show qab S a < qbx S + 1; omega, k2⟩
  · show va_up (qins S) (qbx S) true (qab S a) = true
    have k1 := (h.2.2.2.1.2.1 a ha).1
    rw [zvn (by omega)]; exact (h.2.2.2.1.2.2.1 a ha e).1
theorem qI_bh {S : QS} {b u : Nat} {v : Int32} (h : qI 3 S) (hb : b < qbx S) (hv : v = nI 112 ∨ v = nI 108) (hu : u ≤ 1000) : qI 3 (sBox S (qbx S) (qwt S) (qins S) (va_up (qhld S) b v) (va_up (qunt S) b u)) := qI_hld h hb hv hu
theorem qI_hold {S : QS} {b u : Nat} {v : Int32} (h : qI 3 S) : qI 3 (oHold S b v u).2.2 := by
  unfold oHold
  by_cases e1 : qIs S b = false
  · rw [if_pos e1]; exact h
  rw [if_neg e1]
  by_cases e2 : (v ≠ nI 112 ∧ v ≠ nI 108) ∨ ¬(qnw S + 1 ≤ u ∧ u ≤ 1000)
  · rw [if_pos e2]; exact h
  rw [if_neg e2]
  have hq := (qIs_t (by simpa using e1)).1
  have hv : v = nI 112 ∨ v = nI 108 := by
    by_cases q1 : v = nI 112
    · exact Or.inl q1
    · by_cases q2 : v = nI 108
      · exact Or.inr q2
      · exact absurd (Or.inl ⟨q1, q2⟩) e2
  have hu : u ≤ 1000 := by
    rcases Nat.lt_or_ge 1000 u with q | q
    · exact absurd (Or.inr (by omega)) e2
    · exact q
  have h1 := qI_bh h hq hv hu
  cases qAin S b with
  | none => exact h1
  | some a =>
    show qI 3 (if u ≤ qhr S a then _ else _ : OR).2.2
    by_cases e3 : u ≤ qhr S a
    · rw [if_pos e3]; exact h1
    · rw [if_neg e3]; exact qI_sa2 h1 (Or.inr (Or.inl rfl))
theorem qI_release {S : QS} {b : Nat} (h : qI 3 S) : qI 3 (oRelease S b).2.2 := by
  unfold oRelease
  by_cases e1 : qIs S b = false
  · rw [if_pos e1]; exact h
  rw [if_neg e1]
  by_cases e2 : qhld S b = nI 45
  · rw [if_pos e2]; exact h
  rw [if_neg e2]
  refine ⟨h.1, h.2.1, ⟨h.2.2.1.1, h.2.2.1.2.1, fun c hc => ?_⟩, h.2.2.2⟩
  show va_up (qhld S) b (nI 45) c = nI 45 ∨ va_up (qhld S) b (nI 45) c = nI 112 ∨ va_up (qhld S) b (nI 45) c = nI 108
  by_cases q : c = b
  · rw [q, zvs]; exact Or.inl rfl
  · rw [zvn q]; exact h.2.2.1.2.2 c hc
theorem qI_move {S : QS} {b s : Nat} (h : qI 3 S) : qI 3 (oMove S b s).2.2 := by
  unfold oMove
  by_cases e1 : ¬(qIs S b = true ∧ s < qst S)
  · rw [if_pos e1]; exact h
  rw [if_neg e1]
  by_cases e2 : yCan (qrch S) (qwt S) (pin' (qhld S)) (qY S) (yPl (qY S) b) b s = false
  · rw [if_pos e2]; exact h
  rw [if_neg e2]
  have e1 : qIs S b = true ∧ s < qst S := Classical.not_not.mp e1
  have e2 : yCan (qrch S) (qwt S) (pin' (qhld S)) (qY S) (yPl (qY S) b) b s = true := by simpa using e2
  have hs4 := h.1.1
  have hm : (4 * b + s) / 4 = b := by omega
  have hm2 : (4 * b + s) % 4 = s := by omega
  have hL : yLeg (qst S) (qrch S) (qwt S) (qins S) (pin' (qhld S)) (b + 1) (qY S) (4 * b + s) = true := by
    unfold yLeg
    rw [hm, hm2, e2, (qIs_t e1.1).2, decide_eq_true e1.2, decide_eq_true (show b ≠ b + 1 by omega)]; rfl
  have hgo : yGo (qY S) (4 * b + s) = yMv (qY S) (yPl (qY S) b) s b := by unfold yGo; rw [hm, hm2]
  have hg := yGood_go (fun s hs => (h.1.2.2.1 s hs).2) h.2.1.1 hL
  have hl := fun s hs => yLen_go h.2.1.2.1 hL s hs
  rw [hgo] at hg hl
  exact qI_mv (qI_yd h hg hl)
theorem qI_dig {S : QS} {b : Nat} (h : qI 3 S) : qI 3 (oDig S b).2.2 := by
  unfold oDig
  by_cases e1 : qIs S b = false
  · rw [if_pos e1]; exact h
  rw [if_neg e1]
  have hS := qPlan_ok S b
  cases hp : qPlan S b with
  | none => exact h
  | some ms =>
    rw [hp] at hS
    obtain ⟨Z, h1, h2⟩ := qPlan_run hS
    exact (qI_make h h1).1
theorem qI_cancel {S : QS} {a : Nat} (h : qI 3 S) : qI 3 (oCancel S a).2.2 := by
  unfold oCancel
  by_cases e1 : ¬ a < qap S
  · rw [if_pos e1]; exact h
  rw [if_neg e1]
  by_cases e2 : ¬ qsa S a = nI 98
  · rw [if_pos e2]; exact h
  rw [if_neg e2]
  exact qI_sa2 h (Or.inl rfl)
theorem qI_book {S : QS} {b t l : Nat} (h : qI 3 S) : qI 3 (oBook S b t l).2.2 := by
  unfold oBook
  by_cases e1 : ¬(qIs S b = true ∧ l ≤ 2)
  · rw [if_pos e1]; exact h
  rw [if_neg e1]
  by_cases e2 : ¬(qnw S + 1 ≤ t ∧ t ≤ 999)
  · rw [if_pos e2]; exact h
  rw [if_neg e2]
  by_cases e3 : qHeld S b t = true
  · rw [if_pos e3]; exact h
  rw [if_neg e3]
  by_cases e4 : qAin S b ≠ none ∨ qBin S l t ≠ none ∨ qap S = 30
  · rw [if_pos e4]; exact h
  rw [if_neg e4]
  have e1 := Classical.not_not.mp e1
  obtain ⟨q1, q2⟩ := qIs_t e1.1
  have hA : qAin S b = none := Classical.not_not.mp (fun q => e4 (Or.inl q))
  have hB : qBin S l t = none := Classical.not_not.mp (fun q => e4 (Or.inr (Or.inl q)))
  have h30 : qap S ≠ 30 := fun q => e4 (Or.inr (Or.inr q))
  have hap := h.2.2.2.1.1
  have hcase : ∀ a, a < qap S + 1 → va_up (qsa S) (qap S) (nI 98) a = nI 98 → a = qap S ∨ (a < qap S ∧ a ≠ qap S ∧ qsa S a = nI 98) := fun a ha e => by
    by_cases q : a = qap S
    · exact Or.inl q
    · rw [zvn q] at e; exact Or.inr ⟨by omega, q, e⟩
  refine ⟨h.1, h.2.1, h.2.2.1, ⟨by show qap S + 1 ≤ 30; omega, fun a ha => ?_, fun a ha e => ?_, fun a c ha hc ea ec hh => ?_⟩, h.2.2.2.2⟩
  · show va_up (qab S) (qap S) b a < qbx S ∧ va_up (qhr S) (qap S) t a ≤ 999 ∧ va_up (qln S) (qap S) l a < 3 ∧ (va_up (qsa S) (qap S) (nI 98) a = nI 98 ∨ va_up (qsa S) (qap S) (nI 98) a = nI 99 ∨ va_up (qsa S) (qap S) (nI 98) a = nI 103 ∨ va_up (qsa S) (qap S) (nI 98) a = nI 100 ∨ va_up (qsa S) (qap S) (nI 98) a = nI 109)
    have ha : a < qap S + 1 := ha
    by_cases q : a = qap S
    · rw [q]; simp only [zvs]; exact ⟨q1, by omega, by omega, Or.inl trivial⟩
    · simp only [zvn q]; exact h.2.2.2.1.2.1 a (by omega)
  · show qins S (va_up (qab S) (qap S) b a) = true ∧ (qnw S < va_up (qhr S) (qap S) t a ∨ (qnw S = va_up (qhr S) (qap S) t a ∧ 3 ≤ va_up (qln S) (qap S) l a))
    rcases hcase a ha e with q | ⟨k1, q, k2⟩
    · rw [q]; simp only [zvs]; exact ⟨q2, Or.inl (by omega)⟩
    · simp only [zvn q]; exact h.2.2.2.1.2.2.1 a k1 k2
  · have hh : va_up (qab S) (qap S) b a = va_up (qab S) (qap S) b c ∨ (va_up (qhr S) (qap S) t a = va_up (qhr S) (qap S) t c ∧ va_up (qln S) (qap S) l a = va_up (qln S) (qap S) l c) := hh
    rcases hcase a ha ea with q | ⟨k1, q, k2⟩ <;> rcases hcase c hc ec with p | ⟨j1, p, j2⟩
    · rw [q, p]
    · exfalso
      rw [q] at hh; simp only [zvs, zvn p] at hh
      rcases hh with z | ⟨z1, z2⟩
      · exact qAin_none hA c j1 z.symm j2
      · exact qBin_none hB c j1 z2.symm z1.symm j2
    · exfalso
      rw [p] at hh; simp only [zvs, zvn q] at hh
      rcases hh with z | ⟨z1, z2⟩
      · exact qAin_none hA a k1 z k2
      · exact qBin_none hB a k1 z2 z1 k2
    · simp only [zvn q, zvn p] at hh
      exact h.2.2.2.1.2.2.2 a c k1 j1 k2 j2 hh
