/-! COMPONENT: trying all moves -/
set_option maxRecDepth 100000
theorem nd_eq : ∀ {l : List Nat} {i j b : Nat}, l.Nodup → l[i]? = some b → l[j]? = some b → i = j
  | [], i, j, b, _, h1, _ => by simp at h1
  | a :: l, i, j, b, h, h1, h2 => by
    obtain ⟨n1, n2⟩ := List.nodup_cons.mp h
    cases i with
    | zero =>
      cases j with
      | zero => rfl
      | succ j =>
        rw [List.getElem?_cons_zero] at h1
        rw [List.getElem?_cons_succ] at h2
        cases h1
        exact absurd (List.mem_of_getElem? h2) n1
    | succ i =>
      cases j with
      | zero =>
        rw [List.getElem?_cons_zero] at h2
        rw [List.getElem?_cons_succ] at h1
        cases h2
        exact absurd (List.mem_of_getElem? h1) n1
      | succ j =>
        rw [List.getElem?_cons_succ] at h1 h2
        rw [nd_eq n2 h1 h2]
theorem yTop_ab {st : Nat} {Y : YD} {t p : Nat} (h : yOK st Y) (hst : st ≤ 4) (hb : t ∈ Y p) : yTop t Y = decide (yAb Y t = 0) := by
  obtain ⟨h1, h2, h3⟩ := yAb_at h hst hb
  unfold yTop
  rw [yPl_eq h hst hb]
  refine decide_eq_decide.mpr ⟨fun e => ?_, fun e => ?_⟩
  · obtain ⟨n, hn⟩ := last_n e
    have := nd_eq (h.2.2.2.1 p) (last_at e hn) h1
    omega
  · rw [List.getLast?_eq_getElem?, show (Y p).length - 1 = (Y p).idxOf t by omega]; exact h1
/-- a plan of n moves -/
def dg (L : YD → Nat → Bool) (t n : Nat) (Y : YD) : Prop := ∃ ms : List Nat, ms.length = n ∧ yPlan L t Y ms
theorem dg_0 {L : YD → Nat → Bool} {t : Nat} {Y : YD} : dg L t 0 Y ↔ yTop t Y = true := by
  constructor
  · rintro ⟨ms, h1, Z, h2, h3⟩
    rw [List.length_eq_zero_iff] at h1
    subst h1; cases h2; exact h3
  · intro h; exact ⟨[], rfl, Y, rfl, h⟩
theorem dg_s {L : YD → Nat → Bool} {t n : Nat} {Y : YD} : dg L t (n + 1) Y ↔ ∃ q, L Y q = true ∧ dg L t n (yGo Y q) := by
  constructor
  · rintro ⟨ms, h1, Z, h2, h3⟩
    cases ms with
    | nil => cases h1
    | cons q ms =>
      rw [yRun] at h2
      by_cases hl : L Y q = true
      · rw [if_pos hl] at h2; exact ⟨q, hl, ms, by simpa using h1, Z, h2, h3⟩
      · rw [if_neg hl] at h2; cases h2
  · rintro ⟨q, hl, ms, h1, Z, h2, h3⟩
    exact ⟨q :: ms, by simp [h1], Z, by rw [yRun, if_pos hl]; exact h2, h3⟩
theorem idx_app : ∀ {l : List Nat} {t b : Nat}, t ∈ l → (l ++ [b]).idxOf t = l.idxOf t
  | [], t, b, h => absurd h (by simp)
  | a :: l, t, b, h => by
    rw [List.cons_append, List.idxOf_cons, List.idxOf_cons]
    by_cases e : a = t
    · rw [e]; simp
    · have e2 : (a == t) = false := by simpa using e
      rw [e2, idx_app ((List.mem_cons.mp h).resolve_left (Ne.symm e))]
/-- what a move does to the boxes above t -/
theorem ab_go {st bx : Nat} {rch wt : Nat → Nat} {ins pin : Nat → Bool} {Y : YD} {t q : Nat} (hst : st ≤ 4) (hrc : ∀ s, s < st → rch s ≤ 4) (hg : yGood st bx ins Y) (ht : t < bx) (hti : ins t = true) (hl : yLeg st rch wt ins pin t Y q = true) :
    yPl (yGo Y q) t = yPl Y t ∧ yAb (yGo Y q) t + (if yPl Y (q / 4) = yPl Y t then 1 else 0) = yAb Y t + (if q % 4 = yPl Y t then 1 else 0) := by
  obtain ⟨q1, q2, q3, q4⟩ := yLeg_spec hl
  obtain ⟨c1, c2, c3, c4⟩ := yCan_spec q4
  have hr4 := hrc _ q2
  obtain ⟨p0, hp0⟩ := hg.2.1 t ht hti
  have hpe := yPl_eq hg.1 hst hp0
  have hg2 := yGood_go hrc hg hl
  have hin : t ∈ yGo Y q p0 := by
    refine (yMv_in c3 c1 p0 t).mpr ?_
    by_cases e1 : p0 = q % 4
    · rw [e1]; rw [e1] at hp0; exact Or.inl ⟨rfl, Or.inl hp0⟩
    · by_cases e2 : p0 = yPl Y (q / 4)
      · refine Or.inr (Or.inl ⟨e2, ?_⟩)
        rw [e2, drop_in c1, List.mem_append, List.mem_singleton] at hp0
        rcases hp0 with z | z
        · exact z
        · exact absurd z.symm q1
      · exact Or.inr (Or.inr ⟨e1, e2, hp0⟩)
  have hp2 := yPl_eq hg2.1 hst hin
  obtain ⟨a1, a2, a3⟩ := yAb_at hg.1 hst hp0
  obtain ⟨b1, b2, b3⟩ := yAb_at hg2.1 hst hin
  refine ⟨by rw [hp2, hpe], ?_⟩
  rw [a3, b3, hpe]
  have hY : yGo Y q p0 = if p0 = q % 4 then Y p0 ++ [q / 4] else if p0 = yPl Y (q / 4) then (Y p0).dropLast else Y p0 := by
    unfold yGo yMv
    by_cases e1 : p0 = q % 4
    · rw [if_pos e1, e1, zvs, zvn (Ne.symm c3)]
    · rw [if_neg e1, zvn e1]
      by_cases e2 : p0 = yPl Y (q / 4)
      · rw [if_pos e2, e2, zvs]
      · rw [if_neg e2, zvn e2]
  rw [hY] at b2 ⊢
  by_cases e1 : p0 = q % 4
  · have e2 : ¬ yPl Y (q / 4) = p0 := fun z => c3 (by rw [z, e1])
    rw [if_pos e1, if_neg e2, if_pos e1.symm, idx_app hp0, List.length_append, List.length_singleton]
    omega
  · rw [if_neg e1] at b2 ⊢
    rw [if_neg (Ne.symm e1)]
    by_cases e2 : p0 = yPl Y (q / 4)
    · rw [if_pos e2] at b2 ⊢
      rw [if_pos e2.symm]
      have hd := drop_in c1
      rw [← e2] at hd
      have hm : t ∈ (Y p0).dropLast := by
        rw [hd, List.mem_append, List.mem_singleton] at hp0
        rcases hp0 with z | z
        · exact z
        · exact absurd z.symm q1
      have hi : (Y p0).idxOf t = (Y p0).dropLast.idxOf t := by
        have := idx_app (b := q / 4) hm
        rw [← hd] at this; exact this
      have hlen : (Y p0).length = (Y p0).dropLast.length + 1 := by
        have := congrArg List.length hd
        rw [List.length_append, List.length_singleton] at this; exact this
      rw [hi, hlen]; omega
    · rw [if_neg e2] at b2 ⊢
      rw [if_neg (Ne.symm e2)]
theorem dg_lb {st bx : Nat} {rch wt : Nat → Nat} {ins pin : Nat → Bool} {t : Nat} (hst : st ≤ 4) (hrc : ∀ s, s < st → rch s ≤ 4) (ht : t < bx) (hti : ins t = true) : ∀ (n : Nat) {Y : YD}, yGood st bx ins Y → dg (yLeg st rch wt ins pin t) t n Y → yAb Y t ≤ n
  | 0, Y, hg, h => by
    obtain ⟨p0, hp0⟩ := hg.2.1 t ht hti
    have := dg_0.mp h
    rw [yTop_ab hg.1 hst hp0] at this
    exact Nat.le_of_eq (of_decide_eq_true this)
  | n + 1, Y, hg, h => by
    obtain ⟨q, hl, hd⟩ := dg_s.mp h
    have h1 := dg_lb hst hrc ht hti n (yGood_go hrc hg hl) hd
    have h2 := (ab_go hst hrc hg ht hti hl).2
    have : (if yPl Y (q / 4) = yPl Y t then 1 else 0) ≤ 1 := by split <;> omega
    omega
/-- a move taken back -/
theorem yBack {Y : YD} {p s b : Nat} (hne : p ≠ s) (hl : (Y p).getLast? = some b) : va_up (va_up (yMv Y p s b) s (yMv Y p s b s).dropLast) p (va_up (yMv Y p s b) s (yMv Y p s b s).dropLast p ++ [b]) = Y := by
  have h1 : yMv Y p s b s = Y s ++ [b] := by unfold yMv; rw [zvs, zvn (Ne.symm hne)]
  have h2 : yMv Y p s b p = (Y p).dropLast := by unfold yMv; rw [zvn hne, zvs]
  funext z
  by_cases e : z = p
  · rw [e, zvs, zvn hne, h2]; exact (drop_in hl).symm
  · rw [zvn e]
    by_cases e2 : z = s
    · rw [e2, zvs, h1, List.dropLast_concat]
    · rw [zvn e2]; unfold yMv; rw [zvn e2, zvn e]
theorem cY.mv2 {D : ZD} {V V1 : ZV} {y yb yh rr : Nat} {fb : Nat → Option Nat} {fh fr : Nat → Int32} {ba : Nat → Nat} {bx st : Nat} {rch : Nat → Nat} {Y : YD} {y0 yb0 yh0 : Nat} {fb0 : Nat → Option Nat} {fh0 : Nat → Int32} (h : cY D V y yb yh rr fb fh fr ba bx st rch Y) (h0 : hYd D V y0 yb0 yh0 fb0 fh0) (hne : yb ≠ yb0 ∧ yh ≠ yh0 ∧ rr ≠ yh0) (hU : zUnc V V1 (fun z => z = yb0 ∨ z = yh0)) : cY D V1 y yb yh rr fb fh fr ba bx st rch Y := by
  refine ⟨⟨hU.get ?_ h.1.1, hU.get ?_ h.1.2.1, hU.get ?_ h.1.2.2⟩, h.2.1, h.2.2.1, hU.get ?_ h.2.2.2.1, h.2.2.2.2⟩
  · rintro (e | e)
    · exact zne_oa h.1.1 h0.2.1 e
    · exact zne_oa h.1.1 h0.2.2 e
  · rintro (e | e)
    · exact hne.1 e
    · exact zne_k h.1.2.1 h0.2.2 (by simp) e
  · rintro (e | e)
    · exact zne_k h.1.2.2 h0.2.1 (by simp) e
    · exact hne.2.1 e
  · rintro (e | e)
    · exact zne_k h.2.2.2.1 h0.2.1 (by simp) e
    · exact hne.2.2 e
