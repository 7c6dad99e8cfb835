/-! SEARCH: how many plans there can be -/
set_option maxRecDepth 100000
def nP0 : Nat → Nat
  | 0 => 1
  | r + 1 => 1 + 3 * nP0 r
def nP1 : Nat → Nat
  | 0 => 1
  | r + 1 => 1 + 3 * nP1 r + 6 * nP0 (r + 1)
/-- plans that go on from one with r boxes above and w moves to waste -/
def nP (r w : Nat) : Nat := if w = 0 then nP0 r else nP1 r
theorem sum_inj {f G φ : Nat → Nat} : ∀ (n : Nat) (l : List Nat), l.Nodup → (∀ a ∈ l, ∀ b ∈ l, φ a = φ b → a = b) → (∀ a ∈ l, φ a < n ∧ f a ≤ G (φ a)) → (l.map f).sum ≤ ((List.range n).map G).sum
  | 0, l, _, _, h => by
    cases l with
    | nil => exact Nat.le_refl _
    | cons a l => exact absurd (h a (by simp)).1 (Nat.not_lt_zero _)
  | n + 1, l, hd, hi, h => by
    rw [List.range_succ, List.map_append, List.sum_append]
    by_cases e : ∃ m ∈ l, φ m = n
    · obtain ⟨m, hm, hmn⟩ := e
      have hp := (List.perm_cons_erase hm).map f
      rw [hp.sum_nat, List.map_cons, List.sum_cons]
      have hsub : ∀ a ∈ l.erase m, a ∈ l ∧ a ≠ m := fun a ha => by
        have := (hd.mem_erase_iff).mp ha
        exact ⟨this.2, this.1⟩
      have ih := sum_inj (f := f) (G := G) n (l.erase m) (hd.erase m) (fun a ha b hb => hi a (hsub a ha).1 b (hsub b hb).1) (fun a ha => by
        obtain ⟨h1, h2⟩ := h a (hsub a ha).1
        refine ⟨?_, h2⟩
        rcases Nat.lt_or_ge (φ a) n with c | c
        · exact c
        · exact absurd (hi a (hsub a ha).1 m hm (by omega)) (hsub a ha).2)
      have h3 := (h m hm).2
      rw [hmn] at h3
      simp only [List.map_cons, List.map_nil, List.sum_cons, List.sum_nil]
      omega
    · have ih := sum_inj (f := f) (G := G) n l hd hi (fun a ha => by
        obtain ⟨h1, h2⟩ := h a ha
        refine ⟨?_, h2⟩
        rcases Nat.lt_or_ge (φ a) n with c | c
        · exact c
        · exact absurd ⟨a, ha, by omega⟩ e)
      omega
def gT (h x y j : Nat) : Nat := if j / 4 = j % 4 then 0 else if j / 4 = h then x else if j % 4 = h then 0 else y
theorem gT_sum {h x y : Nat} (hh : h < 4) : ((List.range 16).map (gT h x y)).sum = 3 * x + 6 * y := by
  have e : List.range 16 = [0, 1, 2, 3, 4, 5, 6, 7, 8, 9, 10, 11, 12, 13, 14, 15] := rfl
  rw [e]
  rcases (show h = 0 ∨ h = 1 ∨ h = 2 ∨ h = 3 by omega) with rfl | rfl | rfl | rfl <;> simp [gT] <;> omega
section POT
variable {st bx t lim : Nat} {rch wt : Nat → Nat} {ins pin : Nat → Bool} {Y0 : YD}
def pot (L : YD → Nat → Bool) (t : Nat) (Y0 : YD) (lim : Nat) (P : List Nat) : Nat := nP (yAb (zrP L Y0 P) t) (lim - alP L t Y0 P)
theorem pot_pos {L : YD → Nat → Bool} {P : List Nat} : 1 ≤ pot L t Y0 lim P := by
  have h0 : ∀ r, 1 ≤ nP0 r := fun r => by cases r <;> unfold nP0 <;> omega
  have h1 : ∀ r, 1 ≤ nP1 r := fun r => by cases r <;> unfold nP1 <;> omega
  unfold pot nP
  split
  · exact h0 _
  · exact h1 _
theorem pot_sum (hst : st ≤ 4) (hrc : ∀ s, s < st → rch s ≤ 4) (hg0 : yGood st bx ins Y0) (ht : t < bx) (hti : ins t = true) {P : List Nat} {Z : YD} (hZ : yRun (yLeg st rch wt ins pin t) Y0 P = some Z) (hr : 0 < yAb Z t) (h1 : alP (yLeg st rch wt ins pin t) t Y0 P ≤ lim) (h2 : lim ≤ alP (yLeg st rch wt ins pin t) t Y0 P + 1) :
    ((chl (yLeg st rch wt ins pin t) t Y0 lim P (4 * bx)).map (fun m => pot (yLeg st rch wt ins pin t) t Y0 lim (P ++ [m]))).sum + 1 ≤ pot (yLeg st rch wt ins pin t) t Y0 lim P := by
  have hg : yGood st bx ins Z := yGood_run hrc P hg0 hZ
  obtain ⟨p0, hp0⟩ := hg.2.1 t ht hti
  have hpe := yPl_eq hg.1 hst hp0
  have hp4 : yPl Z t < 4 := by rw [hpe]; have := hg.1.lt hp0; omega
  obtain ⟨r, hr1⟩ : ∃ r, yAb Z t = r + 1 := ⟨yAb Z t - 1, by omega⟩
  have hz := zr_some hZ
  have key := sum_inj (f := fun m => pot (yLeg st rch wt ins pin t) t Y0 lim (P ++ [m])) (G := gT (yPl Z t) (nP r (lim - alP (yLeg st rch wt ins pin t) t Y0 P)) (if lim = alP (yLeg st rch wt ins pin t) t Y0 P then 0 else nP0 (r + 1))) (φ := fun m => 4 * yPl Z (m / 4) + m % 4) 16 (chl (yLeg st rch wt ins pin t) t Y0 lim P (4 * bx))
    (List.nodup_range.filter _) (fun a ha b hb e => ?_) (fun a ha => ?_)
  · rw [gT_sum hp4] at key
    have e1 : pot (yLeg st rch wt ins pin t) t Y0 lim P = nP (r + 1) (lim - alP (yLeg st rch wt ins pin t) t Y0 P) := by unfold pot; rw [hz, hr1]
    rw [e1]
    by_cases c : lim = alP (yLeg st rch wt ins pin t) t Y0 P
    · rw [if_pos c] at key
      have c2 : lim - alP (yLeg st rch wt ins pin t) t Y0 P = 0 := by omega
      rw [c2] at key ⊢
      unfold nP at key ⊢
      rw [if_pos rfl] at key ⊢
      rw [nP0]; omega
    · rw [if_neg c] at key
      have c2 : lim - alP (yLeg st rch wt ins pin t) t Y0 P = 1 := by omega
      rw [c2] at key ⊢
      unfold nP at key ⊢
      rw [if_neg (by decide)] at key ⊢
      rw [nP1]; omega
  · obtain ⟨-, a1, -⟩ := chl_mem.mp ha
    obtain ⟨-, b1, -⟩ := chl_mem.mp hb
    rw [hz] at a1 b1
    obtain ⟨-, a2, -, a4⟩ := yLeg_spec a1
    obtain ⟨-, b2, -, b4⟩ := yLeg_spec b1
    have a5 := (yCan_spec a4).1
    have b5 := (yCan_spec b4).1
    have e : 4 * yPl Z (a / 4) + a % 4 = 4 * yPl Z (b / 4) + b % 4 := e
    have e2 : yPl Z (a / 4) = yPl Z (b / 4) := by omega
    rw [e2, b5] at a5
    have e3 := Option.some.inj a5
    omega
  · obtain ⟨-, a1, a0⟩ := chl_mem.mp ha
    rw [hz] at a1
    obtain ⟨-, a2, a3, a4⟩ := yLeg_spec a1
    obtain ⟨c1, c2, c3, c4⟩ := yCan_spec a4
    have hs4 : a % 4 < 4 := by omega
    have hpb : yPl Z (a / 4) < 4 := by
      have hm := last_mem c1
      have := hg.1.lt hm
      omega
    have hab := (ab_go hst hrc hg ht hti a1).2
    have hrn := yRun_snoc hZ a1
    have hal : alP (yLeg st rch wt ins pin t) t Y0 (P ++ [a]) = P.length + 1 + yAb (yGo Z a) t := by unfold alP; rw [zr_some hrn]; simp
    have hal0 : alP (yLeg st rch wt ins pin t) t Y0 P = P.length + yAb Z t := by unfold alP; rw [hz]
    refine ⟨by show 4 * yPl Z (a / 4) + a % 4 < 16; omega, ?_⟩
    show pot _ t Y0 lim (P ++ [a]) ≤ gT (yPl Z t) _ _ (4 * yPl Z (a / 4) + a % 4)
    have d1 : (4 * yPl Z (a / 4) + a % 4) / 4 = yPl Z (a / 4) := by omega
    have d2 : (4 * yPl Z (a / 4) + a % 4) % 4 = a % 4 := by omega
    unfold gT pot
    rw [d1, d2, if_neg c3, zr_some hrn]
    by_cases e1 : yPl Z (a / 4) = yPl Z t
    · rw [if_pos e1, if_neg (fun q => c3 (by rw [e1, q]))] at hab
      rw [if_pos e1, show yAb (yGo Z a) t = r by omega, show lim - alP (yLeg st rch wt ins pin t) t Y0 (P ++ [a]) = lim - alP (yLeg st rch wt ins pin t) t Y0 P by omega]
      exact Nat.le_refl _
    · rw [if_neg e1] at hab ⊢
      by_cases e2 : a % 4 = yPl Z t
      · rw [if_pos e2] at hab; omega
      · rw [if_neg e2] at hab ⊢
        rw [if_neg (show ¬ lim = alP (yLeg st rch wt ins pin t) t Y0 P by omega), show yAb (yGo Z a) t = r + 1 by omega, show lim - alP (yLeg st rch wt ins pin t) t Y0 (P ++ [a]) = 0 by omega]
        exact Nat.le_refl _
end POT
