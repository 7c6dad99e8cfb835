/-! COMPONENT: boxes that come, appointments booked -/
set_option maxRecDepth 100000
theorem hBx.ext {V : ZV} {ba : Nat → Nat} {bx : Nat} {wt : Nat → Nat} {hc : Nat → Int32} {uc : Nat → Nat} (h : hBx V ba bx wt hc uc) {q w : Nat} (hq : V q = some (.inr (3, [.int (nI bx), .int (nI w), .int (nI 45), .int (nI 0)]))) : hBx V (va_up ba bx q) (bx + 1) (va_up wt bx w) (va_up hc bx (nI 45)) (va_up uc bx 0) := fun c hcc => by
  by_cases e : c = bx
  · rw [e, zvs, hq]; unfold oBox; rw [zvs, zvs, zvs]
  · rw [zvn e, h c (by omega)]; unfold oBox; rw [zvn e, zvn e, zvn e]
theorem yRel.ext {ba : Nat → Nat} {Y : YD} {fb : Nat → Option Nat} {fh : Nat → Int32} {bx q : Nat} (h : yRel ba Y fb fh) (hm : ∀ s, ∀ c ∈ Y s, c < bx) : yRel (va_up ba bx q) Y fb fh := ⟨h.1, fun s k b hs hk => by
  have := hm s b (List.mem_of_getElem? hk)
  rw [zvn (by omega)]; exact h.2 s k b hs hk⟩
theorem yTk_ext {wt : Nat → Nat} {Y : YD} {bx w s r w2 : Nat} (hm : ∀ s, ∀ c ∈ Y s, c < bx) : yTk (va_up wt bx w) Y s r w2 = yTk wt Y s r w2 := by
  unfold yTk
  congr 1
  cases e : (Y s).getLast? with
  | none => rfl
  | some u =>
    have := hm s u (last_mem e)
    show decide (w2 ≤ va_up wt bx w u) = decide (w2 ≤ wt u)
    rw [zvn (by omega)]
theorem fC_new {p : Nat → Bool} {n : Nat} : fC (va_up p n true) (n + 1) = fC p n + 1 := by
  rw [fC_t (zvs _ _ _), fC_up p true (Nat.le_refl n)]
section ADD
variable {D : ZD} {V V1 : ZV}
theorem cY.ext {y yb yh rr : Nat} {fb : Nat → Option Nat} {fh fr : Nat → Int32} {ba : Nat → Nat} {bx st : Nat} {rch : Nat → Nat} {Y : YD} (h : cY D V y yb yh rr fb fh fr ba bx st rch Y) (hm : ∀ s, ∀ c ∈ Y s, c < bx) (q : Nat) : cY D V y yb yh rr fb fh fr (va_up ba bx q) (bx + 1) st rch Y :=
  ⟨h.1, h.2.1.ext hm, fun i z hi hz => by
    obtain ⟨b, hb, e⟩ := h.2.2.1 i z hi hz
    exact ⟨b, by omega, by rw [zvn (by omega)]; exact e⟩, h.2.2.2⟩
theorem cB.add {bb : Nat} {fB : Nat → Option Nat} {ba : Nat → Nat} {bx : Nat} {wt : Nat → Nat} {ins : Nat → Bool} {hld : Nat → Int32} {unt : Nat → Nat} {hc : Nat → Int32} {uc : Nat → Nat} (h : cB D V bb fB ba bx wt ins hld unt hc uc) (hu : unt bx = 0) {q w : Nat} (hq : V q = some (.inr (3, [.int (nI bx), .int (nI w), .int (nI 45), .int (nI 0)]))) (h1 : V1 = va_up V bb (some (.inl (D.arr 1, 20, .inr (.inr (.inr (.inr (va_up fB bx (some q))))))))) : cB D V1 bb (va_up fB bx (some q)) (va_up ba bx q) (bx + 1) (va_up wt bx w) (va_up ins bx true) (va_up hld bx (nI 45)) unt (va_up hc bx (nI 45)) (va_up uc bx 0) := by
  refine ⟨zself h1, fun b hb => ?_, fun c hcc => zup h1 (zne_oa ((h.2.2.1.ext hq) c hcc) h.1) ((h.2.2.1.ext hq) c hcc), fun b hb hi => ?_⟩
  · by_cases e : b = bx
    · rw [e, zvs, zvs, zvs, if_pos ⟨by omega, rfl⟩]
    · rw [zvn e, zvn e, zvn e, h.2.1 b hb]
      by_cases c : b < bx ∧ ins b = true
      · rw [if_pos c, if_pos ⟨by omega, c.2⟩]
      · rw [if_neg c, if_neg (fun q => c ⟨by omega, q.2⟩)]
  · by_cases e : b = bx
    · rw [e, zvs, zvs, zvs]; exact ⟨rfl, hu.symm⟩
    · rw [zvn e] at hi
      rw [zvn e, zvn e, zvn e]; exact h.2.2.2 b (by omega) hi
theorem cA.ext {al d cap : Nat} {fa : Nat → Option Nat} {ma : Int32} {ba : Nat → Nat} {ap : Nat} {ab hr ln : Nat → Nat} {sa : Nat → Int32} {aa sl : Nat → Nat} {bx : Nat} (h : cA D V al d cap fa ma ba ap ab hr ln sa aa sl) (hb : ∀ a, a < ap → ab a < bx) (q : Nat) : cA D V al d cap fa ma (va_up ba bx q) ap ab hr ln sa aa sl :=
  ⟨h.1, fun a ha => by have := hb a ha; rw [zvn (by omega)]; exact h.2.1 a ha, h.2.2⟩
theorem rng_add {aa : Nat → Nat} {ap q : Nat} : (List.range (ap + 1)).map (va_up aa ap q) = (List.range ap).map aa ++ [q] := by
  rw [List.range_succ, List.map_append]
  congr 1
  · refine List.map_congr_left (fun a ha => ?_)
    rw [List.mem_range] at ha
    exact zvn (by omega)
  · show [va_up aa ap q ap] = [q]
    rw [zvs]
theorem cA.add {al d cap d2 cap2 : Nat} {fa fa2 : Nat → Option Nat} {ma ma2 : Int32} {ba : Nat → Nat} {ap : Nat} {ab hr ln : Nat → Nat} {sa : Nat → Int32} {aa sl : Nat → Nat} {q1 q2 b n k : Nat} (h : cA D V al d cap fa ma ba ap ab hr ln sa aa sl) (hL : hAL D V1 al ((List.range ap).map aa ++ [q2]) d2 cap2 fa2 ma2) (hU : zUnc V V1 (fun a => a = al ∨ (cap ≠ 0 ∧ a = d))) (h1 : V q1 = some (.inr (6, [.int (nI n), .int (nI k)]))) (h2 : V q2 = some (.inr (7, [.int (nI ap), .ref (ba b), .ref q1, .int (nI 98)]))) :
    cA D V1 al d2 cap2 fa2 ma2 ba (ap + 1) (va_up ab ap b) (va_up hr ap n) (va_up ln ap k) (va_up sa ap (nI 98)) (va_up aa ap q2) (va_up sl ap q1) := by
  have key : ∀ z c vs, V z = some (.inr (c, vs)) → c ≠ 8 → V1 z = some (.inr (c, vs)) := fun z c vs hz hc => hU.get (fun hs => by
    rcases hs with hs | ⟨hs, hs2⟩
    · rw [hs, h.1.1] at hz; cases hz; exact hc rfl
    · rcases h.1.2 with p | ⟨-, p, -⟩
      · exact hs p.1
      · rw [hs2, p] at hz; cases hz) hz
  refine ⟨by rw [rng_add]; exact hL, fun a ha => ?_, fun a ha => ?_⟩
  · by_cases e : a = ap
    · rw [e, zvs, zvs, zvs, zvs]; exact key _ _ _ h2 (by decide)
    · rw [zvn e, zvn e, zvn e, zvn e]; exact key _ _ _ (h.2.1 a (by omega)) (by decide)
  · by_cases e : a = ap
    · rw [e, zvs, zvs, zvs]; exact key _ _ _ h1 (by decide)
    · rw [zvn e, zvn e, zvn e]; exact key _ _ _ (h.2.2 a (by omega)) (by decide)
theorem al_k {al d cap : Nat} {fa : Nat → Option Nat} {ma : Int32} {L : List Nat} {n : Nat} (h : hAL D V al L d cap fa ma) (hn : n ≠ 3) : ∀ z e, V z = some e → (z = al ∨ (cap ≠ 0 ∧ z = d)) → kq e ≠ n := fun z e hz hs => by
  rcases hs with hs | ⟨hs, hs2⟩
  · rw [hs, h.1] at hz; cases hz; exact Ne.symm hn
  · rcases h.2 with p | ⟨p0, p, -⟩
    · exact absurd p.1 hs
    · rw [hs2, p] at hz; cases hz
      rcases p0 with p0 | p0 | p0 | p0 <;> rw [p0] <;> exact Ne.symm hn
theorem cI_at {α : Type} {C : List α} {j : Nat} {x : α} (hj : j ≤ C.length) (i : Nat) : (cI C j x)[i]? = if i < j then C[i]? else if i = j then some x else C[i - 1]? := by
  have hl : (C.take j).length = j := by rw [List.length_take]; omega
  unfold cI
  by_cases h : i < j
  · rw [if_pos h, List.getElem?_append_left (by omega), List.getElem?_take, if_pos h]
  · rw [if_neg h, List.getElem?_append_right (by omega), hl]
    by_cases h2 : i = j
    · rw [if_pos h2, h2, Nat.sub_self]; rfl
    · rw [if_neg h2]
      obtain ⟨k, hk⟩ : ∃ k, i - j = k + 1 := ⟨i - j - 1, by omega⟩
      rw [hk, List.getElem?_cons_succ, List.getElem?_drop]
      congr 1; omega
theorem cI_mem {α : Type} {C : List α} {j : Nat} {x : α} (q : α) : q ∈ cI C j x ↔ q = x ∨ q ∈ C := by
  unfold cI
  rw [List.mem_append, List.mem_cons]
  constructor
  · rintro (h | h | h)
    · exact Or.inr (List.mem_of_mem_take h)
    · exact Or.inl h
    · exact Or.inr (List.mem_of_mem_drop h)
  · rintro (h | h)
    · exact Or.inr (Or.inl h)
    · rw [← List.take_append_drop j C, List.mem_append] at h
      rcases h with h | h
      · exact Or.inl h
      · exact Or.inr (Or.inr h)
theorem cI_so {kc : Nat → List Nat} {C : List (Nat × Nat)} {j : Nat} {x : Nat × Nat} {c : List Nat} (hS : tSo kc C) (hj : j ≤ C.length) (hx : kc x.1 = c) (ho : ∀ (i : Nat) (q : Nat × Nat), C[i]? = some q → (i < j → lexL (kc q.1) c) ∧ (j ≤ i → lexL c (kc q.1))) : tSo kc (cI C j x) := fun i k p q hp hq hik => by
  rw [cI_at hj] at hp hq
  by_cases c1 : i < j
  · rw [if_pos c1] at hp
    by_cases c2 : k < j
    · rw [if_pos c2] at hq; exact hS i k p q hp hq hik
    · rw [if_neg c2] at hq
      by_cases c3 : k = j
      · rw [if_pos c3] at hq; cases hq; rw [hx]; exact (ho i p hp).1 c1
      · rw [if_neg c3] at hq; exact hS i (k - 1) p q hp hq (by omega)
  · rw [if_neg c1] at hp
    by_cases c2 : i = j
    · rw [if_pos c2] at hp; cases hp
      rw [if_neg (by omega), if_neg (by omega)] at hq
      rw [hx]; exact (ho (k - 1) q hq).2 (by omega)
    · rw [if_neg c2] at hp
      rw [if_neg (by omega), if_neg (by omega)] at hq
      exact hS (i - 1) (k - 1) p q hp hq (by omega)
theorem tSo.cg {kc kc2 : Nat → List Nat} {C : List (Nat × Nat)} (h : tSo kc C) (e : ∀ q ∈ C, kc2 q.1 = kc q.1) : tSo kc2 C := fun i j p q hp hq hij => by
  rw [e p (List.mem_of_getElem? hp), e q (List.mem_of_getElem? hq)]; exact h i j p q hp hq hij
theorem cT.add {t : Nat} {Lb L2 : List Nat} {Ct : List (Nat × Nat)} {mb mb2 : Int32} {kc : Nat → List Nat} {ap : Nat} {hr ln : Nat → Nat} {sa : Nat → Int32} {aa sl : Nat → Nat} {q1 q2 n k j : Nat} (h : cT V t Lb Ct mb kc ap hr ln sa aa sl) (hn : ∀ a, a < ap → sl a ≠ q1) (hj : j ≤ Ct.length) (hM : tM V1 t L2 (cI Ct j (q1, q2)) mb2) (ho : ∀ (i : Nat) (q : Nat × Nat), Ct[i]? = some q → (i < j → lexL (kc q.1) [n, k]) ∧ (j ≤ i → lexL [n, k] (kc q.1))) :
    cT V1 t L2 (cI Ct j (q1, q2)) mb2 (va_up kc q1 [n, k]) (ap + 1) (va_up hr ap n) (va_up ln ap k) (va_up sa ap (nI 98)) (va_up aa ap q2) (va_up sl ap q1) := by
  have hk : ∀ q ∈ Ct, va_up kc q1 [n, k] q.1 = kc q.1 := fun q hq => by
    obtain ⟨a, ha, -, rfl⟩ := h.2.2.2.1 q hq
    exact zvn (hn a ha)
  refine ⟨hM, cI_so (h.2.1.cg hk) hj (zvs _ _ _) (fun i q hq => by rw [hk q (List.mem_of_getElem? hq)]; exact ho i q hq), fun a ha => ?_, fun q hq => ?_, fun a ha hs => ?_, ?_⟩
  · by_cases e : a = ap
    · rw [e, zvs, zvs, zvs, zvs]
    · rw [zvn e, zvn e, zvn e, zvn (hn a (by omega))]; exact h.2.2.1 a (by omega)
  · rcases (cI_mem q).mp hq with rfl | hq
    · exact ⟨ap, by omega, zvs _ _ _, by rw [zvs, zvs]⟩
    · obtain ⟨a, ha, hs, rfl⟩ := h.2.2.2.1 q hq
      exact ⟨a, by omega, by rw [zvn (by omega)]; exact hs, by rw [zvn (by omega), zvn (by omega)]⟩
  · by_cases e : a = ap
    · rw [e, zvs, zvs]; exact (cI_mem _).mpr (Or.inl rfl)
    · rw [zvn e] at hs
      rw [zvn e, zvn e]; exact (cI_mem _).mpr (Or.inr (h.2.2.2.2.1 a (by omega) hs))
  · have hl : (cI Ct j (q1, q2)).length = Ct.length + 1 := by
      unfold cI; rw [List.length_append, List.length_cons, List.length_take, List.length_drop]; omega
    rw [hl, h.2.2.2.2.2, fC_t (by show decide (va_up sa ap (nI 98) ap = nI 98) = true; rw [zvs]; rfl)]
    congr 1
    exact fC_cong (fun i hi => by show _ = decide (va_up sa ap (nI 98) i = nI 98); rw [zvn (by omega)])
end ADD
