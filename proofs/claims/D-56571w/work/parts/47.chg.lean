/-! COMPONENT: changing -/
set_option maxRecDepth 100000
theorem yRel.pop {ba : Nat → Nat} {Y : YD} {fb : Nat → Option Nat} {fh : Nat → Int32} {p n : Nat} (h : yRel ba Y fb fh) (hl : ∀ s, (Y s).length ≤ 4) (hp : p < 4) (hn : (Y p).length = n + 1) : yRel ba (va_up Y p (Y p).dropLast) (va_up fb (4 * p + n) none) (va_up fh p (nI n)) := by
  refine ⟨fun s hs => ?_, fun s k b hs hk => ?_⟩
  · by_cases e : s = p
    · rw [e, zvs, zvs, List.length_dropLast, hn]; rfl
    · rw [zvn e, zvn e]; exact h.1 s hs
  · have l1 := hl p
    by_cases e : s = p
    · rw [e, zvs] at hk
      have l2 := (List.getElem?_eq_some_iff.mp hk).1
      rw [List.length_dropLast] at l2
      rw [List.getElem?_dropLast, if_pos (by omega)] at hk
      rw [e, zvn (by omega)]; exact h.2 p k b hp hk
    · rw [zvn e] at hk
      have l2 := (List.getElem?_eq_some_iff.mp hk).1
      have l3 := hl s
      rw [zvn (by omega)]; exact h.2 s k b hs hk
theorem yRel.push {ba : Nat → Nat} {Y : YD} {fb : Nat → Option Nat} {fh : Nat → Int32} {s n b : Nat} (h : yRel ba Y fb fh) (hl : ∀ s, (Y s).length ≤ 4) (hs : s < 4) (hn : (Y s).length = n) (hn4 : n < 4) : yRel ba (va_up Y s (Y s ++ [b])) (va_up fb (4 * s + n) (some (ba b))) (va_up fh s (nI (n + 1))) := by
  refine ⟨fun z hz => ?_, fun z k c hz hk => ?_⟩
  · by_cases e : z = s
    · rw [e, zvs, zvs, List.length_append, hn]; rfl
    · rw [zvn e, zvn e]; exact h.1 z hz
  · by_cases e : z = s
    · rw [e, zvs] at hk
      rcases Nat.lt_trichotomy k n with q | q | q
      · rw [List.getElem?_append_left (by omega)] at hk
        rw [e, zvn (by omega)]; exact h.2 s k c hs hk
      · rw [e, q, zvs]
        rw [q, ← hn, List.getElem?_append_right (Nat.le_refl _), Nat.sub_self] at hk
        cases hk; rfl
      · rw [List.getElem?_eq_none (by rw [List.length_append, List.length_singleton]; omega)] at hk; cases hk
    · rw [zvn e] at hk
      have l2 := (List.getElem?_eq_some_iff.mp hk).1
      have l3 := hl z
      rw [zvn (by omega)]; exact h.2 z k c hz hk
section YDS
variable {D : ZD} {V V1 : ZV} {y yb yh : Nat} {fb fb2 : Nat → Option Nat} {fh fh2 : Nat → Int32}
theorem hYd.ne (h : hYd D V y yb yh fb fh) : y ≠ yb ∧ y ≠ yh ∧ yb ≠ yh := ⟨zne_oa h.1 h.2.1, zne_oa h.1 h.2.2, zne_k h.2.1 h.2.2 (by simp)⟩
theorem hYd.u1 (h : hYd D V y yb yh fb fh) (h1 : V1 = va_up (va_up V yh (some (.inl (D.arr 0, 4, .inl fh2)))) yb (some (.inl (D.arr 1, 16, .inr (.inr (.inr (.inr fb2))))))) : hYd D V1 y yb yh fb2 fh2 ∧ zUnc V V1 (fun z => z = yb ∨ z = yh) := by
  obtain ⟨n1, n2, n3⟩ := h.ne
  subst h1
  refine ⟨⟨?_, ?_, ?_⟩, fun z hz hn => ?_⟩
  · rw [zvn n1, zvn n2]; exact h.1
  · rw [zvs]
  · rw [zvn (Ne.symm n3), zvs]
  · rw [zvn (fun e => hz (Or.inl e)), zvn (fun e => hz (Or.inr e))]
theorem hYd.u2 (h : hYd D V y yb yh fb fh) (h1 : V1 = va_up (va_up V yb (some (.inl (D.arr 1, 16, .inr (.inr (.inr (.inr fb2))))))) yh (some (.inl (D.arr 0, 4, .inl fh2)))) : hYd D V1 y yb yh fb2 fh2 ∧ zUnc V V1 (fun z => z = yb ∨ z = yh) := by
  obtain ⟨n1, n2, n3⟩ := h.ne
  subst h1
  refine ⟨⟨?_, ?_, ?_⟩, fun z hz hn => ?_⟩
  · rw [zvn n2, zvn n1]; exact h.1
  · rw [zvn n3, zvs]
  · rw [zvs]
  · rw [zvn (fun e => hz (Or.inr e)), zvn (fun e => hz (Or.inl e))]
theorem yd_k {n : Nat} (h : hYd D V y yb yh fb fh) (hn : n ≠ 1) : ∀ z e, V z = some e → (z = yb ∨ z = yh) → kq e ≠ n := fun z e hz hs => by
  rcases hs with rfl | rfl
  · rw [h.2.1] at hz; cases hz; exact Ne.symm hn
  · rw [h.2.2] at hz; cases hz; exact Ne.symm hn
end YDS
section CHG
variable {D : ZD} {V V1 : ZV}
theorem cY.pop {y yb yh rr : Nat} {fb : Nat → Option Nat} {fh fr : Nat → Int32} {ba : Nat → Nat} {bx st : Nat} {rch : Nat → Nat} {Y : YD} (h : cY D V y yb yh rr fb fh fr ba bx st rch Y) {p n : Nat} (hl : ∀ s, (Y s).length ≤ 4) (hp : p < 4) (hn : (Y p).length = n + 1) (h1 : V1 = va_up (va_up V yh (some (.inl (D.arr 0, 4, .inl (va_up fh p (nI n)))))) yb (some (.inl (D.arr 1, 16, .inr (.inr (.inr (.inr (va_up fb (4 * p + n) none)))))))) : cY D V1 y yb yh rr (va_up fb (4 * p + n) none) (va_up fh p (nI n)) fr ba bx st rch (va_up Y p (Y p).dropLast) ∧ zUnc V V1 (fun z => z = yb ∨ z = yh) := by
  obtain ⟨k1, k2⟩ := h.1.u1 h1
  refine ⟨⟨k1, h.2.1.pop hl hp hn, fun i z hi hz => ?_, k2.get (fun e => ?_) h.2.2.2.1, h.2.2.2.2⟩, k2⟩
  · by_cases c : i = 4 * p + n
    · rw [c, zvs] at hz; cases hz
    · rw [zvn c] at hz; exact h.2.2.1 i z hi hz
  · rcases e with e | e
    · exact zne_k h.2.2.2.1 h.1.2.1 (by simp) e
    · exact h.2.2.2.2.1 e
theorem cY.push {y yb yh rr : Nat} {fb : Nat → Option Nat} {fh fr : Nat → Int32} {ba : Nat → Nat} {bx st : Nat} {rch : Nat → Nat} {Y : YD} (h : cY D V y yb yh rr fb fh fr ba bx st rch Y) {s n b : Nat} (hl : ∀ s, (Y s).length ≤ 4) (hs : s < 4) (hn : (Y s).length = n) (hn4 : n < 4) (hb : b < bx) (h1 : V1 = va_up (va_up V yb (some (.inl (D.arr 1, 16, .inr (.inr (.inr (.inr (va_up fb (4 * s + n) (some (ba b)))))))))) yh (some (.inl (D.arr 0, 4, .inl (va_up fh s (nI (n + 1))))))) : cY D V1 y yb yh rr (va_up fb (4 * s + n) (some (ba b))) (va_up fh s (nI (n + 1))) fr ba bx st rch (va_up Y s (Y s ++ [b])) ∧ zUnc V V1 (fun z => z = yb ∨ z = yh) := by
  obtain ⟨k1, k2⟩ := h.1.u2 h1
  refine ⟨⟨k1, h.2.1.push hl hs hn hn4, fun i z hi hz => ?_, k2.get (fun e => ?_) h.2.2.2.1, h.2.2.2.2⟩, k2⟩
  · by_cases c : i = 4 * s + n
    · rw [c, zvs] at hz; cases hz; exact ⟨b, hb, rfl⟩
    · rw [zvn c] at hz; exact h.2.2.1 i z hi hz
  · rcases e with e | e
    · exact zne_k h.2.2.2.1 h.1.2.1 (by simp) e
    · exact h.2.2.2.2.1 e
theorem cY.rr {y yb yh rr : Nat} {fb : Nat → Option Nat} {fh fr : Nat → Int32} {ba : Nat → Nat} {bx st : Nat} {rch : Nat → Nat} {Y : YD} (h : cY D V y yb yh rr fb fh fr ba bx st rch Y) {r : Nat} (h1 : V1 = va_up V rr (some (.inl (D.arr 0, 4, .inl (va_up fr st (nI r)))))) : cY D V1 y yb yh rr fb fh (va_up fr st (nI r)) ba bx (st + 1) (va_up rch st r) Y := by
  have n1 : y ≠ rr := zne_oa h.1.1 h.2.2.2.1
  have n2 : yb ≠ rr := zne_k h.1.2.1 h.2.2.2.1 (by simp)
  refine ⟨⟨zup h1 n1 h.1.1, zup h1 n2 h.1.2.1, zup h1 (Ne.symm h.2.2.2.2.1) h.1.2.2⟩, h.2.1, h.2.2.1, zself h1, h.2.2.2.2.1, fun s hs => ?_⟩
  by_cases c : s = st
  · rw [c, zvs, zvs]
  · rw [zvn c, zvn c]; exact h.2.2.2.2.2 s (by omega)
section CB
variable {bb : Nat} {fB : Nat → Option Nat} {ba : Nat → Nat} {bx : Nat} {wt : Nat → Nat} {ins : Nat → Bool} {hld : Nat → Int32} {unt : Nat → Nat} {hc : Nat → Int32} {uc : Nat → Nat}
theorem cB.ho (h : cB D V bb fB ba bx wt ins hld unt hc uc) (hbx : bx ≤ 20) {b : Nat} {k : Int32} (hb : b < bx) (h1 : V1 = va_up V (ba b) (some (.inr (3, [.int (nI b), .int (nI (wt b)), .int k, .int (nI (uc b))])))) : cB D V1 bb fB ba bx wt ins (va_up hld b k) unt (va_up hc b k) uc := by
  refine ⟨zup h1 (zne_ao h.1 (h.2.2.1 b hb)) h.1, h.2.1, fun c hcc => ?_, fun c hcc hi => ?_⟩
  · by_cases e : c = b
    · rw [e]; show V1 (ba b) = _; rw [h1, zvs]; unfold oBox; rw [zvs]
    · refine (zup h1 (fun q => e (h.2.2.1.inj hbx hcc hb q)) (h.2.2.1 c hcc)).trans ?_
      unfold oBox; rw [zvn e]
  · by_cases e : c = b
    · rw [e, zvs, zvs]; rw [e] at hi; exact ⟨rfl, (h.2.2.2 b hb hi).2⟩
    · rw [zvn e, zvn e]; exact h.2.2.2 c hcc hi
theorem cB.un (h : cB D V bb fB ba bx wt ins hld unt hc uc) (hbx : bx ≤ 20) {b u : Nat} (hb : b < bx) (h1 : V1 = va_up V (ba b) (some (.inr (3, [.int (nI b), .int (nI (wt b)), .int (hc b), .int (nI u)])))) : cB D V1 bb fB ba bx wt ins hld (va_up unt b u) hc (va_up uc b u) := by
  refine ⟨zup h1 (zne_ao h.1 (h.2.2.1 b hb)) h.1, h.2.1, fun c hcc => ?_, fun c hcc hi => ?_⟩
  · by_cases e : c = b
    · rw [e]; show V1 (ba b) = _; rw [h1, zvs]; unfold oBox; rw [zvs]
    · refine (zup h1 (fun q => e (h.2.2.1.inj hbx hcc hb q)) (h.2.2.1 c hcc)).trans ?_
      unfold oBox; rw [zvn e]
  · by_cases e : c = b
    · rw [e, zvs, zvs]; rw [e] at hi; exact ⟨(h.2.2.2 b hb hi).1, rfl⟩
    · rw [zvn e, zvn e]; exact h.2.2.2 c hcc hi
theorem cB.gone (h : cB D V bb fB ba bx wt ins hld unt hc uc) (hbx : bx ≤ 20) {b : Nat} (hb : b < bx) (h1 : V1 = va_up V bb (some (.inl (D.arr 1, 20, .inr (.inr (.inr (.inr (va_up fB b none)))))))) : cB D V1 bb (va_up fB b none) ba bx wt (va_up ins b false) hld unt hc uc := by
  refine ⟨zself h1, fun c hcc => ?_, fun c hcc => zup h1 (zne_oa (h.2.2.1 c hcc) h.1) (h.2.2.1 c hcc), fun c hcc hi => ?_⟩
  · by_cases e : c = b
    · rw [e, zvs, zvs, if_neg (fun q => absurd q.2 (by decide))]
    · rw [zvn e, zvn e]; exact h.2.1 c hcc
  · by_cases e : c = b
    · rw [e, zvs] at hi; cases hi
    · rw [zvn e] at hi; exact h.2.2.2 c hcc hi
end CB
theorem cA.st {al d cap : Nat} {fa : Nat → Option Nat} {ma : Int32} {ba : Nat → Nat} {ap : Nat} {ab hr ln : Nat → Nat} {sa : Nat → Int32} {aa sl : Nat → Nat} (h : cA D V al d cap fa ma ba ap ab hr ln sa aa sl) (hap : ap ≤ 30) {a : Nat} {c : Int32} (ha : a < ap) (h1 : V1 = va_up V (aa a) (some (.inr (7, [.int (nI a), .ref (ba (ab a)), .ref (sl a), .int c])))) : cA D V1 al d cap fa ma ba ap ab hr ln (va_up sa a c) aa sl := by
  have hv := h.2.1 a ha
  refine ⟨?_, fun b hb => ?_, fun b hb => zup h1 (zne_cc (h.2.2 b hb) hv (by decide)) (h.2.2 b hb)⟩
  · refine ⟨zup h1 (zne_cc h.1.1 hv (by decide)) h.1.1, ?_⟩
    rcases h.1.2 with q | ⟨q1, q2, q3⟩
    · exact Or.inl q
    · exact Or.inr ⟨q1, zup h1 (zne_ao q2 hv) q2, q3⟩
  · by_cases e : b = a
    · rw [e, zvs]; exact zself h1
    · rw [zvn e]
      refine zup h1 (fun q => e ?_) (h.2.1 b hb)
      have h2 := h.2.1 b hb
      rw [q, hv] at h2
      simp only [Option.some.injEq, Sum.inr.injEq, Prod.mk.injEq, List.cons.injEq, Value.int.injEq] at h2
      have h3 := vN_nI (k := b) (by omega)
      rw [← h2.2.1, vN_nI (by omega)] at h3
      exact h3.symm
end CHG
theorem fC_dec {p q : Nat → Bool} {a : Nat} : ∀ {n : Nat}, a < n → p a = true → q a = false → (∀ j, j < n → j ≠ a → q j = p j) → fC p n = fC q n + 1
  | 0, h, _, _, _ => absurd h (Nat.not_lt_zero _)
  | n + 1, h, hp, hq, ho => by
    by_cases e : a = n
    · subst e
      rw [fC_t hp, fC_f hq, fC_cong (p := q) (q := p) (fun j hj => ho j (by omega) (by omega))]
    · have ih := fC_dec (p := p) (q := q) (n := n) (by omega) hp hq (fun j hj hne => ho j (by omega) hne)
      rw [fC_succ, fC_succ, ho n (by omega) (Ne.symm e), ih]; omega
theorem cD_mem {C : List (Nat × Nat)} {j : Nat} {kc : Nat → List Nat} (hS : tSo kc C) {q0 : Nat × Nat} (hj : C[j]? = some q0) (q : Nat × Nat) : q ∈ cD C j ↔ q ∈ C ∧ kc q.1 ≠ kc q0.1 := by
  have hl := (List.getElem?_eq_some_iff.mp hj).1
  constructor
  · intro hq
    obtain ⟨i, hi, hiq⟩ := List.getElem_of_mem hq
    have h1 : (cD C j)[i]? = some q := by rw [List.getElem?_eq_getElem hi, hiq]
    rw [cD_at hl] at h1
    by_cases c : i < j
    · rw [if_pos c] at h1
      exact ⟨List.mem_of_getElem? h1, fun e => lexL_irr (kc q0.1) (by have := hS i j q q0 h1 hj c; rwa [e] at this)⟩
    · rw [if_neg c] at h1
      exact ⟨List.mem_of_getElem? h1, fun e => lexL_irr (kc q0.1) (by have := hS j (i + 1) q0 q hj h1 (by omega); rwa [e] at this)⟩
  · rintro ⟨hq, hne⟩
    obtain ⟨i, hi, hiq⟩ := List.getElem_of_mem hq
    have h1 : C[i]? = some q := by rw [List.getElem?_eq_getElem hi, hiq]
    have hij : i ≠ j := fun e => by rw [e, hj] at h1; cases h1; exact hne rfl
    rcases Nat.lt_or_gt_of_ne hij with c | c
    · exact List.mem_of_getElem? (i := i) (by rw [cD_at hl, if_pos c]; exact h1)
    · exact List.mem_of_getElem? (i := i - 1) (by rw [cD_at hl, if_neg (by omega), show i - 1 + 1 = i by omega]; exact h1)
theorem cD_so {C : List (Nat × Nat)} {j : Nat} {kc : Nat → List Nat} (hS : tSo kc C) (hj : j < C.length) : tSo kc (cD C j) := fun i k p q hp hq hik => by
  rw [cD_at hj] at hp hq
  by_cases c1 : i < j <;> by_cases c2 : k < j
  · rw [if_pos c1] at hp; rw [if_pos c2] at hq; exact hS i k p q hp hq hik
  · rw [if_pos c1] at hp; rw [if_neg c2] at hq; exact hS i (k + 1) p q hp hq (by omega)
  · omega
  · rw [if_neg c1] at hp; rw [if_neg c2] at hq; exact hS (i + 1) (k + 1) p q hp hq (by omega)
/-- an appointment's end, as the tree of the booked tells it -/
theorem cT.endd {V V1 : ZV} {t : Nat} {Lb L2 : List Nat} {Ct : List (Nat × Nat)} {mb mb2 : Int32} {kc : Nat → List Nat} {ap : Nat} {ab hr ln : Nat → Nat} {sa : Nat → Int32} {aa sl : Nat → Nat} {a j : Nat} {c : Int32} {q0 : Nat × Nat} (h : cT V t Lb Ct mb kc ap hr ln sa aa sl) (hu : ∀ a c, a < ap → c < ap → sa a = nI 98 → sa c = nI 98 → ab a = ab c ∨ (hr a = hr c ∧ ln a = ln c) → a = c) (ha : a < ap) (hs : sa a = nI 98) (hc : c ≠ nI 98) (hj : Ct[j]? = some q0) (hk : kc q0.1 = [hr a, ln a]) (hM : tM V1 t L2 (cD Ct j) mb2) : cT V1 t L2 (cD Ct j) mb2 kc ap hr ln (va_up sa a c) aa sl := by
  have hl := (List.getElem?_eq_some_iff.mp hj).1
  refine ⟨hM, cD_so h.2.1 hl, h.2.2.1, fun q hq => ?_, fun b hb hsb => ?_, ?_⟩
  · obtain ⟨h1, h2⟩ := (cD_mem h.2.1 hj q).mp hq
    obtain ⟨b, hb, hsb, rfl⟩ := h.2.2.2.1 q h1
    refine ⟨b, hb, ?_, rfl⟩
    rw [zvn]
    · exact hsb
    · intro e
      exact h2 (by rw [hk, ← e]; exact h.2.2.1 b hb)
  · by_cases e : b = a
    · rw [e, zvs] at hsb; exact absurd hsb hc
    · rw [zvn e] at hsb
      refine (cD_mem h.2.1 hj _).mpr ⟨h.2.2.2.2.1 b hb hsb, fun q => e ?_⟩
      rw [hk, h.2.2.1 b hb] at q
      exact hu b a hb ha hsb hs (Or.inr ⟨(List.cons.inj q).1, (List.cons.inj (List.cons.inj q).2).1⟩)
  · have hlen : (cD Ct j).length + 1 = Ct.length := by
      unfold cD; rw [List.length_append, List.length_take, List.length_drop]; omega
    have := fC_dec (p := fun x => decide (sa x = nI 98)) (q := fun x => decide (va_up sa a c x = nI 98)) (a := a) (n := ap) ha (decide_eq_true hs) (decide_eq_false (by rw [zvs]; exact hc)) (fun j hj hne => by show decide (va_up sa a c j = nI 98) = decide (sa j = nI 98); rw [zvn hne])
    rw [h.2.2.2.2.2] at hlen
    omega
