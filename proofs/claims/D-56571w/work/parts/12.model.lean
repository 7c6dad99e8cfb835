/-! MODEL: QuaylockModel's cells: one object, twelve arrays; its yards -/
set_option maxRecDepth 100000
def mKd (i : Nat) : Nat := match i with | 2 => 3 | 3 => 4 | 11 => 4 | _ => 0
def mLn (i : Nat) : Nat := match i with | 0 => 4 | 1 => 20 | 2 => 20 | 3 => 20 | 4 => 20 | 5 => 24 | 6 => 96 | 7 => 6 | _ => 30
def mEn (D : ZD) (i : Nat) (f : Nat → Int32) : va_E := .inl (D.arr (mKd i), mLn i, .inl f)
/-- the object: code, now, stacks, boxes, moves, appointments, left; A: the arrays (0 reaches, 1 weights, 2 inside, 3 holds, 4 untils, 5 heights, 6 piles, 7 plan, 8 appointed, 9 hours, 10 lanes, 11 states) -/
def mOb (A : Nat → Nat) (cd : Int32) (nw st bx : Nat) (mv : Int32) (ap : Nat) (lf : Int64) : va_E := .inr (2, [.int cd, .int (nI nw), .int (nI st), .ref (A 0), .int (nI bx), .ref (A 1), .ref (A 2), .ref (A 3), .ref (A 4), .ref (A 5), .ref (A 6), .ref (A 7), .int mv, .int (nI ap), .ref (A 8), .ref (A 9), .ref (A 10), .ref (A 11), .long lf])
def MX (D : ZD) (V : ZV) (m : Nat) (A : Nat → Nat) (F : Nat → Nat → Int32) (cd : Int32) (nw st bx : Nat) (mv : Int32) (ap : Nat) (lf : Int64) : Prop :=
  V m = some (mOb A cd nw st bx mv ap lf) ∧ (∀ i, i < 12 → V (A i) = some (mEn D i (F i))) ∧ ∀ i j, i < 12 → j < 12 → A i = A j → i = j
theorem MX.st {D : ZD} {V V2 : ZV} {m : Nat} {A : Nat → Nat} {F : Nat → Nat → Int32} {cd : Int32} {nw st bx : Nat} {mv : Int32} {ap : Nat} {lf : Int64} (h : MX D V m A F cd nw st bx mv ap lf) (i : Nat) (hi : i < 12) {f : Nat → Int32} (hV : V2 = va_up V (A i) (some (mEn D i f))) : MX D V2 m A (va_up F i f) cd nw st bx mv ap lf := by
  refine ⟨?_, fun j hj => ?_, h.2.2⟩
  · rw [hV, zvn (fun e => by have := h.2.1 i hi; rw [← e, h.1] at this; cases this)]; exact h.1
  · by_cases hji : j = i
    · subst hji
      rw [hV, zvs, zvs]
    · rw [hV, zvn (fun e => hji (h.2.2 j i hj hi e)), zvn hji]; exact h.2.1 j hj
theorem MX.ob {D : ZD} {V V2 : ZV} {m : Nat} {A : Nat → Nat} {F : Nat → Nat → Int32} {cd cd2 : Int32} {nw st bx nw2 st2 bx2 : Nat} {mv mv2 : Int32} {ap ap2 : Nat} {lf lf2 : Int64} (h : MX D V m A F cd nw st bx mv ap lf) (hV : V2 = va_up V m (some (mOb A cd2 nw2 st2 bx2 mv2 ap2 lf2))) : MX D V2 m A F cd2 nw2 st2 bx2 mv2 ap2 lf2 := by
  refine ⟨?_, fun j hj => ?_, h.2.2⟩
  · rw [hV, zvs]
  · rw [hV, zvn (fun e => by have := h.2.1 j hj; rw [e, h.1] at this; cases this)]; exact h.2.1 j hj
/-- the model's yard y is Y -/
def mY (F : Nat → Nat → Int32) (y : Nat) (Y : YD) : Prop := (∀ s, s < 4 → F 5 (4 * y + s) = nI (Y s).length) ∧ ∀ s k b, s < 4 → (Y s)[k]? = some b → F 6 (16 * y + 4 * s + k) = nI b
/-- a yard of st stacks -/
def yOK (st : Nat) (Y : YD) : Prop := (∀ s, (Y s).length ≤ 4) ∧ (∀ s, st ≤ s → Y s = []) ∧ (∀ s b, b ∈ Y s → b < 20) ∧ (∀ s, (Y s).Nodup) ∧ ∀ s t b, b ∈ Y s → b ∈ Y t → s = t
theorem yOK.lt {st : Nat} {Y : YD} (h : yOK st Y) {t b : Nat} (hb : b ∈ Y t) : t < st := by
  rcases Nat.lt_or_ge t st with q | q
  · exact q
  · rw [h.2.1 t q] at hb; cases hb
/-- what the arrays say of stacks and boxes -/
def mE (F : Nat → Nat → Int32) (st bx : Nat) (rch wt : Nat → Nat) (ins : Nat → Bool) (hld : Nat → Int32) : Prop :=
  (∀ s, s < st → F 0 s = nI (rch s)) ∧ (∀ b, b < bx → F 1 b = nI (wt b)) ∧ (∀ b, b < bx → F 2 b = zb (ins b)) ∧ ∀ b, b < bx → F 3 b = hld b
def yCan (rch wt : Nat → Nat) (pin : Nat → Bool) (Y : YD) (t b s : Nat) : Bool := decide ((Y t).getLast? = some b) && (!pin b && (decide (t ≠ s) && yTk wt Y s (rch s) (wt b)))
/-- box b, on top of stack p, laid on stack s -/
def yMv (Y : YD) (p s b : Nat) : YD := va_up (va_up Y p (Y p).dropLast) s (va_up Y p (Y p).dropLast s ++ [b])
def oInt (o : Option Nat) : Int32 := match o with | none => -1 | some k => nI k
theorem zuu {α : Type} (f : Nat → α) (k : Nat) (v w : α) : va_up (va_up f k v) k w = va_up f k w := by
  funext j; unfold va_up; by_cases h : j = k <;> simp [h]
/-- only yard y's heights and piles differ -/
def mOn (F F2 : Nat → Nat → Int32) (y : Nat) : Prop := (∀ i, i ≠ 5 → i ≠ 6 → F2 i = F i) ∧ (∀ j, ¬ (4 * y ≤ j ∧ j < 4 * y + 4) → F2 5 j = F 5 j) ∧ ∀ j, ¬ (16 * y ≤ j ∧ j < 16 * y + 16) → F2 6 j = F 6 j
theorem mOn.rf {F : Nat → Nat → Int32} {y : Nat} : mOn F F y := ⟨fun _ _ _ => rfl, fun _ _ => rfl, fun _ _ => rfl⟩
theorem mOn.tr {F F2 F3 : Nat → Nat → Int32} {y : Nat} (h : mOn F F2 y) (h2 : mOn F2 F3 y) : mOn F F3 y :=
  ⟨fun i a b => (h2.1 i a b).trans (h.1 i a b), fun j a => (h2.2.1 j a).trans (h.2.1 j a), fun j a => (h2.2.2 j a).trans (h.2.2 j a)⟩
theorem mOn.mY {F F2 : Nat → Nat → Int32} {y z : Nat} {Z : YD} (h : mOn F F2 y) (hz : z ≠ y) (hl : ∀ s, (Z s).length ≤ 4) (hm : mY F z Z) : mY F2 z Z := by
  refine ⟨fun s hs => ?_, fun s k b hs hk => ?_⟩
  · rw [h.2.1 _ (by omega)]; exact hm.1 s hs
  · have := (List.getElem?_eq_some_iff.mp hk).1
    have := hl s
    rw [h.2.2 _ (by omega)]; exact hm.2 s k b hs hk
theorem mOn.e {F F2 : Nat → Nat → Int32} {y : Nat} (h : mOn F F2 y) {st bx : Nat} {rch wt : Nat → Nat} {ins : Nat → Bool} {hld : Nat → Int32} (hE : mE F st bx rch wt ins hld) : mE F2 st bx rch wt ins hld := by
  unfold mE
  rw [h.1 0 (by decide) (by decide), h.1 1 (by decide) (by decide), h.1 2 (by decide) (by decide), h.1 3 (by decide) (by decide)]
  exact hE
theorem mOn.up5 {F : Nat → Nat → Int32} {y j : Nat} {v : Int32} (h : 4 * y ≤ j ∧ j < 4 * y + 4) : mOn F (va_up F 5 (va_up (F 5) j v)) y :=
  ⟨fun i a _ => zvn a, fun k hk => by rw [zvs, zvn (fun e => hk (by rw [e]; exact h))], fun k _ => by rw [zvn (by decide)]⟩
theorem mOn.up6 {F : Nat → Nat → Int32} {y j : Nat} {v : Int32} (h : 16 * y ≤ j ∧ j < 16 * y + 16) : mOn F (va_up F 6 (va_up (F 6) j v)) y :=
  ⟨fun i _ a => zvn a, fun k _ => by rw [zvn (by decide)], fun k hk => by rw [zvs, zvn (fun e => hk (by rw [e]; exact h))]⟩
/-- a height lowered -/
theorem mY.down {F : Nat → Nat → Int32} {y p n : Nat} {Y : YD} (hl : ∀ s, (Y s).length ≤ 4) (hp : p < 4) (hn : (Y p).length = n + 1) (h : mY F y Y) : mY (va_up F 5 (va_up (F 5) (4 * y + p) (nI n))) y (va_up Y p (Y p).dropLast) := by
  refine ⟨fun s hs => ?_, fun s k b hs hk => ?_⟩
  · rw [zvs]
    by_cases e : s = p
    · subst e; rw [zvs, zvs, List.length_dropLast, hn]; rfl
    · rw [zvn (by omega), zvn e]; exact h.1 s hs
  · rw [zvn (by decide)]
    by_cases e : s = p
    · subst e
      rw [zvs, List.getElem?_dropLast] at hk
      split at hk
      · exact h.2 s k b hs hk
      · cases hk
    · rw [zvn e] at hk; exact h.2 s k b hs hk
/-- a box laid -/
theorem mY.lay {F : Nat → Nat → Int32} {y s0 b0 : Nat} {Y : YD} (hl : ∀ s, (Y s).length ≤ 4) (hs0 : s0 < 4) (hn : (Y s0).length < 4) (h : mY F y Y) :
    mY (va_up (va_up F 6 (va_up (F 6) (16 * y + 4 * s0 + (Y s0).length) (nI b0))) 5 (va_up (F 5) (4 * y + s0) (nI ((Y s0).length + 1)))) y (va_up Y s0 (Y s0 ++ [b0])) := by
  refine ⟨fun s hs => ?_, fun s k b hs hk => ?_⟩
  · rw [zvs]
    by_cases e : s = s0
    · subst e; rw [zvs, zvs, List.length_append]; rfl
    · rw [zvn (by omega), zvn e]; exact h.1 s hs
  · rw [zvn (by decide), zvs]
    by_cases e : s = s0
    · subst e
      rw [zvs, List.getElem?_append] at hk
      split at hk
      · rename_i hlt
        rw [zvn (by omega)]; exact h.2 s k b hs hk
      · rename_i hge
        have hk1 := (List.getElem?_eq_some_iff.mp hk).1
        have hk0 : k - (Y s).length = 0 := by simp at hk1; omega
        rw [hk0] at hk
        have hbb : b0 = b := by simpa using hk
        have : k = (Y s).length := by omega
        rw [this, zvs, hbb]
    · rw [zvn e] at hk
      have := (List.getElem?_eq_some_iff.mp hk).1
      have := hl s
      rw [zvn (by omega)]; exact h.2 s k b hs hk
theorem zcpy_step (f g : Nat → Int32) (sp dp k : Nat) : va_up (va_cpy f g sp dp k) (dp + k) (f (sp + k)) = va_cpy f g sp dp (k + 1) := by
  funext j
  unfold va_up va_cpy
  by_cases h : j = dp + k
  · subst h
    rw [if_pos rfl, if_pos (by omega)]; congr 1; omega
  · rw [if_neg h]
    by_cases h2 : dp ≤ j ∧ j < dp + k
    · rw [if_pos h2, if_pos (by omega)]
    · rw [if_neg h2, if_neg (by omega)]
theorem zcpy_0 (f g : Nat → Int32) (sp dp : Nat) : va_cpy f g sp dp 0 = g := by
  funext j; unfold va_cpy; rw [if_neg (by omega)]
theorem zcpy_out {f g : Nat → Int32} {sp dp n j : Nat} (h : ¬ (dp ≤ j ∧ j < dp + n)) : va_cpy f g sp dp n j = g j := by unfold va_cpy; rw [if_neg h]
theorem zcpy_in {f g : Nat → Int32} {sp dp n j : Nat} (h : j < n) : va_cpy f g sp dp n (dp + j) = f (sp + j) := by unfold va_cpy; rw [if_pos (by omega)]; congr 1; omega
theorem zup_id {α : Type} (f : Nat → α) (k : Nat) : va_up f k (f k) = f := by
  funext j; unfold va_up; by_cases h : j = k <;> simp [h]
/-- yard z copied to yard y -/
def mCp (F : Nat → Nat → Int32) (z y : Nat) : Nat → Nat → Int32 := va_up (va_up F 5 (va_cpy (F 5) (F 5) (4 * z) (4 * y) 4)) 6 (va_cpy (F 6) (F 6) (16 * z) (16 * y) 16)
theorem mCp_on (F : Nat → Nat → Int32) (z y : Nat) : mOn F (mCp F z y) y :=
  ⟨fun i a b => by unfold mCp; rw [zvn b, zvn a], fun j hj => by unfold mCp; rw [zvn (by decide), zvs, zcpy_out hj], fun j hj => by unfold mCp; rw [zvs, zcpy_out hj]⟩
theorem mCp_mY {F : Nat → Nat → Int32} {z y : Nat} {Z : YD} (hl : ∀ s, (Z s).length ≤ 4) (h : mY F z Z) : mY (mCp F z y) y Z := by
  refine ⟨fun s hs => ?_, fun s k b hs hk => ?_⟩
  · unfold mCp; rw [zvn (by decide), zvs, zcpy_in (by omega)]; exact h.1 s hs
  · have := (List.getElem?_eq_some_iff.mp hk).1
    have := hl s
    unfold mCp; rw [zvs, Nat.add_assoc, zcpy_in (by omega), ← Nat.add_assoc]; exact h.2 s k b hs hk
/-- the stack of a box -/
def yPl (Y : YD) (b : Nat) : Nat := if b ∈ Y 0 then 0 else if b ∈ Y 1 then 1 else if b ∈ Y 2 then 2 else 3
theorem yPl_eq {st : Nat} {Y : YD} {b t : Nat} (h : yOK st Y) (hst : st ≤ 4) (hb : b ∈ Y t) : yPl Y b = t := by
  have ht := h.lt hb
  have u := h.2.2.2.2
  unfold yPl
  by_cases h0 : b ∈ Y 0
  · rw [if_pos h0]; exact u 0 t b h0 hb
  · rw [if_neg h0]
    by_cases h1 : b ∈ Y 1
    · rw [if_pos h1]; exact u 1 t b h1 hb
    · rw [if_neg h1]
      by_cases h2 : b ∈ Y 2
      · rw [if_pos h2]; exact u 2 t b h2 hb
      · rw [if_neg h2]
        by_cases h3 : t = 3
        · exact h3.symm
        · exfalso
          rcases (show t = 0 ∨ t = 1 ∨ t = 2 by omega) with rfl | rfl | rfl
          · exact h0 hb
          · exact h1 hb
          · exact h2 hb
def pin' (hld : Nat → Int32) (b : Nat) : Bool := decide (hld b = nI 112)
/-- a move (4 times the box plus the stack) that may be made, of another box than t -/
def yLeg (st : Nat) (rch wt : Nat → Nat) (ins pin : Nat → Bool) (t : Nat) (Y : YD) (m : Nat) : Bool := decide (m / 4 ≠ t) && (decide (m % 4 < st) && (ins (m / 4) && yCan rch wt pin Y (yPl Y (m / 4)) (m / 4) (m % 4)))
