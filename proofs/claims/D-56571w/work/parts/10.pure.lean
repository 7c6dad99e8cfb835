/-! PURE: yards, and their pictures in the heap -/
set_option maxRecDepth 100000
abbrev YD : Type := Nat → List Nat
/-- a yard's three cells -/
def hYd (D : ZD) (V : ZV) (y yb yh : Nat) (fb : Nat → Option Nat) (fh : Nat → Int32) : Prop :=
  V y = some (.inr (1, [.ref yb, .ref yh])) ∧ V yb = some (.inl (D.arr 1, 16, .inr (.inr (.inr (.inr fb))))) ∧ V yh = some (.inl (D.arr 0, 4, .inl fh))
/-- they hold the yard Y of boxes at the addresses ba -/
def yRel (ba : Nat → Nat) (Y : YD) (fb : Nat → Option Nat) (fh : Nat → Int32) : Prop :=
  (∀ s, s < 4 → fh s = nI (Y s).length) ∧ ∀ s k b, s < 4 → (Y s)[k]? = some b → fb (4 * s + k) = some (ba b)
/-- the box b is in the yard, in stack t alone; no other box of the yard lies at its address -/
def yIn (ba : Nat → Nat) (Y : YD) (b t : Nat) : Prop := t < 4 ∧ b ∈ Y t ∧ (∀ s, b ∈ Y s → s = t) ∧ (∀ s c, c ∈ Y s → ba c = ba b → c = b) ∧ ∀ s, (Y s).length ≤ 4
def yFnd (Y : YD) (b t s k : Nat) : Int32 := if t < s ∨ (t = s ∧ b ∈ (Y s).take k) then nI t else -1
theorem yFnd_end {ba : Nat → Nat} {Y : YD} {b t s : Nat} (h : yIn ba Y b t) : yFnd Y b t s (Y s).length = yFnd Y b t (s + 1) 0 := by
  unfold yFnd
  have h2 := h.2.1
  by_cases h1 : t < s
  · rw [if_pos (Or.inl h1), if_pos (Or.inl (by omega))]
  · by_cases h3 : t = s
    · subst h3
      rw [if_pos (Or.inr ⟨rfl, by rw [List.take_length]; exact h2⟩), if_pos (Or.inl (by omega))]
    · rw [if_neg (by rintro (q | q); exact h1 q; exact h3 q.1), if_neg (by rintro (q | q); omega; exact absurd q.2 (by simp))]
theorem yFnd_hit {ba : Nat → Nat} {Y : YD} {b t s k : Nat} (h : yIn ba Y b t) (hk : (Y s)[k]? = some b) : nI s = yFnd Y b t s (k + 1) := by
  have hs : s = t := h.2.2.1 s (List.mem_of_getElem? hk)
  subst hs
  unfold yFnd
  rw [if_pos]
  refine Or.inr ⟨rfl, ?_⟩
  have : ((Y s).take (k + 1))[k]? = some b := by rw [List.getElem?_take]; simp [hk]
  exact List.mem_of_getElem? this
theorem yFnd_miss {Y : YD} {b t s k c : Nat} (hk : (Y s)[k]? = some c) (hc : c ≠ b) : yFnd Y b t s k = yFnd Y b t s (k + 1) := by
  unfold yFnd
  rw [List.take_add_one, hk]
  simp only [Option.toList_some, List.mem_append, List.mem_singleton, Ne.symm hc, or_false]
theorem yFnd_last {ba : Nat → Nat} {Y : YD} {b t : Nat} (h : yIn ba Y b t) : yFnd Y b t 4 0 = nI t := by
  unfold yFnd; rw [if_pos (Or.inl h.1)]
theorem yFnd_first {Y : YD} {b t : Nat} : yFnd Y b t 0 0 = -1 := by
  unfold yFnd; rw [if_neg]; simp
theorem zvs {α : Type} (f : Nat → α) (k : Nat) (v : α) : va_up f k v k = v := by unfold va_up; rw [if_pos rfl]
theorem zvn {α : Type} {f : Nat → α} {k j : Nat} {v : α} (h : j ≠ k) : va_up f k v j = f j := by unfold va_up; rw [if_neg h]
/-- lists of numbers in the order of a dictionary -/
def lexL : List Nat → List Nat → Prop
  | [], [] => False
  | [], _ :: _ => True
  | _ :: _, [] => False
  | a :: as, b :: bs => a < b ∨ (a = b ∧ lexL as bs)
theorem lexL_irr : ∀ a : List Nat, ¬ lexL a a
  | [] => fun h => h
  | a :: as => fun h => by rcases h with h | h; exact Nat.lt_irrefl _ h; exact lexL_irr as h.2
theorem lexL_tr : ∀ {a b c : List Nat}, lexL a b → lexL b c → lexL a c
  | [], [], _, h, _ => h.elim
  | [], _ :: _, [], _, h => h.elim
  | [], _ :: _, _ :: _, _, _ => trivial
  | _ :: _, [], _, h, _ => h.elim
  | _ :: _, _ :: _, [], _, h => h.elim
  | a :: as, b :: bs, c :: cs, h1, h2 => by
    rcases h1 with h1 | ⟨rfl, h1⟩ <;> rcases h2 with h2 | ⟨rfl, h2⟩
    · exact Or.inl (Nat.lt_trans h1 h2)
    · exact Or.inl h1
    · exact Or.inl h2
    · exact Or.inr ⟨rfl, lexL_tr h1 h2⟩
theorem lexL_tri : ∀ a b : List Nat, lexL a b ∨ a = b ∨ lexL b a
  | [], [] => Or.inr (Or.inl rfl)
  | [], _ :: _ => Or.inl trivial
  | _ :: _, [] => Or.inr (Or.inr trivial)
  | a :: as, b :: bs => by
    rcases Nat.lt_trichotomy a b with h | rfl | h
    · exact Or.inl (Or.inl h)
    · rcases lexL_tri as bs with h | rfl | h
      · exact Or.inl (Or.inr ⟨rfl, h⟩)
      · exact Or.inr (Or.inl rfl)
      · exact Or.inr (Or.inr (Or.inr ⟨rfl, h⟩))
    · exact Or.inr (Or.inr (Or.inl h))
theorem lexL_as {a b : List Nat} (h : lexL a b) : ¬ lexL b a := fun h2 => lexL_irr a (lexL_tr h h2)
theorem lexL_app : ∀ (p : List Nat) {a b : List Nat}, lexL (p ++ a) (p ++ b) ↔ lexL a b
  | [], _, _ => Iff.rfl
  | x :: p, a, b => by
    show (x < x ∨ (x = x ∧ lexL (p ++ a) (p ++ b))) ↔ _
    rw [lexL_app p]
    constructor
    · rintro (h | h)
      · exact absurd h (Nat.lt_irrefl _)
      · exact h.2
    · intro h
      exact Or.inr ⟨rfl, h⟩
/-- what a comparison answers -/
def zCmp (r : Int32) (a b : List Nat) : Prop := (r < 0 ↔ lexL a b) ∧ (r = 0 ↔ a = b)
theorem zCmp_gt {r : Int32} {a b : List Nat} (h : zCmp r a b) (h1 : ¬ r < 0) (h2 : ¬ r = 0) : lexL b a := by
  rcases lexL_tri a b with q | q | q
  · exact absurd (h.1.mpr q) h1
  · exact absurd (h.2.mpr q) h2
  · exact q
theorem i32_lt0 (r : Int32) : r < 0 ↔ r.toInt < 0 := by rw [Int32.lt_iff_toInt_lt, Int32.toInt_zero]
theorem zCmp_pos {r : Int32} {a b : List Nat} (h : zCmp r a b) (h1 : 0 < r) : lexL b a := by
  rw [Int32.lt_iff_toInt_lt, Int32.toInt_zero] at h1
  refine zCmp_gt h ?_ ?_
  · rw [i32_lt0]; omega
  · intro q; rw [q, Int32.toInt_zero] at h1; omega
theorem zCmp_npos {r : Int32} {a b : List Nat} (h : zCmp r a b) (h1 : ¬ 0 < r) : ¬ lexL b a := by
  intro q
  have h2 : ¬ r < 0 := fun z => lexL_as (h.1.mp z) q
  have h3 : ¬ r = 0 := fun z => by rw [h.2.mp z] at q; exact lexL_irr _ q
  rw [Int32.lt_iff_toInt_lt, Int32.toInt_zero] at h1
  rw [i32_lt0] at h2
  have h4 : r.toInt = 0 := by omega
  exact h3 (Int32.toInt_inj.mp (by rw [h4, Int32.toInt_zero]))
/-- a yard as a list of numbers -/
def yEf (Y : YD) : Nat → Nat → List Nat
  | 0, _ => []
  | n + 1, s => (Y s).length :: (Y s ++ yEf Y n (s + 1))
def yEnc (Y : YD) : List Nat := yEf Y 4 0
theorem zCmp_head : ∀ a, a < 32 → ∀ b, b < 32 → a ≠ b → ((nI 1000 * (nI a - nI b) < 0 ↔ a < b) ∧ nI 1000 * (nI a - nI b) ≠ 0 ∧ nI a - nI b ≠ 0) := by decide +kernel
theorem zCmp_cons {a b : Nat} (ha : a < 32) (hb : b < 32) (h : a ≠ b) (x y : List Nat) : zCmp (nI 1000 * (nI a - nI b)) (a :: x) (b :: y) := by
  obtain ⟨h1, h2, -⟩ := zCmp_head a ha b hb h
  refine ⟨?_, ?_⟩
  · rw [h1]
    constructor
    · intro q; exact Or.inl q
    · rintro (q | q)
      · exact q
      · exact absurd q.1 h
  · constructor
    · intro q; exact absurd q h2
    · intro q; cases q; exact absurd rfl h
theorem zCmp_pre {r : Int32} (p : List Nat) {x y : List Nat} (h : zCmp r x y) : zCmp r (p ++ x) (p ++ y) :=
  ⟨h.1.trans (lexL_app p).symm, h.2.trans (List.append_cancel_left_eq p x y ▸ Iff.rfl)⟩
theorem zCmp_self (a : List Nat) : zCmp 0 a a := ⟨⟨fun h => absurd h (by decide), fun h => absurd h (lexL_irr a)⟩, ⟨fun _ => rfl, fun _ => rfl⟩⟩
theorem sub_self32 (a : Nat) : nI a - nI a = 0 := Int32.sub_self _
theorem take_ext {x y : List Nat} {k c : Nat} (h : x.take k = y.take k) (h1 : x[k]? = some c) (h2 : y[k]? = some c) : x.take (k + 1) = y.take (k + 1) := by
  rw [List.take_add_one, List.take_add_one, h, h1, h2]
theorem yEf_mis {Y1 Y2 : YD} {n s k c1 c2 : Nat} (hl : (Y1 s).length = (Y2 s).length) (ht : (Y1 s).take k = (Y2 s).take k) (h1 : (Y1 s)[k]? = some c1) (h2 : (Y2 s)[k]? = some c2) (b1 : c1 < 32) (b2 : c2 < 32) (hc : c1 ≠ c2) : zCmp (nI 1000 * (nI c1 - nI c2)) (yEf Y1 (n + 1) s) (yEf Y2 (n + 1) s) := by
  have e : ∀ (x : List Nat) (c : Nat), x[k]? = some c → x = x.take k ++ (c :: x.drop (k + 1)) := fun x c h => by
    have hk := (List.getElem?_eq_some_iff.mp h).1
    have h3 : x[k] = c := (List.getElem?_eq_some_iff.mp h).2
    rw [← h3, List.getElem_cons_drop, List.take_append_drop]
  show zCmp _ ((Y1 s).length :: (Y1 s ++ yEf Y1 n (s + 1))) ((Y2 s).length :: (Y2 s ++ yEf Y2 n (s + 1)))
  rw [hl]
  refine zCmp_pre [(Y2 s).length] ?_
  show zCmp _ (Y1 s ++ yEf Y1 n (s + 1)) (Y2 s ++ yEf Y2 n (s + 1))
  rw [e _ _ h1, e _ _ h2, ht, List.append_assoc, List.append_assoc]
  exact zCmp_pre _ (zCmp_cons b1 b2 hc _ _)
theorem yEf_len {Y1 Y2 : YD} {n s : Nat} (b1 : (Y1 s).length < 32) (b2 : (Y2 s).length < 32) (hc : (Y1 s).length ≠ (Y2 s).length) : zCmp (nI 1000 * (nI (Y1 s).length - nI (Y2 s).length)) (yEf Y1 (n + 1) s) (yEf Y2 (n + 1) s) := zCmp_cons b1 b2 hc _ _
theorem yEf_eq {Y1 Y2 : YD} {n s : Nat} {r : Int32} (h : Y1 s = Y2 s) (hr : zCmp r (yEf Y1 n (s + 1)) (yEf Y2 n (s + 1))) : zCmp r (yEf Y1 (n + 1) s) (yEf Y2 (n + 1) s) := by
  show zCmp _ ((Y1 s).length :: (Y1 s ++ yEf Y1 n (s + 1))) ((Y2 s).length :: (Y2 s ++ yEf Y2 n (s + 1)))
  rw [h]
  exact zCmp_pre [(Y2 s).length] (zCmp_pre _ hr)
/-- nothing known is changed, but on S -/
def zUnc (V V' : ZV) (S : Nat → Prop) : Prop := ∀ a, ¬ S a → V a ≠ none → V' a = V a
theorem zUnc.rf {V : ZV} {S : Nat → Prop} : zUnc V V S := fun _ _ _ => rfl
theorem zUnc.up {V V1 V2 : ZV} {S : Nat → Prop} {a : Nat} {e : Option va_E} (h : zUnc V V1 S) (hV : V2 = va_up V1 a e) (ha : S a) : zUnc V V2 S := fun x hx hn => by
  rw [hV]; unfold va_up; rw [if_neg (fun z => hx (by rw [z]; exact ha))]; exact h x hx hn
theorem zUnc.new {V V1 V2 : ZV} {S : Nat → Prop} {q : Nat} {e : Option va_E} (h : zUnc V V1 S) (hV : V2 = va_up V1 q e) (hq : V1 q = none) : zUnc V V2 S := fun x hx hn => by
  have h1 := h x hx hn
  rw [hV]; unfold va_up; rw [if_neg (fun z => hn (by rw [← h1, z]; exact hq))]; exact h1
theorem zUnc.upn {V V1 V2 : ZV} {S : Nat → Prop} {a : Nat} {e : Option va_E} (h : zUnc V V1 S) (hV : V2 = va_up V1 a e) (ha : V a = none) : zUnc V V2 S := fun x hx hn => by
  rw [hV]; unfold va_up; rw [if_neg (fun z => hn (by rw [z]; exact ha))]; exact h x hx hn
theorem zUnc.tr {V V1 V2 : ZV} {S S1 : Nat → Prop} (h : zUnc V V1 S) (h2 : zUnc V1 V2 S1) (hs : ∀ a, S1 a → S a ∨ V a = none) : zUnc V V2 S := fun x hx hn => by
  have h1 := h x hx hn
  rw [h2 x (fun z => (hs x z).elim hx hn) (by rw [h1]; exact hn), h1]
theorem zUnc.get {V V' : ZV} {S : Nat → Prop} {a : Nat} {e : va_E} (h : zUnc V V' S) (hs : ¬ S a) (ha : V a = some e) : V' a = some e := (h a hs (by rw [ha]; simp)).trans ha
theorem zUnc.none {V V' : ZV} {S : Nat → Prop} {a : Nat} (h : zUnc V V' S) (hs : ¬ S a) (ha : V' a = none) : V a = none := by
  cases hv : V a with
  | none => rfl
  | some e => rw [h.get hs hv] at ha; cases ha
/-- the box b, as the table of boxes has it -/
def oBox (wt : Nat → Nat) (hld : Nat → Int32) (unt : Nat → Nat) (c : Nat) : va_E := .inr (3, [.int (nI c), .int (nI (wt c)), .int (hld c), .int (nI (unt c))])
/-- all boxes, by number -/
def hBx (V : ZV) (ba : Nat → Nat) (nb : Nat) (wt : Nat → Nat) (hld : Nat → Int32) (unt : Nat → Nat) : Prop := ∀ c, c < nb → V (ba c) = some (oBox wt hld unt c)
def yTk (wt : Nat → Nat) (Y : YD) (s r w : Nat) : Bool := decide ((Y s).length < r) && (match (Y s).getLast? with | none => true | some u => decide (w ≤ wt u))
theorem yLast {Y : YD} {s n : Nat} (h : (Y s).length = n + 1) : ∃ u, (Y s)[n]? = some u ∧ (Y s).getLast? = some u := by
  obtain ⟨u, hu⟩ : ∃ u, (Y s)[n]? = some u := ⟨_, List.getElem?_eq_getElem (by omega)⟩
  exact ⟨u, hu, by rw [List.getLast?_eq_getElem?, h]; exact hu⟩
