/-! STATE: what both classes stand for, and what each call does to it -/
set_option maxRecDepth 100000
/-- stacks, reaches | boxes, weights, inside, holds, untils | yard | appointments: count, boxes, hours, lanes, states | moves | now | left -/
abbrev QS : Type := (Nat × (Nat → Nat)) × (Nat × (Nat → Nat) × (Nat → Bool) × (Nat → Int32) × (Nat → Nat)) × (Nat → List Nat) × (Nat × (Nat → Nat) × (Nat → Nat) × (Nat → Nat) × (Nat → Int32)) × Int32 × Nat × Int64
def qst (S : QS) : Nat := S.1.1
def qrch (S : QS) : Nat → Nat := S.1.2
def qbx (S : QS) : Nat := S.2.1.1
def qwt (S : QS) : Nat → Nat := S.2.1.2.1
def qins (S : QS) : Nat → Bool := S.2.1.2.2.1
def qhld (S : QS) : Nat → Int32 := S.2.1.2.2.2.1
def qunt (S : QS) : Nat → Nat := S.2.1.2.2.2.2
def qY (S : QS) : YD := S.2.2.1
def qap (S : QS) : Nat := S.2.2.2.1.1
def qab (S : QS) : Nat → Nat := S.2.2.2.1.2.1
def qhr (S : QS) : Nat → Nat := S.2.2.2.1.2.2.1
def qln (S : QS) : Nat → Nat := S.2.2.2.1.2.2.2.1
def qsa (S : QS) : Nat → Int32 := S.2.2.2.1.2.2.2.2
def qmv (S : QS) : Int32 := S.2.2.2.2.1
def qnw (S : QS) : Nat := S.2.2.2.2.2.1
def qlf (S : QS) : Int64 := S.2.2.2.2.2.2
abbrev qS (st : Nat) (rch : Nat → Nat) (bx : Nat) (wt : Nat → Nat) (ins : Nat → Bool) (hld : Nat → Int32) (unt : Nat → Nat) (Y : YD) (ap : Nat) (ab hr ln : Nat → Nat) (sa : Nat → Int32) (mv : Int32) (nw : Nat) (lf : Int64) : QS :=
  ((st, rch), (bx, wt, ins, hld, unt), Y, (ap, ab, hr, ln, sa), mv, nw, lf)
def sStk (S : QS) (st : Nat) (rch : Nat → Nat) : QS := ((st, rch), S.2)
def sBox (S : QS) (bx : Nat) (wt : Nat → Nat) (ins : Nat → Bool) (hld : Nat → Int32) (unt : Nat → Nat) : QS := (S.1, (bx, wt, ins, hld, unt), S.2.2)
def sYd (S : QS) (Y : YD) : QS := (S.1, S.2.1, Y, S.2.2.2)
def sAp (S : QS) (ap : Nat) (ab hr ln : Nat → Nat) (sa : Nat → Int32) : QS := (S.1, S.2.1, S.2.2.1, (ap, ab, hr, ln, sa), S.2.2.2.2)
def sMv (S : QS) (mv : Int32) : QS := (S.1, S.2.1, S.2.2.1, S.2.2.2.1, mv, S.2.2.2.2.2)
def sNw (S : QS) (nw : Nat) : QS := (S.1, S.2.1, S.2.2.1, S.2.2.2.1, S.2.2.2.2.1, nw, S.2.2.2.2.2.2)
def sLf (S : QS) (lf : Int64) : QS := (S.1, S.2.1, S.2.2.1, S.2.2.2.1, S.2.2.2.2.1, S.2.2.2.2.2.1, lf)
def sSa (S : QS) (a : Nat) (c : Int32) : QS := sAp S (qap S) (qab S) (qhr S) (qln S) (va_up (qsa S) a c)
def sHld (S : QS) (h : Nat → Int32) : QS := sBox S (qbx S) (qwt S) (qins S) h (qunt S)
/-- the first below n, if any -/
def fF (p : Nat → Bool) : Nat → Option Nat
  | 0 => none
  | n + 1 => match fF p n with
    | some a => some a
    | none => if p n = true then some n else none
theorem fF_no {p : Nat → Bool} : ∀ {n : Nat}, (∀ j, j < n → p j = false) → fF p n = none
  | 0, _ => rfl
  | n + 1, h => by
    unfold fF
    rw [fF_no (fun j hj => h j (by omega)), h n (by omega)]
    rfl
theorem fF_at {p : Nat → Bool} {a : Nat} (ha : p a = true) (h : ∀ j, j < a → p j = false) : ∀ {n : Nat}, a < n → fF p n = some a
  | 0, q => absurd q (Nat.not_lt_zero _)
  | n + 1, q => by
    unfold fF
    by_cases e : a = n
    · subst e; rw [fF_no h, ha]; rfl
    · rw [fF_at ha h (by omega : a < n)]
theorem fF_some {p : Nat → Bool} : ∀ {n a : Nat}, fF p n = some a → a < n ∧ p a = true ∧ ∀ j, j < a → p j = false
  | 0, a, h => by cases h
  | n + 1, a, h => by
    unfold fF at h
    cases e : fF p n with
    | some b =>
      rw [e] at h; cases h
      obtain ⟨h1, h2, h3⟩ := fF_some e
      exact ⟨by omega, h2, h3⟩
    | none =>
      rw [e] at h
      by_cases hp : p n = true
      · rw [show (match (none : Option Nat) with | some a => some a | none => if p n = true then some n else none) = (if p n = true then some n else none) from rfl, if_pos hp] at h
        cases h
        refine ⟨by omega, hp, fun j hj => ?_⟩
        cases hq : p j with
        | false => rfl
        | true =>
          exfalso
          have : ∀ {m : Nat}, j < m → fF p m ≠ none := by
            intro m
            induction m with
            | zero => intro q; exact absurd q (Nat.not_lt_zero _)
            | succ m ih =>
              intro q
              unfold fF
              cases e2 : fF p m with
              | some c => intro z; cases z
              | none =>
                by_cases e3 : j = m
                · subst e3; rw [show (match (none : Option Nat) with | some a => some a | none => if p j = true then some j else none) = (if p j = true then some j else none) from rfl, if_pos hq]; intro z; cases z
                · exact absurd e2 (ih (by omega))
          exact this hj e
      · rw [show (match (none : Option Nat) with | some a => some a | none => if p n = true then some n else none) = (if p n = true then some n else none) from rfl, if_neg hp] at h
        cases h
theorem fF_none {p : Nat → Bool} {n : Nat} (h : fF p n = none) (j : Nat) (hj : j < n) : p j = false := by
  cases hq : p j with
  | false => rfl
  | true =>
    exfalso
    -- the least one
    have : ∀ m, ∀ k, k ≤ m → p k = true → ∃ a, a ≤ m ∧ p a = true ∧ ∀ i, i < a → p i = false := by
      intro m
      induction m with
      | zero => intro k hk hp; exact ⟨k, hk, hp, fun i hi => absurd hi (by omega)⟩
      | succ m ih =>
        intro k hk hp
        by_cases e : ∃ i, i ≤ m ∧ p i = true
        · obtain ⟨i, hi, hpi⟩ := e
          obtain ⟨a, h1, h2, h3⟩ := ih i hi hpi
          exact ⟨a, by omega, h2, h3⟩
        · refine ⟨k, hk, hp, fun i hi => ?_⟩
          cases e2 : p i with
          | false => rfl
          | true => exact absurd ⟨i, by omega, e2⟩ e
    obtain ⟨a, h1, h2, h3⟩ := this j j (Nat.le_refl _) hq
    rw [fF_at h2 h3 (by omega : a < n)] at h
    cases h
/-- how many below n -/
def fC (p : Nat → Bool) : Nat → Nat
  | 0 => 0
  | n + 1 => fC p n + (if p n = true then 1 else 0)
theorem fC_le (p : Nat → Bool) : ∀ n, fC p n ≤ n
  | 0 => Nat.le_refl _
  | n + 1 => by
    have := fC_le p n
    unfold fC
    by_cases h : p n = true
    · rw [if_pos h]; omega
    · rw [if_neg h]; omega
theorem fC_zero {p : Nat → Bool} : ∀ {n : Nat}, (∀ j, j < n → p j = false) → fC p n = 0
  | 0, _ => rfl
  | n + 1, h => by
    unfold fC
    rw [fC_zero (fun j hj => h j (by omega)), h n (by omega)]; rfl
theorem fC_cong {p q : Nat → Bool} : ∀ {n : Nat}, (∀ j, j < n → p j = q j) → fC p n = fC q n
  | 0, _ => rfl
  | n + 1, h => by
    unfold fC
    rw [fC_cong (fun j hj => h j (by omega)), h n (by omega)]
/-- an int as a number; what is below 0 is beyond all -/
def vN (v : Int32) : Nat := if 0 ≤ v.toInt then v.toInt.toNat else 4294967296
theorem vN_of {v : Int32} {n : Nat} (h : vN v < n) (hn : n ≤ 4294967296) : v = nI (vN v) := by
  unfold vN at h ⊢
  by_cases h0 : 0 ≤ v.toInt
  · rw [if_pos h0]
    refine Int32.toInt_inj.mp ?_
    have h1 : v.toInt < 2147483648 := Int32.toInt_lt v
    unfold nI
    rw [Int32.toInt_ofNat_of_lt (by omega)]
    omega
  · rw [if_neg h0] at h; omega
theorem vN_nI {k : Nat} (h : k < 2147483648) : vN (nI k) = k := by
  unfold vN nI
  rw [Int32.toInt_ofNat_of_lt h, if_pos (by omega)]
  omega
theorem in_le {v : Int32} {lo hi : Nat} (h1 : lo < 2147483648) (h2 : hi < 2147483648) : decide (nI lo ≤ v ∧ v ≤ nI hi) = decide (lo ≤ vN v ∧ vN v ≤ hi) := by
  refine decide_eq_decide.mpr ?_
  rw [Int32.le_iff_toInt_le, Int32.le_iff_toInt_le]
  unfold nI vN
  rw [Int32.toInt_ofNat_of_lt h1, Int32.toInt_ofNat_of_lt h2]
  by_cases h0 : 0 ≤ v.toInt
  · rw [if_pos h0]; omega
  · rw [if_neg h0]; omega
theorem nI_m1 {n : Nat} (h : n < 2147483648) : (nI n - nI 1).toInt = (n : Int) - 1 := by
  unfold nI
  rw [Int32.toInt_sub, Int32.toInt_ofNat_of_lt h, Int32.toInt_ofNat_of_lt (by decide)]
  rw [Int.bmod_eq_of_le (by omega) (by omega)]
  rfl
theorem in_lt {v : Int32} {lo n : Nat} (h1 : lo < 2147483648) (h2 : n < 2147483648) : decide (nI lo ≤ v ∧ v ≤ nI n - nI 1) = decide (lo ≤ vN v ∧ vN v < n) := by
  refine decide_eq_decide.mpr ?_
  rw [Int32.le_iff_toInt_le, Int32.le_iff_toInt_le, nI_m1 h2]
  unfold nI vN
  rw [Int32.toInt_ofNat_of_lt h1]
  by_cases h0 : 0 ≤ v.toInt
  · rw [if_pos h0]; omega
  · rw [if_neg h0]; omega
/-- a box that is in the yard -/
def qIs (S : QS) (b : Nat) : Bool := decide (b < qbx S) && qins S b
theorem qIs_t {S : QS} {b : Nat} (h : qIs S b = true) : b < qbx S ∧ qins S b = true := by
  unfold qIs at h
  simpa [Bool.and_eq_true] using h
def qL (S : QS) (t : Nat) : YD → Nat → Bool := yLeg (qst S) (qrch S) (qwt S) (qins S) (pin' (qhld S)) t
noncomputable def qPlan (S : QS) (t : Nat) : Option (List Nat) := @Classical.epsilon (Option (List Nat)) ⟨none⟩ (fun o => sPlan (qL S t) t (qY S) o)
theorem qPlan_eq {S : QS} {t : Nat} {o : Option (List Nat)} (h : sPlan (qL S t) t (qY S) o) : qPlan S t = o := sPlan_uq (Classical.epsilon_spec (p := fun o => sPlan (qL S t) t (qY S) o) ⟨o, h⟩) h
/-- what holds of a state; lanes below k have had their turn in this hour -/
def qI (k : Nat) (S : QS) : Prop :=
  (qst S ≤ 4 ∧ qbx S ≤ 20 ∧ (∀ s, s < qst S → 1 ≤ qrch S s ∧ qrch S s ≤ 4) ∧ (∀ b, b < qbx S → 1 ≤ qwt S b ∧ qwt S b ≤ 30)) ∧
  (yGood (qst S) (qbx S) (qins S) (qY S) ∧ (∀ s, s < qst S → (qY S s).length ≤ qrch S s) ∧ fC (qins S) (qbx S) ≤ 8) ∧
  ((∀ b, qbx S ≤ b → qunt S b = 0) ∧ (∀ b, qunt S b ≤ 1000) ∧ ∀ b, b < qbx S → qhld S b = nI 45 ∨ qhld S b = nI 112 ∨ qhld S b = nI 108) ∧
  (qap S ≤ 30 ∧ (∀ a, a < qap S → qab S a < qbx S ∧ qhr S a ≤ 999 ∧ qln S a < 3 ∧ (qsa S a = nI 98 ∨ qsa S a = nI 99 ∨ qsa S a = nI 103 ∨ qsa S a = nI 100 ∨ qsa S a = nI 109)) ∧
    (∀ a, a < qap S → qsa S a = nI 98 → qins S (qab S a) = true ∧ (qnw S < qhr S a ∨ (qnw S = qhr S a ∧ k ≤ qln S a))) ∧
    ∀ a c, a < qap S → c < qap S → qsa S a = nI 98 → qsa S c = nI 98 → qab S a = qab S c ∨ (qhr S a = qhr S c ∧ qln S a = qln S c) → a = c) ∧
  qnw S ≤ 999
abbrev OR : Type := Nat × Int32 × QS
/-- b's booked appointment -/
def qAin (S : QS) (b : Nat) : Option Nat := fF (fun a => decide (qab S a = b) && decide (qsa S a = nI 98)) (qap S)
/-- who is booked in a lane at an hour -/
def qBin (S : QS) (l h : Nat) : Option Nat := fF (fun a => decide (qln S a = l) && (decide (qhr S a = h) && decide (qsa S a = nI 98))) (qap S)
def qHeld (S : QS) (b h : Nat) : Bool := !decide (qhld S b = nI 45) && decide (h < qunt S b)
def oAddStack (S : QS) (r : Nat) : OR := if ¬(1 ≤ r ∧ r ≤ 4) then (1, 0, S) else if qst S = 4 then (2, 0, S) else (0, nI (qst S), sStk S (qst S + 1) (va_up (qrch S) (qst S) r))
def oAddBox (S : QS) (w s : Nat) : OR :=
  if ¬ s < qst S then (1, 0, S) else if ¬(1 ≤ w ∧ w ≤ 30) then (2, 0, S) else if yTk (qwt S) (qY S) s (qrch S s) w = false then (3, 0, S)
  else if fC (qins S) (qbx S) = 8 ∨ qbx S = 20 then (4, 0, S)
  else (0, nI (qbx S), sYd (sBox S (qbx S + 1) (va_up (qwt S) (qbx S) w) (va_up (qins S) (qbx S) true) (va_up (qhld S) (qbx S) (nI 45)) (qunt S)) (va_up (qY S) s (qY S s ++ [qbx S])))
def oBx (S : QS) (b : Nat) (r : Int32) : OR := if qIs S b = true then (0, r, S) else (1, 0, S)
def oWeight (S : QS) (b : Nat) : OR := oBx S b (nI (qwt S b))
def oStackOf (S : QS) (b : Nat) : OR := oBx S b (nI (yPl (qY S) b))
def oLevel (S : QS) (b : Nat) : OR := oBx S b (nI ((qY S (yPl (qY S) b)).idxOf b))
def oAbove (S : QS) (b : Nat) : OR := oBx S b (nI (yAb (qY S) b))
def oHeight (S : QS) (s : Nat) : OR := if s < qst S then (0, nI (qY S s).length, S) else (1, 0, S)
def oBoxAt (S : QS) (s k : Nat) : OR := if ¬ s < qst S then (1, 0, S) else if k < (qY S s).length then (0, nI ((qY S s).getD k 0), S) else (2, 0, S)
def oHold (S : QS) (b : Nat) (kind : Int32) (u : Nat) : OR :=
  if qIs S b = false then (1, 0, S) else if (kind ≠ nI 112 ∧ kind ≠ nI 108) ∨ ¬(qnw S + 1 ≤ u ∧ u ≤ 1000) then (2, 0, S)
  else match qAin S b with
    | none => (0, 0, sBox S (qbx S) (qwt S) (qins S) (va_up (qhld S) b kind) (va_up (qunt S) b u))
    | some a => if u ≤ qhr S a then (0, 0, sBox S (qbx S) (qwt S) (qins S) (va_up (qhld S) b kind) (va_up (qunt S) b u))
      else (0, nI 1, sSa (sBox S (qbx S) (qwt S) (qins S) (va_up (qhld S) b kind) (va_up (qunt S) b u)) a (nI 103))
def oRelease (S : QS) (b : Nat) : OR := if qIs S b = false then (1, 0, S) else if qhld S b = nI 45 then (2, 0, S) else (0, nI (qunt S b), sHld S (va_up (qhld S) b (nI 45)))
def oHoldOf (S : QS) (b : Nat) : OR := oBx S b (qhld S b)
def oHeldUntil (S : QS) (b : Nat) : OR := if qIs S b = false then (1, 0, S) else if qhld S b = nI 45 then (2, 0, S) else (0, nI (qunt S b), S)
def qPin (S : QS) (b : Nat) : Nat := fC (fun j => decide ((qY S (yPl (qY S) b)).idxOf b < j) && pin' (qhld S) ((qY S (yPl (qY S) b)).getD j 0)) (qY S (yPl (qY S) b)).length
def oPinned (S : QS) (b : Nat) : OR := oBx S b (nI (qPin S b))
/-- why a box can't be laid on a stack -/
def yWhy (rch wt : Nat → Nat) (pin : Nat → Bool) (Y : YD) (t b s : Nat) : Int32 :=
  if ¬ (Y t).getLast? = some b then nI 116 else if pin b = true then nI 112 else if t = s then nI 115 else if (Y s).length = rch s then nI 102 else if yTk wt Y s (rch s) (wt b) = true then nI 45 else nI 119
def oWhy (S : QS) (b s : Nat) : OR := if qIs S b = true ∧ s < qst S then (0, yWhy (qrch S) (qwt S) (pin' (qhld S)) (qY S) (yPl (qY S) b) b s, S) else (1, 0, S)
def oMove (S : QS) (b s : Nat) : OR :=
  if ¬(qIs S b = true ∧ s < qst S) then (1, 0, S) else if yCan (qrch S) (qwt S) (pin' (qhld S)) (qY S) (yPl (qY S) b) b s = false then (2, 0, S)
  else (0, qmv S + nI 1, sMv (sYd S (yMv (qY S) (yPl (qY S) b) s b)) (qmv S + nI 1))
noncomputable def oPlanLen (S : QS) (b : Nat) : OR := if qIs S b = false then (1, 0, S) else match qPlan S b with | none => (2, 0, S) | some ms => (0, nI ms.length, S)
noncomputable def oPlanAt (S : QS) (b i : Nat) (f : Nat → Nat) : OR := if qIs S b = false then (1, 0, S) else match qPlan S b with | none => (2, 0, S) | some ms => if i < ms.length then (0, nI (f (ms.getD i 0)), S) else (2, 0, S)
/-- the plan made -/
def qMake (S : QS) (t : Nat) (ms : List Nat) : QS := sMv (sYd S ((yRun (qL S t) (qY S) ms).getD (qY S))) (qmv S + nI ms.length)
noncomputable def oDig (S : QS) (b : Nat) : OR := if qIs S b = false then (1, 0, S) else match qPlan S b with | none => (2, 0, S) | some ms => (0, nI ms.length, qMake S b ms)
def oBook (S : QS) (b h l : Nat) : OR :=
  if ¬(qIs S b = true ∧ l ≤ 2) then (1, 0, S) else if ¬(qnw S + 1 ≤ h ∧ h ≤ 999) then (2, 0, S) else if qHeld S b h = true then (3, 0, S)
  else if qAin S b ≠ none ∨ qBin S l h ≠ none ∨ qap S = 30 then (4, 0, S)
  else (0, nI (qap S), sAp S (qap S + 1) (va_up (qab S) (qap S) b) (va_up (qhr S) (qap S) h) (va_up (qln S) (qap S) l) (va_up (qsa S) (qap S) (nI 98)))
def qCnt (S : QS) (c : Int32) : Nat := fC (fun a => decide (qsa S a = c)) (qap S)
def oCancel (S : QS) (a : Nat) : OR := if ¬ a < qap S then (1, 0, S) else if ¬ qsa S a = nI 98 then (2, 0, S) else (0, nI (qCnt (sSa S a (nI 99)) (nI 98)), sSa S a (nI 99))
def oStateOf (S : QS) (a : Nat) : OR := if a < qap S then (0, qsa S a, S) else (1, 0, S)
def oAppOf (S : QS) (b : Nat) : OR := if qIs S b = false then (1, 0, S) else match qAin S b with | none => (2, 0, S) | some a => (0, nI a, S)
def oInLane (S : QS) (l h : Nat) : OR := if ¬ l ≤ 2 then (1, 0, S) else if h ≤ 999 then (0, oInt (qBin S l h), S) else (2, 0, S)
def qFree (S : QS) (h : Nat) : Bool := (qBin S 0 h).isNone || ((qBin S 1 h).isNone || (qBin S 2 h).isNone)
def qFirst (S : QS) (b : Nat) : Option Nat := fF (fun h => decide (qnw S < h) && (qFree S h && !qHeld S b h)) 1000
def oFirst (S : QS) (b : Nat) : OR := if qIs S b = false then (1, 0, S) else match qFirst S b with | none => (2, 0, S) | some h => (0, nI h, S)
/-- a box taken out -/
def qOut (S : QS) (b : Nat) : QS := sLf (sYd (sBox S (qbx S) (qwt S) (va_up (qins S) b false) (qhld S) (qunt S)) (va_up (qY S) (yPl (qY S) b) (qY S (yPl (qY S) b)).dropLast)) (qlf S + (nI (qwt S b)).toInt64)
noncomputable def qServe (S : QS) (a : Nat) : Bool × QS :=
  match (if qhld S (qab S a) = nI 45 then qPlan S (qab S a) else none) with
  | none => (false, sSa S a (nI 109))
  | some ms => (true, qOut (qMake (sSa S a (nI 100)) (qab S a) ms) (qab S a))
noncomputable def qLane (n : Nat) (S : QS) (l : Nat) : Nat × QS := match qBin S l (qnw S) with | none => (n, S) | some a => (n + (if (qServe S a).1 = true then 1 else 0), (qServe S a).2)
def qTick (S : QS) : QS := sHld (sNw S (qnw S + 1)) (fun b => if b < qbx S ∧ qunt S b = qnw S + 1 then nI 45 else qhld S b)
noncomputable def qHour (n : Nat) (S : QS) : Nat × QS := qLane (qLane (qLane n (qTick S) 0).1 (qLane n (qTick S) 0).2 1).1 (qLane (qLane n (qTick S) 0).1 (qLane n (qTick S) 0).2 1).2 2
noncomputable def qHours : Nat → Nat → QS → Nat × QS
  | 0, n, S => (n, S)
  | k + 1, n, S => qHour (qHours k n S).1 (qHours k n S).2
noncomputable def oPass (S : QS) (k : Nat) : OR := if ¬(1 ≤ k ∧ k ≤ 24) ∨ 999 < qnw S + k then (1, 0, S) else (0, nI (qHours k 0 S).1, (qHours k 0 S).2)
def oShare (S : QS) : Nat × UInt32 := if qCnt S (nI 100) + qCnt S (nI 109) + qCnt S (nI 103) = 0 then (1, FP.fconst0) else (0, FP.fdiv (FP.i2f (nI (qCnt S (nI 100)))) (FP.i2f (nI (qCnt S (nI 100) + qCnt S (nI 109) + qCnt S (nI 103)))))
