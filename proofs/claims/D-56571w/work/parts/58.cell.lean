/-! COMPONENT: plans in the heap; the room of the queue -/
set_option maxRecDepth 100000
/-- how often, to how much and with how many slots the queue's array grows till it holds n -/
def gC : Nat → Nat → Nat → Nat
  | 0, _, _ => 0
  | f + 1, c, n => if n ≤ c then 0 else 1 + gC f (pcap c) n
def gW : Nat → Nat → Nat → Nat
  | 0, _, _ => 0
  | f + 1, c, n => if n ≤ c then 0 else pcap c + gW f (pcap c) n
def gE : Nat → Nat → Nat → Nat
  | 0, c, _ => c
  | f + 1, c, n => if n ≤ c then c else gE f (pcap c) n
theorem pcap_gt {c : Nat} (h : 2 ≤ c) : c < pcap c := by unfold pcap; split <;> omega
/-- fuel that is enough may be changed -/
theorem g_fuel : ∀ (f g c n : Nat), 2 ≤ c → n ≤ c + f → n ≤ c + g → gC f c n = gC g c n ∧ gW f c n = gW g c n ∧ gE f c n = gE g c n
  | 0, 0, _, _, _, _, _ => ⟨rfl, rfl, rfl⟩
  | 0, g + 1, c, n, _, h1, _ => by
    have : n ≤ c := by omega
    unfold gC gW gE; rw [if_pos this, if_pos this, if_pos this]; exact ⟨rfl, rfl, rfl⟩
  | f + 1, 0, c, n, _, _, h2 => by
    have : n ≤ c := by omega
    unfold gC gW gE; rw [if_pos this, if_pos this, if_pos this]; exact ⟨rfl, rfl, rfl⟩
  | f + 1, g + 1, c, n, hc, h1, h2 => by
    unfold gC gW gE
    by_cases e : n ≤ c
    · rw [if_pos e, if_pos e, if_pos e, if_pos e, if_pos e, if_pos e]; exact ⟨rfl, rfl, rfl⟩
    · have hp := pcap_gt hc
      obtain ⟨a, b, d⟩ := g_fuel f g (pcap c) n (by omega) (by omega) (by omega)
      rw [if_neg e, if_neg e, if_neg e, if_neg e, if_neg e, if_neg e, a, b, d]; exact ⟨rfl, rfl, rfl⟩
theorem g_in {f c n : Nat} (h : n ≤ c) : gC f c n = 0 ∧ gW f c n = 0 ∧ gE f c n = c := by
  cases f with
  | zero => exact ⟨rfl, rfl, rfl⟩
  | succ f => unfold gC gW gE; rw [if_pos h, if_pos h, if_pos h]; exact ⟨rfl, rfl, rfl⟩
/-- one growth -/
theorem g_up {f c n : Nat} (hc : 2 ≤ c) (h : c < n) (hf : n ≤ c + f) : gC f c n = 1 + gC f (pcap c) n ∧ gW f c n = pcap c + gW f (pcap c) n ∧ gE f c n = gE f (pcap c) n := by
  have hp := pcap_gt hc
  cases f with
  | zero => omega
  | succ f =>
    obtain ⟨a, b, d⟩ := g_fuel f (f + 1) (pcap c) n (by omega) (by omega) (by omega)
    rw [← a, ← b, ← d]
    show (if n ≤ c then 0 else 1 + gC f (pcap c) n) = _ ∧ (if n ≤ c then 0 else pcap c + gW f (pcap c) n) = _ ∧ (if n ≤ c then c else gE f (pcap c) n) = _
    rw [if_neg (by omega), if_neg (by omega), if_neg (by omega)]; exact ⟨rfl, rfl, rfl⟩
/-- first to n, then on to m -/
theorem g_split : ∀ (f c n m : Nat), 2 ≤ c → n ≤ m → m ≤ c + f → gC f c m = gC f c n + gC f (gE f c n) m ∧ gW f c m = gW f c n + gW f (gE f c n) m
  | 0, c, n, m, _, _, _ => ⟨rfl, rfl⟩
  | f + 1, c, n, m, hc, h1, h2 => by
    by_cases e : n ≤ c
    · obtain ⟨a, b, d⟩ := g_in (f := f + 1) e
      rw [a, b, d, Nat.zero_add, Nat.zero_add]; exact ⟨rfl, rfl⟩
    · have hp := pcap_gt hc
      obtain ⟨a1, a2, a3⟩ := g_up (f := f + 1) (n := n) hc (by omega) (by omega)
      obtain ⟨b1, b2, -⟩ := g_up (f := f + 1) (n := m) hc (by omega) (by omega)
      obtain ⟨c1, c2⟩ := g_split f (pcap c) n m (by omega) h1 (by omega)
      obtain ⟨d1, d2, d3⟩ := g_fuel f (f + 1) (pcap c) n (by omega) (by omega) (by omega)
      obtain ⟨e1, e2, -⟩ := g_fuel f (f + 1) (pcap c) m (by omega) (by omega) (by omega)
      have hge : pcap c ≤ gE f (pcap c) n := by
        have key : ∀ (f c n : Nat), 2 ≤ c → c ≤ gE f c n := by
          intro f
          induction f with
          | zero => intro c n _; exact Nat.le_refl _
          | succ f ih =>
            intro c n hc
            unfold gE
            by_cases e : n ≤ c
            · rw [if_pos e]; exact Nat.le_refl _
            · rw [if_neg e]
              have := pcap_gt hc
              exact Nat.le_trans (by omega) (ih (pcap c) n (by omega))
        exact key f (pcap c) n (by omega)
      obtain ⟨f1, f2, -⟩ := g_fuel f (f + 1) (gE f (pcap c) n) m (by omega) (by omega) (by omega)
      rw [a1, a2, a3, b1, b2, ← d1, ← d2, ← d3, ← e1, ← e2, ← f1, ← f2, c1, c2]
      constructor <;> omega
/-- cells of plans and their yards -/
def pk (e : va_E) : Bool := match e with
  | .inr (c, _) => decide (c = 5) || decide (c = 1)
  | .inl (_, _, .inl _) => true
  | .inl (_, n, .inr (.inr (.inr (.inr _)))) => decide (n = 16)
  | .inl _ => false
/-- a is a plan of the moves P -/
def pCl (D : ZD) (Vb V : ZV) (ba : Nat → Nat) (bx : Nat) (L : YD → Nat → Bool) (t : Nat) (Y0 : YD) (a : Nat) (P : List Nat) : Prop :=
  ∃ y yb yh rb rs fb fh gb gs, hPl D V a y rb rs (alP L t Y0 P) P gb gs ∧ hYd D V y yb yh fb fh ∧ yRel ba (zrP L Y0 P) fb fh ∧ (∀ i z : Nat, i < 16 → fb i = some z → ∃ b, b < bx ∧ z = ba b) ∧ Vb rb = none ∧ Vb rs = none
theorem pCl.mv {D : ZD} {Vb V V1 : ZV} {ba : Nat → Nat} {bx : Nat} {L : YD → Nat → Bool} {t : Nat} {Y0 : YD} {a : Nat} {P : List Nat} {S : Nat → Prop} (h : pCl D Vb V ba bx L t Y0 a P) (hU : zUnc V V1 S) (hS : ∀ z e, V z = some e → S z → pk e = false) : pCl D Vb V1 ba bx L t Y0 a P := by
  obtain ⟨y, yb, yh, rb, rs, fb, fh, gb, gs, ⟨p1, p2, p3, p4⟩, ⟨q1, q2, q3⟩, h3, h4⟩ := h
  have k : ∀ {z e}, V z = some e → pk e = true → V1 z = some e := fun {z e} hz hp => hU.get (fun hs => by rw [hS z e hz hs] at hp; cases hp) hz
  exact ⟨y, yb, yh, rb, rs, fb, fh, gb, gs, ⟨k p1 rfl, k p2 rfl, k p3 rfl, p4⟩, ⟨k q1 rfl, k q2 rfl, k q3 rfl⟩, h3, h4⟩
theorem pCl.o {D : ZD} {Vb V : ZV} {ba : Nat → Nat} {bx : Nat} {L : YD → Nat → Bool} {t : Nat} {Y0 : YD} {a : Nat} {P : List Nat} (h : pCl D Vb V ba bx L t Y0 a P) : ∃ vs, V a = some (.inr (5, vs)) := by
  obtain ⟨y, yb, yh, rb, rs, fb, fh, gb, gs, h1, -⟩ := h
  exact ⟨_, h1.1⟩
theorem pq_k {D : ZD} {V : ZV} {q d cap : Nat} {f : Nat → Option Nat} {A : List Nat} {cmp : Nat} {mc : Int32} (h : hPQ D V q d cap f A cmp mc) (hc : cap ≠ 16) : ∀ z e, V z = some e → (z = q ∨ z = d) → pk e = false := fun z e hz hs => by
  rcases hs with rfl | rfl
  · rw [h.1] at hz; cases hz; rfl
  · rw [h.2.1] at hz; cases hz; exact decide_eq_false hc
theorem tm_k {V : ZV} {t : Nat} {L : List Nat} {C : List (Nat × Nat)} {mc : Int32} (h : tM V t L C mc) : ∀ z e, V z = some e → tC t L z → pk e = false := fun z e hz hs => by
  obtain ⟨ky, vl, ⟨rt, lf, rg, pa, cl, ps, lo, hi, hI, hW⟩, rfl⟩ := h
  rcases hs with rfl | hs
  · rw [hW.1] at hz; cases hz; rfl
  · rw [hW.2 z hs] at hz; cases hz; rfl
