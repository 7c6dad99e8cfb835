/-! COMPONENT: what a Quaylock's cells say -/
set_option maxRecDepth 100000
/-- a cell's kind: which part of the picture it belongs to -/
def kq (e : va_E) : Nat := match e with
  | .inr (c, _) => if c = 0 then 0 else if c = 1 then 1 else if c = 3 then 2 else if c = 6 ∨ c = 7 ∨ c = 8 then 3 else if c = 9 ∨ c = 12 then 4 else 5
  | .inl (_, n, .inl _) => if n = 4 then 1 else 5
  | .inl (_, n, .inr (.inr (.inr (.inr _)))) => if n = 16 then 1 else if n = 20 then 2 else 3
  | .inl _ => 5
def cY (D : ZD) (V : ZV) (y yb yh rr : Nat) (fb : Nat → Option Nat) (fh fr : Nat → Int32) (ba : Nat → Nat) (bx st : Nat) (rch : Nat → Nat) (Y : YD) : Prop :=
  hYd D V y yb yh fb fh ∧ yRel ba Y fb fh ∧ (∀ i z : Nat, i < 16 → fb i = some z → ∃ b, b < bx ∧ z = ba b) ∧ V rr = some (.inl (D.arr 0, 4, .inl fr)) ∧ rr ≠ yh ∧ ∀ s, s < st → fr s = nI (rch s)
def cB (D : ZD) (V : ZV) (bb : Nat) (fB : Nat → Option Nat) (ba : Nat → Nat) (bx : Nat) (wt : Nat → Nat) (ins : Nat → Bool) (hld : Nat → Int32) (unt : Nat → Nat) (hc : Nat → Int32) (uc : Nat → Nat) : Prop :=
  V bb = some (.inl (D.arr 1, 20, .inr (.inr (.inr (.inr fB))))) ∧ (∀ b, b < 20 → fB b = if b < bx ∧ ins b = true then some (ba b) else none) ∧ hBx V ba bx wt hc uc ∧ ∀ b, b < bx → ins b = true → hc b = hld b ∧ uc b = unt b
def cA (D : ZD) (V : ZV) (al d cap : Nat) (fa : Nat → Option Nat) (ma : Int32) (ba : Nat → Nat) (ap : Nat) (ab hr ln : Nat → Nat) (sa : Nat → Int32) (aa sl : Nat → Nat) : Prop :=
  hAL D V al ((List.range ap).map aa) d cap fa ma ∧ (∀ a, a < ap → V (aa a) = some (.inr (7, [.int (nI a), .ref (ba (ab a)), .ref (sl a), .int (sa a)]))) ∧ ∀ a, a < ap → V (sl a) = some (.inr (6, [.int (nI (hr a)), .int (nI (ln a))]))
def cT (V : ZV) (t : Nat) (Lb : List Nat) (C : List (Nat × Nat)) (mb : Int32) (kc : Nat → List Nat) (ap : Nat) (hr ln : Nat → Nat) (sa : Nat → Int32) (aa sl : Nat → Nat) : Prop :=
  tM V t Lb C mb ∧ tSo kc C ∧ (∀ a, a < ap → kc (sl a) = [hr a, ln a]) ∧ (∀ q ∈ C, ∃ a, a < ap ∧ sa a = nI 98 ∧ q = (sl a, aa a)) ∧ (∀ a, a < ap → sa a = nI 98 → (sl a, aa a) ∈ C) ∧ C.length = fC (fun a => decide (sa a = nI 98)) ap
def cV (y rr bb al t st bx pr : Nat) (mv : Int32) (nw : Nat) (lf : Int64) : va_E := .inr (0, [.ref y, .ref rr, .ref bb, .ref al, .ref t, .int (nI st), .int (nI bx), .int (nI pr), .int mv, .int (nI nw), .long lf])
/-- the Quaylock x stands for S -/
def cR (D : ZD) (V : ZV) (x : Nat) (S : QS) : Prop :=
  ∃ y yb yh rr bb al t d cap fb fh fr fB ba hc uc fa ma aa sl Lb C mb kc,
    V x = some (cV y rr bb al t (qst S) (qbx S) (fC (qins S) (qbx S)) (qmv S) (qnw S) (qlf S)) ∧
    cY D V y yb yh rr fb fh fr ba (qbx S) (qst S) (qrch S) (qY S) ∧ cB D V bb fB ba (qbx S) (qwt S) (qins S) (qhld S) (qunt S) hc uc ∧
    cA D V al d cap fa ma ba (qap S) (qab S) (qhr S) (qln S) (qsa S) aa sl ∧ cT V t Lb C mb kc (qap S) (qhr S) (qln S) (qsa S) aa sl
section MV
variable {D : ZD} {V V1 : ZV} {S : Nat → Prop}
theorem cY.mv {y yb yh rr : Nat} {fb : Nat → Option Nat} {fh fr : Nat → Int32} {ba : Nat → Nat} {bx st : Nat} {rch : Nat → Nat} {Y : YD} (h : cY D V y yb yh rr fb fh fr ba bx st rch Y) (hU : zUnc V V1 S) (hS : ∀ a e, V a = some e → S a → kq e ≠ 1) : cY D V1 y yb yh rr fb fh fr ba bx st rch Y := by
  obtain ⟨⟨h1, h2, h3⟩, h4, h5, h6, h7⟩ := h
  exact ⟨⟨hU.get (fun z => hS _ _ h1 z rfl) h1, hU.get (fun z => hS _ _ h2 z rfl) h2, hU.get (fun z => hS _ _ h3 z rfl) h3⟩, h4, h5, hU.get (fun z => hS _ _ h6 z rfl) h6, h7⟩
theorem hBx.mv {ba : Nat → Nat} {nb : Nat} {wt : Nat → Nat} {hld : Nat → Int32} {unt : Nat → Nat} (h : hBx V ba nb wt hld unt) (hU : zUnc V V1 S) (hS : ∀ a e, V a = some e → S a → kq e ≠ 2) : hBx V1 ba nb wt hld unt := fun c hc => hU.get (fun z => hS _ _ (h c hc) z rfl) (h c hc)
theorem cB.mv {bb : Nat} {fB : Nat → Option Nat} {ba : Nat → Nat} {bx : Nat} {wt : Nat → Nat} {ins : Nat → Bool} {hld : Nat → Int32} {unt : Nat → Nat} {hc : Nat → Int32} {uc : Nat → Nat} (h : cB D V bb fB ba bx wt ins hld unt hc uc) (hU : zUnc V V1 S) (hS : ∀ a e, V a = some e → S a → kq e ≠ 2) : cB D V1 bb fB ba bx wt ins hld unt hc uc :=
  ⟨hU.get (fun z => hS _ _ h.1 z rfl) h.1, h.2.1, h.2.2.1.mv hU hS, h.2.2.2⟩
theorem hAL.mv {al : Nat} {L : List Nat} {d cap : Nat} {f : Nat → Option Nat} {mc : Int32} (h : hAL D V al L d cap f mc) (hU : zUnc V V1 S) (hS : ∀ a e, V a = some e → S a → kq e ≠ 3) : hAL D V1 al L d cap f mc := by
  refine ⟨hU.get (fun z => hS _ _ h.1 z rfl) h.1, ?_⟩
  rcases h.2 with q | ⟨q1, q2, q3⟩
  · exact Or.inl q
  · refine Or.inr ⟨q1, hU.get (fun z => hS _ _ q2 z ?_) q2, q3⟩
    rcases q1 with q1 | q1 | q1 | q1 <;> rw [q1] <;> rfl
theorem cA.mv {al d cap : Nat} {fa : Nat → Option Nat} {ma : Int32} {ba : Nat → Nat} {ap : Nat} {ab hr ln : Nat → Nat} {sa : Nat → Int32} {aa sl : Nat → Nat} (h : cA D V al d cap fa ma ba ap ab hr ln sa aa sl) (hU : zUnc V V1 S) (hS : ∀ a e, V a = some e → S a → kq e ≠ 3) : cA D V1 al d cap fa ma ba ap ab hr ln sa aa sl :=
  ⟨h.1.mv hU hS, fun a ha => hU.get (fun z => hS _ _ (h.2.1 a ha) z rfl) (h.2.1 a ha), fun a ha => hU.get (fun z => hS _ _ (h.2.2 a ha) z rfl) (h.2.2 a ha)⟩
theorem tM.mv {t : Nat} {L : List Nat} {C : List (Nat × Nat)} {mc : Int32} (h : tM V t L C mc) (hU : zUnc V V1 S) (hS : ∀ a, tC t L a → ¬ S a) : tM V1 t L C mc := by
  obtain ⟨ky, vl, ⟨rt, lf, rg, pa, cl, ps, lo, hi, hI, hW⟩, rfl⟩ := h
  exact ⟨ky, vl, ⟨rt, lf, rg, pa, cl, ps, lo, hi, hI, hW.mv hU hS⟩, rfl⟩
theorem tM.kd {t : Nat} {L : List Nat} {C : List (Nat × Nat)} {mc : Int32} (h : tM V t L C mc) : ∀ a, tC t L a → ∃ e, V a = some e ∧ kq e = 4 := fun a ha => by
  obtain ⟨ky, vl, ⟨rt, lf, rg, pa, cl, ps, lo, hi, hI, hW⟩, rfl⟩ := h
  rcases ha with rfl | ha
  · exact ⟨_, hW.1, rfl⟩
  · exact ⟨_, hW.2 a ha, rfl⟩
theorem cT.mv {t : Nat} {Lb : List Nat} {C : List (Nat × Nat)} {mb : Int32} {kc : Nat → List Nat} {ap : Nat} {hr ln : Nat → Nat} {sa : Nat → Int32} {aa sl : Nat → Nat} (h : cT V t Lb C mb kc ap hr ln sa aa sl) (hU : zUnc V V1 S) (hS : ∀ a e, V a = some e → S a → kq e ≠ 4) : cT V1 t Lb C mb kc ap hr ln sa aa sl :=
  ⟨h.1.mv hU (fun a ha z => by obtain ⟨e, h1, h2⟩ := h.1.kd a ha; exact hS a e h1 z h2), h.2⟩
/-- a single cell changed, of kind k -/
theorem up_k {a : Nat} {e0 : va_E} {k n : Nat} (ha : V a = some e0) (hk : kq e0 = k) (hn : k ≠ n) : ∀ z e', V z = some e' → z = a → kq e' ≠ n := fun z e' hz he => by
  rw [he, ha] at hz; cases hz; rw [hk]; exact hn
theorem up_u {a : Nat} {e : Option va_E} (h1 : V1 = va_up V a e) : zUnc V V1 (fun z => z = a) := zUnc.up zUnc.rf h1 rfl
theorem nw_u {q : Nat} {e : Option va_E} (h1 : V1 = va_up V q e) (hq : V q = none) : zUnc V V1 (fun _ => False) := zUnc.new zUnc.rf h1 hq
theorem no_k {n : Nat} : ∀ (z : Nat) (e : va_E), V z = some e → False → kq e ≠ n := fun _ _ _ h => h.elim
end MV
