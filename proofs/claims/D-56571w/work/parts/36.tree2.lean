/-! TREE: the cells -/
set_option maxRecDepth 100000
/-- the TreeMap t in the heap: its entries L, their links, colours, keys and values -/
def tW (V : ZV) (t : Nat) (L : List Nat) (rt : Option Nat) (lf rg pa : Nat → Option Nat) (cl : Nat → Bool) (ky vl : Nat → Nat) (sz : Nat) (mc : Int32) : Prop :=
  V t = some (.inr (9, [.null, .null, .null, va_rf rt, .int (nI sz), .int mc, .null, .null, .null])) ∧ ∀ a ∈ L, V a = some (.inr (12, [.ref (ky a), .ref (vl a), va_rf (lf a), va_rf (rg a), va_rf (pa a), .int (zb (cl a))]))
/-- the cells of the map -/
def tC (t : Nat) (L : List Nat) (a : Nat) : Prop := a = t ∨ a ∈ L
theorem va_fitO {n : String} (o : Option Nat) : fits (.object n) (va_rf o) = true := by cases o <;> rfl
section TW
variable {V V1 : ZV} {t : Nat} {L : List Nat} {rt : Option Nat} {lf rg pa : Nat → Option Nat} {cl : Nat → Bool} {ky vl : Nat → Nat} {sz : Nat} {mc : Int32}
theorem tW.tn (h : tW V t L rt lf rg pa cl ky vl sz mc) {a : Nat} (ha : a ∈ L) : a ≠ t := fun e => by
  have h1 := h.2 a ha
  rw [e, h.1] at h1
  cases h1
theorem tW.put (h : tW V t L rt lf rg pa cl ky vl sz mc) {a : Nat} {e : va_E} (ha : a ∈ L) (h1 : V1 = va_up V a (some e)) {lf2 rg2 pa2 : Nat → Option Nat} {cl2 : Nat → Bool} {ky2 vl2 : Nat → Nat}
    (he : e = .inr (12, [.ref (ky2 a), .ref (vl2 a), va_rf (lf2 a), va_rf (rg2 a), va_rf (pa2 a), .int (zb (cl2 a))])) (ho : ∀ b, b ≠ a → lf2 b = lf b ∧ rg2 b = rg b ∧ pa2 b = pa b ∧ cl2 b = cl b ∧ ky2 b = ky b ∧ vl2 b = vl b) : tW V1 t L rt lf2 rg2 pa2 cl2 ky2 vl2 sz mc := by
  subst h1
  refine ⟨?_, fun b hb => ?_⟩
  · rw [zvn (Ne.symm (h.tn ha))]; exact h.1
  · by_cases q : b = a
    · subst q; rw [zvs, he]
    · obtain ⟨a1, a2, a3, a4, a5, a6⟩ := ho b q
      rw [zvn q, a1, a2, a3, a4, a5, a6]; exact h.2 b hb
theorem tW.ulf (h : tW V t L rt lf rg pa cl ky vl sz mc) {a : Nat} (ha : a ∈ L) (o : Option Nat) (h1 : V1 = va_up V a (some (.inr (12, [.ref (ky a), .ref (vl a), va_rf o, va_rf (rg a), va_rf (pa a), .int (zb (cl a))])))) : tW V1 t L rt (va_up lf a o) rg pa cl ky vl sz mc :=
  h.put ha h1 (by rw [zvs]) (fun b hb => ⟨zvn hb, rfl, rfl, rfl, rfl, rfl⟩)
theorem tW.urg (h : tW V t L rt lf rg pa cl ky vl sz mc) {a : Nat} (ha : a ∈ L) (o : Option Nat) (h1 : V1 = va_up V a (some (.inr (12, [.ref (ky a), .ref (vl a), va_rf (lf a), va_rf o, va_rf (pa a), .int (zb (cl a))])))) : tW V1 t L rt lf (va_up rg a o) pa cl ky vl sz mc :=
  h.put ha h1 (by rw [zvs]) (fun b hb => ⟨rfl, zvn hb, rfl, rfl, rfl, rfl⟩)
theorem tW.upa (h : tW V t L rt lf rg pa cl ky vl sz mc) {a : Nat} (ha : a ∈ L) (o : Option Nat) (h1 : V1 = va_up V a (some (.inr (12, [.ref (ky a), .ref (vl a), va_rf (lf a), va_rf (rg a), va_rf o, .int (zb (cl a))])))) : tW V1 t L rt lf rg (va_up pa a o) cl ky vl sz mc :=
  h.put ha h1 (by rw [zvs]) (fun b hb => ⟨rfl, rfl, zvn hb, rfl, rfl, rfl⟩)
theorem tW.ucl (h : tW V t L rt lf rg pa cl ky vl sz mc) {a : Nat} (ha : a ∈ L) (c : Bool) (h1 : V1 = va_up V a (some (.inr (12, [.ref (ky a), .ref (vl a), va_rf (lf a), va_rf (rg a), va_rf (pa a), .int (zb c)])))) : tW V1 t L rt lf rg pa (va_up cl a c) ky vl sz mc :=
  h.put ha h1 (by rw [zvs]) (fun b hb => ⟨rfl, rfl, rfl, zvn hb, rfl, rfl⟩)
theorem tW.uky (h : tW V t L rt lf rg pa cl ky vl sz mc) {a : Nat} (ha : a ∈ L) (c : Nat) (h1 : V1 = va_up V a (some (.inr (12, [.ref c, .ref (vl a), va_rf (lf a), va_rf (rg a), va_rf (pa a), .int (zb (cl a))])))) : tW V1 t L rt lf rg pa cl (va_up ky a c) vl sz mc :=
  h.put ha h1 (by rw [zvs]) (fun b hb => ⟨rfl, rfl, rfl, rfl, zvn hb, rfl⟩)
theorem tW.uvl (h : tW V t L rt lf rg pa cl ky vl sz mc) {a : Nat} (ha : a ∈ L) (c : Nat) (h1 : V1 = va_up V a (some (.inr (12, [.ref (ky a), .ref c, va_rf (lf a), va_rf (rg a), va_rf (pa a), .int (zb (cl a))])))) : tW V1 t L rt lf rg pa cl ky (va_up vl a c) sz mc :=
  h.put ha h1 (by rw [zvs]) (fun b hb => ⟨rfl, rfl, rfl, rfl, rfl, zvn hb⟩)
theorem tW.map (h : tW V t L rt lf rg pa cl ky vl sz mc) (rt2 : Option Nat) (sz2 : Nat) (mc2 : Int32) (h1 : V1 = va_up V t (some (.inr (9, [.null, .null, .null, va_rf rt2, .int (nI sz2), .int mc2, .null, .null, .null])))) : tW V1 t L rt2 lf rg pa cl ky vl sz2 mc2 := by
  subst h1
  exact ⟨zvs _ _ _, fun b hb => by rw [zvn (h.tn hb)]; exact h.2 b hb⟩
theorem tW.mv (h : tW V t L rt lf rg pa cl ky vl sz mc) {S : Nat → Prop} (hU : zUnc V V1 S) (hS : ∀ a, tC t L a → ¬ S a) : tW V1 t L rt lf rg pa cl ky vl sz mc :=
  ⟨hU.get (hS t (Or.inl rfl)) h.1, fun a ha => hU.get (hS a (Or.inr ha)) (h.2 a ha)⟩
theorem tW.new (h : tW V t L rt lf rg pa cl ky vl sz mc) {q : Nat} {e : Option va_E} (hq : V q = none) (h1 : V1 = va_up V q e) : tW V1 t L rt lf rg pa cl ky vl sz mc :=
  ⟨zup h1 (zne_new h.1 hq) h.1, fun a ha => zup h1 (zne_new (h.2 a ha) hq) (h.2 a ha)⟩
theorem tW.oth (h : tW V t L rt lf rg pa cl ky vl sz mc) {q : Nat} {e : Option va_E} (hq : ¬ tC t L q) (h1 : V1 = va_up V q e) : tW V1 t L rt lf rg pa cl ky vl sz mc :=
  ⟨zup h1 (fun z => hq (Or.inl z.symm)) h.1, fun a ha => zup h1 (fun z => hq (Or.inr (by rw [← z]; exact ha))) (h.2 a ha)⟩
theorem tW.cg (h : tW V t L rt lf rg pa cl ky vl sz mc) {rt2 : Option Nat} {lf2 rg2 pa2 : Nat → Option Nat} (h0 : rt = rt2) (h1 : ∀ a ∈ L, lf a = lf2 a) (h2 : ∀ a ∈ L, rg a = rg2 a) (h3 : ∀ a ∈ L, pa a = pa2 a) : tW V t L rt2 lf2 rg2 pa2 cl ky vl sz mc := by
  subst h0
  exact ⟨h.1, fun a ha => by rw [← h1 a ha, ← h2 a ha, ← h3 a ha]; exact h.2 a ha⟩
theorem tW.no (h : tW V t L rt lf rg pa cl ky vl sz mc) {q : Nat} (hq : V q = none) : ¬ tC t L q := fun z => by
  rcases z with z | z
  · rw [z, h.1] at hq; cases hq
  · rw [h.2 q z] at hq; cases hq
end TW
/-! what an option answers -/
def oB (f : Nat → Option Nat) (o : Option Nat) : Option Nat := match o with | none => none | some a => f a
def oC (f : Nat → Bool) (o : Option Nat) : Bool := match o with | none => true | some a => f a
def oS (f : Nat → Bool) (o : Option Nat) (c : Bool) : Nat → Bool := match o with | none => f | some a => va_up f a c
theorem oM {L : List Nat} {a : Nat} (h : a ∈ L) : ∀ b, some a = some b → b ∈ L := fun b e => by cases e; exact h
theorem oN {L : List Nat} : ∀ b, (none : Option Nat) = some b → b ∈ L := fun b e => by cases e
/-! shape: small things -/
section TI
variable {L : List Nat} {rt : Option Nat} {lf rg pa : Nat → Option Nat} {ps lo hi : Nat → Nat}
theorem tI.ml (h : tI L rt lf rg pa ps lo hi) {a b : Nat} (ha : a ∈ L) (e : lf a = some b) : b ∈ L ∧ pa b = some a ∧ b ≠ a := by
  obtain ⟨b1, b2, b3, b4⟩ := (h.2.2.1 a ha).2 b e
  obtain ⟨c1, c2, c3, c4⟩ := h.m b1
  exact ⟨b1, b2, fun q => by rw [q] at b4 c3; omega⟩
theorem tI.mr (h : tI L rt lf rg pa ps lo hi) {a b : Nat} (ha : a ∈ L) (e : rg a = some b) : b ∈ L ∧ pa b = some a ∧ b ≠ a := by
  obtain ⟨b1, b2, b3, b4⟩ := (h.2.2.2.1 a ha).2 b e
  obtain ⟨c1, c2, c3, c4⟩ := h.m b1
  exact ⟨b1, b2, fun q => by rw [q] at b3 c2; omega⟩
theorem tI.lr (h : tI L rt lf rg pa ps lo hi) {a b : Nat} (ha : a ∈ L) (e : lf a = some b) : rg a ≠ some b := fun e2 => by
  obtain ⟨b1, b2, b3, b4⟩ := (h.2.2.1 a ha).2 b e
  obtain ⟨c1, c2, c3, c4⟩ := (h.2.2.2.1 a ha).2 b e2
  obtain ⟨d1, d2, d3, d4⟩ := h.m b1
  omega
theorem tI.rl (h : tI L rt lf rg pa ps lo hi) {a b : Nat} (ha : a ∈ L) (e : rg a = some b) : lf a ≠ some b := fun e2 => h.lr ha e2 e
theorem tI.mp (h : tI L rt lf rg pa ps lo hi) {a p : Nat} (ha : a ∈ L) (e : pa a = some p) : p ∈ L ∧ hi a - lo a < hi p - lo p ∧ p ≠ a ∧ hi p - lo p ≤ L.length := by
  obtain ⟨q1, q2⟩ := (h.2.2.2.2 a ha).2 p e
  obtain ⟨d1, d2, d3, d4⟩ := h.m ha
  obtain ⟨e1, e2, e3, e4⟩ := h.m q1
  have key : hi a - lo a < hi p - lo p := by
    rcases q2 with q2 | q2
    · obtain ⟨b1, b2, b3, b4⟩ := (h.2.2.1 p q1).2 a q2
      omega
    · obtain ⟨b1, b2, b3, b4⟩ := (h.2.2.2.1 p q1).2 a q2
      omega
  exact ⟨q1, key, fun q => by rw [q] at key; omega, by omega⟩
theorem tI.up (h : tI L rt lf rg pa ps lo hi) {a : Nat} (ha : a ∈ L) (hr : ¬ rt = some a) : ∃ p, pa a = some p := by
  rcases e : pa a with _ | p
  · exact absurd ((h.2.2.2.2 a ha).1 e) hr
  · exact ⟨p, rfl⟩
theorem tI.sdR (h : tI L rt lf rg pa ps lo hi) {a p : Nat} (ha : a ∈ L) (e : pa a = some p) (hn : ¬ lf p = some a) : rg p = some a := ((h.2.2.2.2 a ha).2 p e).2.resolve_left hn
theorem tI.sdL (h : tI L rt lf rg pa ps lo hi) {a p : Nat} (ha : a ∈ L) (e : pa a = some p) (hn : ¬ rg p = some a) : lf p = some a := ((h.2.2.2.2 a ha).2 p e).2.resolve_right hn
theorem tI.rtm (h : tI L rt lf rg pa ps lo hi) {a : Nat} (ha : a ∈ L) : ∃ r, rt = some r := by
  rcases e : rt with _ | r
  · rw [h.2.1.2 e] at ha; cases ha
  · exact ⟨r, rfl⟩
end TI
section XP
variable {lf pa : Nat → Option Nat} {p r a g : Nat}
theorem xP_p : xP lf pa p r p = some r := by unfold xP; rw [if_pos rfl]
theorem xP_r (h : r ≠ p) : xP lf pa p r r = pa p := by unfold xP; rw [if_neg h, if_pos rfl]
theorem xP_o (h1 : a ≠ p) (h2 : a ≠ r) (h3 : lf r ≠ some a) : xP lf pa p r a = pa a := by unfold xP; rw [if_neg h1, if_neg h2, if_neg h3]
theorem xL_r : xL lf p r r = some p := by unfold xL; rw [if_pos rfl]
theorem xL_u (h : g ≠ r) (e : lf g = some p) : xL lf p r g = some r := by unfold xL; rw [if_neg h, if_pos e]
theorem xL_o (h : g ≠ r) (e : lf g ≠ some p) : xL lf p r g = lf g := by unfold xL; rw [if_neg h, if_neg e]
theorem xR_p {rg : Nat → Option Nat} : xR lf rg p r p = lf r := by unfold xR; rw [if_pos rfl]
theorem xR_u {rg : Nat → Option Nat} (h : g ≠ p) (e : rg g = some p) : xR lf rg p r g = some r := by unfold xR; rw [if_neg h, if_pos e]
theorem xR_o {rg : Nat → Option Nat} (h : g ≠ p) (e : rg g ≠ some p) : xR lf rg p r g = rg g := by unfold xR; rw [if_neg h, if_neg e]
end XP
/-! a rotation, written step by step -/
section RT
variable {L : List Nat} {lf rg pa : Nat → Option Nat} {p r q b : Nat} {o : Option Nat}
theorem rot_l1 (hq : ∀ a ∈ L, lf a ≠ some p) : ∀ a ∈ L, va_up lf r (some p) a = xL lf p r a := fun a ha => by
  unfold xL
  by_cases e : a = r
  · rw [e, zvs, if_pos rfl]
  · rw [zvn e, if_neg e, if_neg (hq a ha)]
theorem rot_l2 (hq : ∀ a ∈ L, lf a = some p → a = q) (h : lf q = some p) : ∀ a ∈ L, va_up (va_up lf q (some r)) r (some p) a = xL lf p r a := fun a ha => by
  unfold xL
  by_cases e : a = r
  · rw [e, zvs, if_pos rfl]
  · rw [zvn e, if_neg e]
    by_cases e2 : a = q
    · rw [e2, zvs, if_pos h]
    · rw [zvn e2, if_neg (fun z => e2 (hq a ha z))]
theorem rot_r1 (ho : lf r = o) (hq : ∀ a ∈ L, rg a ≠ some p) : ∀ a ∈ L, va_up rg p o a = xR lf rg p r a := fun a ha => by
  unfold xR
  by_cases e : a = p
  · rw [e, zvs, if_pos rfl, ho]
  · rw [zvn e, if_neg e, if_neg (hq a ha)]
theorem rot_r2 (ho : lf r = o) (hqp : q ≠ p) (hq : ∀ a ∈ L, rg a = some p → a = q) (h : rg q = some p) : ∀ a ∈ L, va_up (va_up rg p o) q (some r) a = xR lf rg p r a := fun a ha => by
  unfold xR
  by_cases e : a = q
  · rw [e, zvs, if_neg hqp, if_pos h]
  · rw [zvn e]
    by_cases e2 : a = p
    · rw [e2, zvs, if_pos rfl, ho]
    · rw [zvn e2, if_neg e2, if_neg (fun z => e (hq a ha z))]
theorem rot_p1 (hb : lf r = none) (ho : pa p = o) : ∀ a ∈ L, va_up (va_up pa r o) p (some r) a = xP lf pa p r a := fun a ha => by
  unfold xP
  by_cases e : a = p
  · rw [e, zvs, if_pos rfl]
  · rw [zvn e, if_neg e]
    by_cases e2 : a = r
    · rw [e2, zvs, if_pos rfl, ho]
    · rw [zvn e2, if_neg e2, hb, if_neg (by simp)]
theorem rot_p2 (hb : lf r = some b) (ho : pa p = o) : ∀ a ∈ L, va_up (va_up (va_up pa b (some p)) r o) p (some r) a = xP lf pa p r a := fun a ha => by
  unfold xP
  by_cases e : a = p
  · rw [e, zvs, if_pos rfl]
  · rw [zvn e, if_neg e]
    by_cases e2 : a = r
    · rw [e2, zvs, if_pos rfl, ho]
    · rw [zvn e2, if_neg e2, hb]
      by_cases e3 : a = b
      · rw [e3, zvs, if_pos rfl]
      · rw [zvn e3, if_neg (fun z => e3 (Option.some.inj z).symm)]
end RT
/-- after a mending: the same entries in the same order -/
def tF (V V' : ZV) (t : Nat) (L : List Nat) (ky vl : Nat → Nat) (sz : Nat) (mc : Int32) (ps : Nat → Nat) : Prop :=
  ∃ rt lf rg pa cl lo hi, tW V' t L rt lf rg pa cl ky vl sz mc ∧ tI L rt lf rg pa ps lo hi ∧ zUnc V V' (tC t L)
section TJ
variable {L : List Nat} {rt : Option Nat} {lf rg pa : Nat → Option Nat} {ps lo hi : Nat → Nat}
theorem tI.gg (h : tI L rt lf rg pa ps lo hi) {b a p : Nat} (hb : b ∈ L) (e1 : pa b = some a) (ha : a ∈ L) (e2 : pa a = some p) : b ≠ p := fun q => by
  have h1 := (h.mp hb e1).2.1
  have h2 := (h.mp ha e2).2.1
  rw [q] at h1; omega
theorem tI.sib (h : tI L rt lf rg pa ps lo hi) {a b c : Nat} (ha : a ∈ L) (e1 : lf a = some b) (e2 : rg a = some c) : b ≠ c := fun q => h.lr ha e1 (by rw [q]; exact e2)
theorem tI.nl (h : tI L rt lf rg pa ps lo hi) {p q : Nat} (e : pa p = some q) (hn : lf q ≠ some p) : ∀ a ∈ L, lf a ≠ some p := fun a ha z => by
  have h1 := (h.ml ha z).2.1
  rw [e] at h1; cases h1; exact hn z
theorem tI.nr (h : tI L rt lf rg pa ps lo hi) {p q : Nat} (e : pa p = some q) (hn : rg q ≠ some p) : ∀ a ∈ L, rg a ≠ some p := fun a ha z => by
  have h1 := (h.mr ha z).2.1
  rw [e] at h1; cases h1; exact hn z
theorem tI.nl0 (h : tI L rt lf rg pa ps lo hi) {p : Nat} (e : pa p = none) : ∀ a ∈ L, lf a ≠ some p := fun a ha z => by
  have h1 := (h.ml ha z).2.1
  rw [e] at h1; cases h1
theorem tI.nr0 (h : tI L rt lf rg pa ps lo hi) {p : Nat} (e : pa p = none) : ∀ a ∈ L, rg a ≠ some p := fun a ha z => by
  have h1 := (h.mr ha z).2.1
  rw [e] at h1; cases h1
theorem tI.ul (h : tI L rt lf rg pa ps lo hi) {p q : Nat} (e : pa p = some q) : ∀ a ∈ L, lf a = some p → a = q := fun a ha z => by
  have h1 := (h.ml ha z).2.1
  rw [e] at h1; exact (Option.some.inj h1).symm
theorem tI.ur (h : tI L rt lf rg pa ps lo hi) {p q : Nat} (e : pa p = some q) : ∀ a ∈ L, rg a = some p → a = q := fun a ha z => by
  have h1 := (h.mr ha z).2.1
  rw [e] at h1; exact (Option.some.inj h1).symm
theorem tI.xt0 (h : tI L rt lf rg pa ps lo hi) {p r : Nat} (hp : p ∈ L) (e : pa p = none) : some r = xT rt p r := by
  unfold xT; rw [if_pos ((h.2.2.2.2 p hp).1 e)]
theorem tI.xt1 (h : tI L rt lf rg pa ps lo hi) {p r q : Nat} (e : pa p = some q) : rt = xT rt p r := by
  unfold xT; rw [if_neg]; intro z
  have := (h.2.1.1 p z).2.1
  rw [e] at this; cases this
end TJ
theorem ne_pa {f : Nat → Option Nat} {a b u v : Nat} (h1 : f a = some u) (h2 : f b = some v) (n : u ≠ v) : a ≠ b := fun q => n (by rw [q, h2] at h1; exact (Option.some.inj h1).symm)
theorem xP_c {lf pa : Nat → Option Nat} {p r a : Nat} (h1 : a ≠ p) (h2 : a ≠ r) (h3 : lf r = some a) : xP lf pa p r a = some p := by unfold xP; rw [if_neg h1, if_neg h2, if_pos h3]
theorem zb1 {c : Bool} (h : zb c = nI 1) : c = true := by cases c with
  | true => rfl
  | false => exact absurd h (by decide)
theorem zb1f {c : Bool} (h : ¬ zb c = nI 1) : c = false := by cases c with
  | false => rfl
  | true => exact absurd (by decide) h
theorem so_ne {f : Nat → Option Nat} {a u p : Nat} (h : f a = some u) (n : u ≠ p) : f a ≠ some p := fun z => n (Option.some.inj (h.symm.trans z))
theorem sn_ne {f : Nat → Option Nat} {a p : Nat} (h : f a = none) : f a ≠ some p := fun z => by rw [h] at z; cases z
theorem fn_ne {f : Nat → Option Nat} {a b u : Nat} (h1 : f a = none) (h2 : f b = some u) : a ≠ b := fun q => by rw [q, h2] at h1; cases h1
section TK
variable {L : List Nat} {rt : Option Nat} {lf rg pa : Nat → Option Nat} {ps lo hi : Nat → Nat}
theorem tI.le (h : tI L rt lf rg pa ps lo hi) {a p : Nat} (ha : a ∈ L) (e : pa a = some p) : lo p ≤ lo a ∧ hi a ≤ hi p := by
  obtain ⟨q1, q2⟩ := (h.2.2.2.2 a ha).2 p e
  obtain ⟨e1, e2, e3, e4⟩ := h.m q1
  rcases q2 with q2 | q2
  · obtain ⟨b1, b2, b3, b4⟩ := (h.2.2.1 p q1).2 a q2
    omega
  · obtain ⟨b1, b2, b3, b4⟩ := (h.2.2.2.1 p q1).2 a q2
    omega
theorem tI.fL (h : tI L rt lf rg pa ps lo hi) {p u s b x : Nat} (hp : p ∈ L) (e1 : lf p = some u) (e2 : rg p = some s) (h2 : ps x < hi u) (hb : b ∈ L) (h3 : lo s ≤ lo b) : x ≠ b := fun q => by
  subst q
  obtain ⟨b1, b2, b3, b4⟩ := (h.2.2.1 p hp).2 u e1
  obtain ⟨c1, c2, c3, c4⟩ := (h.2.2.2.1 p hp).2 s e2
  obtain ⟨d1, d2, d3, d4⟩ := h.m hb
  omega
theorem tI.fR (h : tI L rt lf rg pa ps lo hi) {p u s b x : Nat} (hp : p ∈ L) (e1 : rg p = some u) (e2 : lf p = some s) (h1 : lo u ≤ ps x) (hb : b ∈ L) (h3 : hi b ≤ hi s) : x ≠ b := fun q => by
  subst q
  obtain ⟨b1, b2, b3, b4⟩ := (h.2.2.1 p hp).2 s e2
  obtain ⟨c1, c2, c3, c4⟩ := (h.2.2.2.1 p hp).2 u e1
  obtain ⟨d1, d2, d3, d4⟩ := h.m hb
  omega
end TK

set_option maxHeartbeats 4000000 in
set_option maxRecDepth 100000 in
theorem mJ4_parentOf {l : Launch} {D : ZD} {V : ZV} {t : Nat} {L : List Nat} {rt : Option Nat} {lf rg pa : Nat → Option Nat} {cl : Nat → Bool} {ky vl : Nat → Nat} {sz : Nat} {mc : Int32} (hW : tW V t L rt lf rg pa cl ky vl sz mc) {o : Option Nat} (ho : ∀ a, o = some a → a ∈ L) : ZM l D yJ4_parentOf (ws_ yJ4_parentOf cJ4_parentOf 1 (some (.object "java/util/TreeMap$Entry"))) 1 0 0 eO V [va_rf o] (fun r V' => V' = V ∧ r = oB pa o) zno_x := by
  refine z_enter (by decide +kernel) [(0, va_rf o)] (by cases o <;> rfl) (by cases o <;> exact Nat.le_of_ble_eq_true rfl) (zcat_cons (va_rf_cat _) zcat_nil) (fun Γ C hQ => ?_)
  have hU0 : zUnc V V (tC t L) := zUnc.rf
  rcases o with _ | a
  · skip
    refine z_aload_nQ C 0 (r := none) rfl dJ4_parentOf_0 rfl ?_
    refine z_ifnonnull_n C dJ4_parentOf_1 ?_
    refine z_null C dJ4_parentOf_4 ?_
    refine z_goto C 12 dJ4_parentOf_5 (by decide) ?_
    exact z_aretN C hQ none rfl (Or.inl ⟨_, rfl⟩) ⟨rfl, rfl⟩ (by decide) (by decide) dJ4_parentOf_12
  · skip
    refine z_aload_n C 0 rfl dJ4_parentOf_0 rfl ?_
    refine z_ifnonnull_r C 8 dJ4_parentOf_1 (by decide) ?_
    refine z_aload_n C 0 rfl dJ4_parentOf_8 rfl ?_
    refine z_get C k_E (hW.2 a (ho a rfl)) 4 (by decide) rfl q1039 dJ4_parentOf_9 ?_
    exact z_aretQ C hQ (pa a) rfl (Or.inl ⟨_, rfl⟩) ⟨rfl, rfl⟩ (by decide) (by decide) dJ4_parentOf_12
set_option maxHeartbeats 4000000 in
set_option maxRecDepth 100000 in
theorem mJ4_leftOf {l : Launch} {D : ZD} {V : ZV} {t : Nat} {L : List Nat} {rt : Option Nat} {lf rg pa : Nat → Option Nat} {cl : Nat → Bool} {ky vl : Nat → Nat} {sz : Nat} {mc : Int32} (hW : tW V t L rt lf rg pa cl ky vl sz mc) {o : Option Nat} (ho : ∀ a, o = some a → a ∈ L) : ZM l D yJ4_leftOf (ws_ yJ4_leftOf cJ4_leftOf 1 (some (.object "java/util/TreeMap$Entry"))) 1 0 0 eO V [va_rf o] (fun r V' => V' = V ∧ r = oB lf o) zno_x := by
  refine z_enter (by decide +kernel) [(0, va_rf o)] (by cases o <;> rfl) (by cases o <;> exact Nat.le_of_ble_eq_true rfl) (zcat_cons (va_rf_cat _) zcat_nil) (fun Γ C hQ => ?_)
  have hU0 : zUnc V V (tC t L) := zUnc.rf
  rcases o with _ | a
  · skip
    refine z_aload_nQ C 0 (r := none) rfl dJ4_leftOf_0 rfl ?_
    refine z_ifnonnull_n C dJ4_leftOf_1 ?_
    refine z_null C dJ4_leftOf_4 ?_
    refine z_goto C 12 dJ4_leftOf_5 (by decide) ?_
    exact z_aretN C hQ none rfl (Or.inl ⟨_, rfl⟩) ⟨rfl, rfl⟩ (by decide) (by decide) dJ4_leftOf_12
  · skip
    refine z_aload_n C 0 rfl dJ4_leftOf_0 rfl ?_
    refine z_ifnonnull_r C 8 dJ4_leftOf_1 (by decide) ?_
    refine z_aload_n C 0 rfl dJ4_leftOf_8 rfl ?_
    refine z_get C k_E (hW.2 a (ho a rfl)) 2 (by decide) rfl q1036 dJ4_leftOf_9 ?_
    exact z_aretQ C hQ (lf a) rfl (Or.inl ⟨_, rfl⟩) ⟨rfl, rfl⟩ (by decide) (by decide) dJ4_leftOf_12
set_option maxHeartbeats 4000000 in
set_option maxRecDepth 100000 in
theorem mJ4_rightOf {l : Launch} {D : ZD} {V : ZV} {t : Nat} {L : List Nat} {rt : Option Nat} {lf rg pa : Nat → Option Nat} {cl : Nat → Bool} {ky vl : Nat → Nat} {sz : Nat} {mc : Int32} (hW : tW V t L rt lf rg pa cl ky vl sz mc) {o : Option Nat} (ho : ∀ a, o = some a → a ∈ L) : ZM l D yJ4_rightOf (ws_ yJ4_rightOf cJ4_rightOf 1 (some (.object "java/util/TreeMap$Entry"))) 1 0 0 eO V [va_rf o] (fun r V' => V' = V ∧ r = oB rg o) zno_x := by
  refine z_enter (by decide +kernel) [(0, va_rf o)] (by cases o <;> rfl) (by cases o <;> exact Nat.le_of_ble_eq_true rfl) (zcat_cons (va_rf_cat _) zcat_nil) (fun Γ C hQ => ?_)
  have hU0 : zUnc V V (tC t L) := zUnc.rf
  rcases o with _ | a
  · skip
    refine z_aload_nQ C 0 (r := none) rfl dJ4_rightOf_0 rfl ?_
    refine z_ifnonnull_n C dJ4_rightOf_1 ?_
    refine z_null C dJ4_rightOf_4 ?_
    refine z_goto C 12 dJ4_rightOf_5 (by decide) ?_
    exact z_aretN C hQ none rfl (Or.inl ⟨_, rfl⟩) ⟨rfl, rfl⟩ (by decide) (by decide) dJ4_rightOf_12
  · skip
    refine z_aload_n C 0 rfl dJ4_rightOf_0 rfl ?_
    refine z_ifnonnull_r C 8 dJ4_rightOf_1 (by decide) ?_
    refine z_aload_n C 0 rfl dJ4_rightOf_8 rfl ?_
    refine z_get C k_E (hW.2 a (ho a rfl)) 3 (by decide) rfl q1037 dJ4_rightOf_9 ?_
    exact z_aretQ C hQ (rg a) rfl (Or.inl ⟨_, rfl⟩) ⟨rfl, rfl⟩ (by decide) (by decide) dJ4_rightOf_12
set_option maxHeartbeats 4000000 in
set_option maxRecDepth 100000 in
theorem mJ4_colorOf {l : Launch} {D : ZD} {V : ZV} {t : Nat} {L : List Nat} {rt : Option Nat} {lf rg pa : Nat → Option Nat} {cl : Nat → Bool} {ky vl : Nat → Nat} {sz : Nat} {mc : Int32} (hW : tW V t L rt lf rg pa cl ky vl sz mc) {o : Option Nat} (ho : ∀ a, o = some a → a ∈ L) : ZM l D yJ4_colorOf (ws_ yJ4_colorOf cJ4_colorOf 1 (some .boolean)) 1 0 0 eB V [va_rf o] (fun r V' => V' = V ∧ r = oC cl o) zno_x := by
  refine z_enter (by decide +kernel) [(0, va_rf o)] (by cases o <;> rfl) (by cases o <;> exact Nat.le_of_ble_eq_true rfl) (zcat_cons (va_rf_cat _) zcat_nil) (fun Γ C hQ => ?_)
  have hU0 : zUnc V V (tC t L) := zUnc.rf
  rcases o with _ | a
  · skip
    refine z_aload_nQ C 0 (r := none) rfl dJ4_colorOf_0 rfl ?_
    refine z_ifnonnull_n C dJ4_colorOf_1 ?_
    refine z_iconst C (v := (nI 1)) dJ4_colorOf_4 rfl ?_
    refine z_goto C 12 dJ4_colorOf_5 (by decide) ?_
    exact z_zret C hQ true rfl rfl ⟨rfl, rfl⟩ (by decide) (by decide) dJ4_colorOf_12
  · skip
    refine z_aload_n C 0 rfl dJ4_colorOf_0 rfl ?_
    refine z_ifnonnull_r C 8 dJ4_colorOf_1 (by decide) ?_
    refine z_aload_n C 0 rfl dJ4_colorOf_8 rfl ?_
    refine z_get C k_E (hW.2 a (ho a rfl)) 5 (by decide) rfl q1041 dJ4_colorOf_9 ?_
    exact z_zret C hQ (cl a) rfl (zb_nar _) ⟨rfl, rfl⟩ (by decide) (by decide) dJ4_colorOf_12
set_option maxHeartbeats 4000000 in
set_option maxRecDepth 100000 in
theorem mJ4_setColor {l : Launch} {D : ZD} {V : ZV} {t : Nat} {L : List Nat} {rt : Option Nat} {lf rg pa : Nat → Option Nat} {cl : Nat → Bool} {ky vl : Nat → Nat} {sz : Nat} {mc : Int32} (hW : tW V t L rt lf rg pa cl ky vl sz mc) {o : Option Nat} {c : Bool} (ho : ∀ a, o = some a → a ∈ L) : ZM l D yJ4_setColor (ws_ yJ4_setColor cJ4_setColor 2 none) 1 0 0 eU V [va_rf o, .int (zb c)] (fun r V' => tW V' t L rt lf rg pa (oS cl o c) ky vl sz mc ∧ zUnc V V' (tC t L)) zno_x := by
  refine z_enter (by decide +kernel) [(0, va_rf o), (1, .int (zb c))] (by cases o <;> rfl) (by cases o <;> exact Nat.le_of_ble_eq_true rfl) (zcat_cons (va_rf_cat _) (zcat_cons rfl zcat_nil)) (fun Γ C hQ => ?_)
  have hU0 : zUnc V V (tC t L) := zUnc.rf
  rcases o with _ | a
  · skip
    refine z_aload_nQ C 0 (r := none) rfl dJ4_setColor_0 rfl ?_
    refine z_ifnull_n C 9 dJ4_setColor_1 (by decide) ?_
    exact z_vret C hQ () rfl ⟨hW, hU0⟩ (by decide) (by decide) dJ4_setColor_9
  · skip
    refine z_aload_n C 0 rfl dJ4_setColor_0 rfl ?_
    refine z_ifnull_r C dJ4_setColor_1 ?_
    refine z_aload_n C 0 rfl dJ4_setColor_4 rfl ?_
    refine z_iload_n C 1 rfl dJ4_setColor_5 rfl ?_
    refine z_put C k_E (hW.2 a (ho a rfl)) 5 (by decide) [.ref (ky a), .ref (vl a), va_rf (lf a), va_rf (rg a), va_rf (pa a), .int (zb c)] rfl (Nat.le_of_ble_eq_true rfl) (zb_nar _) (zb_fit _) rfl q1041 dJ4_setColor_6 (z_nV (fun V1 hV2 => ?_))
    have hW3 := tW.ucl hW (ho a rfl) c hV2
    have hU4 := zUnc.up (S := tC t L) hU0 hV2 (Or.inr (ho a rfl))
    exact z_vret C hQ () rfl ⟨hW3, hU4⟩ (by decide) (by decide) dJ4_setColor_9
set_option maxHeartbeats 4000000 in
set_option maxRecDepth 100000 in
theorem mJ4_rotateLeft_n {l : Launch} {D : ZD} {V : ZV} {t : Nat} {L : List Nat} {rt : Option Nat} {lf rg pa : Nat → Option Nat} {cl : Nat → Bool} {ky vl : Nat → Nat} {sz : Nat} {mc : Int32} (hW : tW V t L rt lf rg pa cl ky vl sz mc)  : ZM l D yJ4_rotateLeft (ws_ yJ4_rotateLeft cJ4_rotateLeft 3 none) 1 0 0 eU V [.ref t, .null] (fun r V' => V' = V) zno_x := by
  refine z_enter (by decide +kernel) [(0, .ref t), (1, .null)] rfl (Nat.le_of_ble_eq_true rfl) (zcat_cons rfl (zcat_cons rfl zcat_nil)) (fun Γ C hQ => ?_)
  have hU0 : zUnc V V (tC t L) := zUnc.rf
  refine z_aload_nQ C 1 (r := none) rfl dJ4_rotateLeft_0 rfl ?_
  refine z_ifnull_n C 95 dJ4_rotateLeft_1 (by decide) ?_
  exact z_vret C hQ () rfl rfl (by decide) (by decide) dJ4_rotateLeft_95
set_option maxHeartbeats 4000000 in
set_option maxRecDepth 100000 in
theorem mJ4_rotateLeft {l : Launch} {D : ZD} {V : ZV} {t : Nat} {L : List Nat} {rt : Option Nat} {lf rg pa : Nat → Option Nat} {cl : Nat → Bool} {ky vl : Nat → Nat} {sz : Nat} {mc : Int32} (hW : tW V t L rt lf rg pa cl ky vl sz mc) {ps lo hi : Nat → Nat} (hI : tI L rt lf rg pa ps lo hi) {p w : Nat} (hp : p ∈ L) (hr : rg p = some w) : ZM l D yJ4_rotateLeft (ws_ yJ4_rotateLeft cJ4_rotateLeft 3 none) 1 0 0 eU V [.ref t, .ref p] (fun r V' => tW V' t L (xT rt p w) (xL lf p w) (xR lf rg p w) (xP lf pa p w) cl ky vl sz mc ∧ zUnc V V' (tC t L)) zno_x := by
  refine z_enter (by decide +kernel) [(0, .ref t), (1, .ref p)] rfl (Nat.le_of_ble_eq_true rfl) (zcat_cons rfl (zcat_cons rfl zcat_nil)) (fun Γ C hQ => ?_)
  have hU0 : zUnc V V (tC t L) := zUnc.rf
  obtain ⟨hm1, hp2, nx3⟩ := hI.mr hp hr
  refine z_aload_n C 1 rfl dJ4_rotateLeft_0 rfl ?_
  refine z_ifnull_r C dJ4_rotateLeft_1 ?_
  refine z_aload_n C 1 rfl dJ4_rotateLeft_4 rfl ?_
  refine z_get C k_E (hW.2 p hp) 3 (by decide) rfl q1037 dJ4_rotateLeft_5 ?_
  refine z_top (v := .ref w) (congrArg va_rf (show (rg p) = (some w) from (by rw [hr]))) ?_
  refine z_astore_n C [(2, .ref w), (0, .ref t), (1, .ref p)] dJ4_rotateLeft_8 rfl (by decide) rfl ?_
  refine z_aload_n C 2 rfl dJ4_rotateLeft_9 rfl ?_
  refine z_aload_n C 0 rfl dJ4_rotateLeft_10 rfl ?_
  refine z_get C k_E (hW.2 w hm1) 2 (by decide) rfl q1036 dJ4_rotateLeft_11 ?_
  refine z_put C k_E (hW.2 p hp) 3 (by decide) [.ref (ky p), .ref (vl p), va_rf (lf p), va_rf (lf w), va_rf (pa p), .int (zb (cl p))] rfl (Nat.le_of_ble_eq_true rfl) rfl (va_fitO _) rfl q1037 dJ4_rotateLeft_14 (z_nV (fun V4 hV5 => ?_))
  have hW6 := tW.urg hW hp (lf w) hV5
  have hU7 := zUnc.up (S := tC t L) hU0 hV5 (Or.inr hp)
  refine z_aload_n C 0 rfl dJ4_rotateLeft_17 rfl ?_
  refine z_get C k_E (hW6.2 w hm1) 2 (by decide) rfl q1036 dJ4_rotateLeft_18 ?_
  refine z_ifnullQ C 32 dJ4_rotateLeft_21 (by decide) (fun hn9 => ?_) (fun a8 hs10 => ?_)
  · skip
    refine z_aload_n C 0 rfl dJ4_rotateLeft_32 rfl ?_
    refine z_aload_n C 2 rfl dJ4_rotateLeft_33 rfl ?_
    refine z_get C k_E (hW6.2 p hp) 4 (by decide) rfl q1039 dJ4_rotateLeft_34 ?_
    refine z_put C k_E (hW6.2 w hm1) 4 (by decide) [.ref (ky w), .ref (vl w), va_rf (lf w), va_rf ((va_up rg p (lf w)) w), va_rf (pa p), .int (zb (cl w))] rfl (Nat.le_of_ble_eq_true rfl) rfl (va_fitO _) rfl q1039 dJ4_rotateLeft_37 (z_nV (fun V11 hV12 => ?_))
    have hW13 := tW.upa hW6 hm1 (pa p) hV12
    have hU14 := zUnc.up (S := tC t L) hU7 hV12 (Or.inr hm1)
    refine z_aload_n C 2 rfl dJ4_rotateLeft_40 rfl ?_
    refine z_get C k_E (hW13.2 p hp) 4 (by decide) rfl q1039 dJ4_rotateLeft_41 ?_
    refine z_top (v := va_rf (pa p)) (congrArg va_rf (show ((va_up pa w (pa p)) p) = (pa p) from (by rw [zvn (Ne.symm nx3)]))) ?_
    refine z_ifnonnullQ C 55 dJ4_rotateLeft_44 (by decide) (fun a15 hs17 => ?_) (fun hn16 => ?_)
    · skip
      obtain ⟨hm18, -, nx20, -⟩ := hI.mp hp hs17
      refine z_aload_n C 2 rfl dJ4_rotateLeft_55 rfl ?_
      refine z_get C k_E (hW13.2 p hp) 4 (by decide) rfl q1039 dJ4_rotateLeft_56 ?_
      refine z_top (v := .ref a15) (congrArg va_rf (show ((va_up pa w (pa p)) p) = (some a15) from (by rw [zvn (Ne.symm nx3), hs17]))) ?_
      refine z_get C k_E (hW13.2 a15 hm18) 2 (by decide) rfl q1036 dJ4_rotateLeft_59 ?_
      refine z_aload_n C 2 rfl dJ4_rotateLeft_62 rfl ?_
      refine z_acmp_ne C (lf a15) (some p) 77 dJ4_rotateLeft_63 (by decide) (fun c63 => ?_) (fun c63 => ?_)
      · skip
        have k21 : ¬ lf a15 = (some p) := c63
        refine z_aload_n C 2 rfl dJ4_rotateLeft_77 rfl ?_
        refine z_get C k_E (hW13.2 p hp) 4 (by decide) rfl q1039 dJ4_rotateLeft_78 ?_
        refine z_top (v := .ref a15) (congrArg va_rf (show ((va_up pa w (pa p)) p) = (some a15) from (by rw [zvn (Ne.symm nx3), hs17]))) ?_
        refine z_aload_n C 0 rfl dJ4_rotateLeft_81 rfl ?_
        refine z_put C k_E (hW13.2 a15 hm18) 3 (by decide) [.ref (ky a15), .ref (vl a15), va_rf (lf a15), .ref w, va_rf ((va_up pa w (pa p)) a15), .int (zb (cl a15))] rfl (Nat.le_of_ble_eq_true rfl) rfl rfl rfl q1037 dJ4_rotateLeft_82 (z_nV (fun V22 hV23 => ?_))
        have hW24 := tW.urg hW13 hm18 (some w) hV23
        have hU25 := zUnc.up (S := tC t L) hU14 hV23 (Or.inr hm18)
        refine z_aload_n C 0 rfl dJ4_rotateLeft_85 rfl ?_
        refine z_aload_n C 2 rfl dJ4_rotateLeft_86 rfl ?_
        refine z_put C k_E (hW24.2 w hm1) 2 (by decide) [.ref (ky w), .ref (vl w), .ref p, va_rf ((va_up (va_up rg p (lf w)) a15 (some w)) w), va_rf ((va_up pa w (pa p)) w), .int (zb (cl w))] rfl (Nat.le_of_ble_eq_true rfl) rfl rfl rfl q1036 dJ4_rotateLeft_87 (z_nV (fun V26 hV27 => ?_))
        have hW28 := tW.ulf hW24 hm1 (some p) hV27
        have hU29 := zUnc.up (S := tC t L) hU25 hV27 (Or.inr hm1)
        refine z_aload_n C 2 rfl dJ4_rotateLeft_90 rfl ?_
        refine z_aload_n C 0 rfl dJ4_rotateLeft_91 rfl ?_
        refine z_put C k_E (hW28.2 p hp) 4 (by decide) [.ref (ky p), .ref (vl p), va_rf ((va_up lf w (some p)) p), va_rf ((va_up (va_up rg p (lf w)) a15 (some w)) p), .ref w, .int (zb (cl p))] rfl (Nat.le_of_ble_eq_true rfl) rfl rfl rfl q1039 dJ4_rotateLeft_92 (z_nV (fun V30 hV31 => ?_))
        have hW32 := tW.upa hW28 hp (some w) hV31
        have hU33 := zUnc.up (S := tC t L) hU29 hV31 (Or.inr hp)
        have hs34 := hI.sdR hp hs17 k21
        exact z_vret C hQ () rfl ⟨tW.cg hW32 (hI.xt1 hs17) (rot_l1 (hI.nl hs17 k21)) (rot_r2 rfl nx20 (hI.ur hs17) hs34) (rot_p1 hn9 rfl), hU33⟩ (by decide) (by decide) dJ4_rotateLeft_95
      · skip
        have k35 : lf a15 = (some p) := c63
        obtain ⟨hm36, hp37, nx38⟩ := hI.ml hm18 k35
        refine z_aload_n C 2 rfl dJ4_rotateLeft_66 rfl ?_
        refine z_get C k_E (hW13.2 p hp) 4 (by decide) rfl q1039 dJ4_rotateLeft_67 ?_
        refine z_top (v := .ref a15) (congrArg va_rf (show ((va_up pa w (pa p)) p) = (some a15) from (by rw [zvn (Ne.symm nx3), hs17]))) ?_
        refine z_aload_n C 0 rfl dJ4_rotateLeft_70 rfl ?_
        refine z_put C k_E (hW13.2 a15 hm18) 2 (by decide) [.ref (ky a15), .ref (vl a15), .ref w, va_rf ((va_up rg p (lf w)) a15), va_rf ((va_up pa w (pa p)) a15), .int (zb (cl a15))] rfl (Nat.le_of_ble_eq_true rfl) rfl rfl rfl q1036 dJ4_rotateLeft_71 (z_nV (fun V39 hV40 => ?_))
        have hW41 := tW.ulf hW13 hm18 (some w) hV40
        have hU42 := zUnc.up (S := tC t L) hU14 hV40 (Or.inr hm18)
        refine z_goto C 85 dJ4_rotateLeft_74 (by decide) ?_
        refine z_aload_n C 0 rfl dJ4_rotateLeft_85 rfl ?_
        refine z_aload_n C 2 rfl dJ4_rotateLeft_86 rfl ?_
        refine z_put C k_E (hW41.2 w hm1) 2 (by decide) [.ref (ky w), .ref (vl w), .ref p, va_rf ((va_up rg p (lf w)) w), va_rf ((va_up pa w (pa p)) w), .int (zb (cl w))] rfl (Nat.le_of_ble_eq_true rfl) rfl rfl rfl q1036 dJ4_rotateLeft_87 (z_nV (fun V43 hV44 => ?_))
        have hW45 := tW.ulf hW41 hm1 (some p) hV44
        have hU46 := zUnc.up (S := tC t L) hU42 hV44 (Or.inr hm1)
        refine z_aload_n C 2 rfl dJ4_rotateLeft_90 rfl ?_
        refine z_aload_n C 0 rfl dJ4_rotateLeft_91 rfl ?_
        refine z_put C k_E (hW45.2 p hp) 4 (by decide) [.ref (ky p), .ref (vl p), va_rf ((va_up (va_up lf a15 (some w)) w (some p)) p), va_rf ((va_up rg p (lf w)) p), .ref w, .int (zb (cl p))] rfl (Nat.le_of_ble_eq_true rfl) rfl rfl rfl q1039 dJ4_rotateLeft_92 (z_nV (fun V47 hV48 => ?_))
        have hW49 := tW.upa hW45 hp (some w) hV48
        have hU50 := zUnc.up (S := tC t L) hU46 hV48 (Or.inr hp)
        exact z_vret C hQ () rfl ⟨tW.cg hW49 (hI.xt1 hs17) (rot_l2 (hI.ul hs17) k35) (rot_r1 rfl (hI.nr hs17 (hI.lr hm18 k35))) (rot_p1 hn9 rfl), hU50⟩ (by decide) (by decide) dJ4_rotateLeft_95
    · skip
      refine z_aload_n C 1 rfl dJ4_rotateLeft_47 rfl ?_
      refine z_aload_n C 0 rfl dJ4_rotateLeft_48 rfl ?_
      refine z_put C k_TM hW13.1 3 (by decide) [.null, .null, .null, .ref w, .int (nI sz), .int mc, .null, .null, .null] rfl (Nat.le_of_ble_eq_true rfl) rfl rfl rfl q162 dJ4_rotateLeft_49 (z_nV (fun V51 hV52 => ?_))
      have hW53 := tW.map hW13 (some w) sz mc hV52
      have hU54 := zUnc.up (S := tC t L) hU14 hV52 (Or.inl rfl)
      refine z_goto C 85 dJ4_rotateLeft_52 (by decide) ?_
      refine z_aload_n C 0 rfl dJ4_rotateLeft_85 rfl ?_
      refine z_aload_n C 2 rfl dJ4_rotateLeft_86 rfl ?_
      refine z_put C k_E (hW53.2 w hm1) 2 (by decide) [.ref (ky w), .ref (vl w), .ref p, va_rf ((va_up rg p (lf w)) w), va_rf ((va_up pa w (pa p)) w), .int (zb (cl w))] rfl (Nat.le_of_ble_eq_true rfl) rfl rfl rfl q1036 dJ4_rotateLeft_87 (z_nV (fun V55 hV56 => ?_))
      have hW57 := tW.ulf hW53 hm1 (some p) hV56
      have hU58 := zUnc.up (S := tC t L) hU54 hV56 (Or.inr hm1)
      refine z_aload_n C 2 rfl dJ4_rotateLeft_90 rfl ?_
      refine z_aload_n C 0 rfl dJ4_rotateLeft_91 rfl ?_
      refine z_put C k_E (hW57.2 p hp) 4 (by decide) [.ref (ky p), .ref (vl p), va_rf ((va_up lf w (some p)) p), va_rf ((va_up rg p (lf w)) p), .ref w, .int (zb (cl p))] rfl (Nat.le_of_ble_eq_true rfl) rfl rfl rfl q1039 dJ4_rotateLeft_92 (z_nV (fun V59 hV60 => ?_))
      have hW61 := tW.upa hW57 hp (some w) hV60
      have hU62 := zUnc.up (S := tC t L) hU58 hV60 (Or.inr hp)
      exact z_vret C hQ () rfl ⟨tW.cg hW61 (hI.xt0 hp hn16) (rot_l1 (hI.nl0 hn16)) (rot_r1 rfl (hI.nr0 hn16)) (rot_p1 hn9 rfl), hU62⟩ (by decide) (by decide) dJ4_rotateLeft_95
  · skip
    obtain ⟨hm63, hp64, nx65⟩ := hI.ml hm1 hs10
    refine z_aload_n C 0 rfl dJ4_rotateLeft_24 rfl ?_
    refine z_get C k_E (hW6.2 w hm1) 2 (by decide) rfl q1036 dJ4_rotateLeft_25 ?_
    refine z_top (v := .ref a8) (congrArg va_rf (show (lf w) = (some a8) from (by rw [hs10]))) ?_
    refine z_aload_n C 2 rfl dJ4_rotateLeft_28 rfl ?_
    refine z_put C k_E (hW6.2 a8 hm63) 4 (by decide) [.ref (ky a8), .ref (vl a8), va_rf (lf a8), va_rf ((va_up rg p (lf w)) a8), .ref p, .int (zb (cl a8))] rfl (Nat.le_of_ble_eq_true rfl) rfl rfl rfl q1039 dJ4_rotateLeft_29 (z_nV (fun V66 hV67 => ?_))
    have hW68 := tW.upa hW6 hm63 (some p) hV67
    have hU69 := zUnc.up (S := tC t L) hU7 hV67 (Or.inr hm63)
    refine z_aload_n C 0 rfl dJ4_rotateLeft_32 rfl ?_
    refine z_aload_n C 2 rfl dJ4_rotateLeft_33 rfl ?_
    refine z_get C k_E (hW68.2 p hp) 4 (by decide) rfl q1039 dJ4_rotateLeft_34 ?_
    have nx70 : p ≠ a8 := (Ne.symm (tI.gg hI hm63 hp64 hm1 hp2))
    refine z_top (v := va_rf (pa p)) (congrArg va_rf (show ((va_up pa a8 (some p)) p) = (pa p) from (by rw [zvn nx70]))) ?_
    refine z_put C k_E (hW68.2 w hm1) 4 (by decide) [.ref (ky w), .ref (vl w), va_rf (lf w), va_rf ((va_up rg p (lf w)) w), va_rf (pa p), .int (zb (cl w))] rfl (Nat.le_of_ble_eq_true rfl) rfl (va_fitO _) rfl q1039 dJ4_rotateLeft_37 (z_nV (fun V71 hV72 => ?_))
    have hW73 := tW.upa hW68 hm1 (pa p) hV72
    have hU74 := zUnc.up (S := tC t L) hU69 hV72 (Or.inr hm1)
    refine z_aload_n C 2 rfl dJ4_rotateLeft_40 rfl ?_
    refine z_get C k_E (hW73.2 p hp) 4 (by decide) rfl q1039 dJ4_rotateLeft_41 ?_
    refine z_top (v := va_rf (pa p)) (congrArg va_rf (show ((va_up (va_up pa a8 (some p)) w (pa p)) p) = (pa p) from (by rw [zvn (Ne.symm nx3), zvn nx70]))) ?_
    refine z_ifnonnullQ C 55 dJ4_rotateLeft_44 (by decide) (fun a75 hs77 => ?_) (fun hn76 => ?_)
    · skip
      obtain ⟨hm78, -, nx80, -⟩ := hI.mp hp hs77
      refine z_aload_n C 2 rfl dJ4_rotateLeft_55 rfl ?_
      refine z_get C k_E (hW73.2 p hp) 4 (by decide) rfl q1039 dJ4_rotateLeft_56 ?_
      refine z_top (v := .ref a75) (congrArg va_rf (show ((va_up (va_up pa a8 (some p)) w (pa p)) p) = (some a75) from (by rw [zvn (Ne.symm nx3), zvn nx70, hs77]))) ?_
      refine z_get C k_E (hW73.2 a75 hm78) 2 (by decide) rfl q1036 dJ4_rotateLeft_59 ?_
      refine z_aload_n C 2 rfl dJ4_rotateLeft_62 rfl ?_
      refine z_acmp_ne C (lf a75) (some p) 77 dJ4_rotateLeft_63 (by decide) (fun c63 => ?_) (fun c63 => ?_)
      · skip
        have k81 : ¬ lf a75 = (some p) := c63
        refine z_aload_n C 2 rfl dJ4_rotateLeft_77 rfl ?_
        refine z_get C k_E (hW73.2 p hp) 4 (by decide) rfl q1039 dJ4_rotateLeft_78 ?_
        refine z_top (v := .ref a75) (congrArg va_rf (show ((va_up (va_up pa a8 (some p)) w (pa p)) p) = (some a75) from (by rw [zvn (Ne.symm nx3), zvn nx70, hs77]))) ?_
        refine z_aload_n C 0 rfl dJ4_rotateLeft_81 rfl ?_
        refine z_put C k_E (hW73.2 a75 hm78) 3 (by decide) [.ref (ky a75), .ref (vl a75), va_rf (lf a75), .ref w, va_rf ((va_up (va_up pa a8 (some p)) w (pa p)) a75), .int (zb (cl a75))] rfl (Nat.le_of_ble_eq_true rfl) rfl rfl rfl q1037 dJ4_rotateLeft_82 (z_nV (fun V82 hV83 => ?_))
        have hW84 := tW.urg hW73 hm78 (some w) hV83
        have hU85 := zUnc.up (S := tC t L) hU74 hV83 (Or.inr hm78)
        refine z_aload_n C 0 rfl dJ4_rotateLeft_85 rfl ?_
        refine z_aload_n C 2 rfl dJ4_rotateLeft_86 rfl ?_
        refine z_put C k_E (hW84.2 w hm1) 2 (by decide) [.ref (ky w), .ref (vl w), .ref p, va_rf ((va_up (va_up rg p (lf w)) a75 (some w)) w), va_rf ((va_up (va_up pa a8 (some p)) w (pa p)) w), .int (zb (cl w))] rfl (Nat.le_of_ble_eq_true rfl) rfl rfl rfl q1036 dJ4_rotateLeft_87 (z_nV (fun V86 hV87 => ?_))
        have hW88 := tW.ulf hW84 hm1 (some p) hV87
        have hU89 := zUnc.up (S := tC t L) hU85 hV87 (Or.inr hm1)
        refine z_aload_n C 2 rfl dJ4_rotateLeft_90 rfl ?_
        refine z_aload_n C 0 rfl dJ4_rotateLeft_91 rfl ?_
        refine z_put C k_E (hW88.2 p hp) 4 (by decide) [.ref (ky p), .ref (vl p), va_rf ((va_up lf w (some p)) p), va_rf ((va_up (va_up rg p (lf w)) a75 (some w)) p), .ref w, .int (zb (cl p))] rfl (Nat.le_of_ble_eq_true rfl) rfl rfl rfl q1039 dJ4_rotateLeft_92 (z_nV (fun V90 hV91 => ?_))
        have hW92 := tW.upa hW88 hp (some w) hV91
        have hU93 := zUnc.up (S := tC t L) hU89 hV91 (Or.inr hp)
        have hs94 := hI.sdR hp hs77 k81
        exact z_vret C hQ () rfl ⟨tW.cg hW92 (hI.xt1 hs77) (rot_l1 (hI.nl hs77 k81)) (rot_r2 rfl nx80 (hI.ur hs77) hs94) (rot_p2 hs10 rfl), hU93⟩ (by decide) (by decide) dJ4_rotateLeft_95
      · skip
        have k95 : lf a75 = (some p) := c63
        obtain ⟨hm96, hp97, nx98⟩ := hI.ml hm78 k95
        refine z_aload_n C 2 rfl dJ4_rotateLeft_66 rfl ?_
        refine z_get C k_E (hW73.2 p hp) 4 (by decide) rfl q1039 dJ4_rotateLeft_67 ?_
        refine z_top (v := .ref a75) (congrArg va_rf (show ((va_up (va_up pa a8 (some p)) w (pa p)) p) = (some a75) from (by rw [zvn (Ne.symm nx3), zvn nx70, hs77]))) ?_
        refine z_aload_n C 0 rfl dJ4_rotateLeft_70 rfl ?_
        refine z_put C k_E (hW73.2 a75 hm78) 2 (by decide) [.ref (ky a75), .ref (vl a75), .ref w, va_rf ((va_up rg p (lf w)) a75), va_rf ((va_up (va_up pa a8 (some p)) w (pa p)) a75), .int (zb (cl a75))] rfl (Nat.le_of_ble_eq_true rfl) rfl rfl rfl q1036 dJ4_rotateLeft_71 (z_nV (fun V99 hV100 => ?_))
        have hW101 := tW.ulf hW73 hm78 (some w) hV100
        have hU102 := zUnc.up (S := tC t L) hU74 hV100 (Or.inr hm78)
        refine z_goto C 85 dJ4_rotateLeft_74 (by decide) ?_
        refine z_aload_n C 0 rfl dJ4_rotateLeft_85 rfl ?_
        refine z_aload_n C 2 rfl dJ4_rotateLeft_86 rfl ?_
        refine z_put C k_E (hW101.2 w hm1) 2 (by decide) [.ref (ky w), .ref (vl w), .ref p, va_rf ((va_up rg p (lf w)) w), va_rf ((va_up (va_up pa a8 (some p)) w (pa p)) w), .int (zb (cl w))] rfl (Nat.le_of_ble_eq_true rfl) rfl rfl rfl q1036 dJ4_rotateLeft_87 (z_nV (fun V103 hV104 => ?_))
        have hW105 := tW.ulf hW101 hm1 (some p) hV104
        have hU106 := zUnc.up (S := tC t L) hU102 hV104 (Or.inr hm1)
        refine z_aload_n C 2 rfl dJ4_rotateLeft_90 rfl ?_
        refine z_aload_n C 0 rfl dJ4_rotateLeft_91 rfl ?_
        refine z_put C k_E (hW105.2 p hp) 4 (by decide) [.ref (ky p), .ref (vl p), va_rf ((va_up (va_up lf a75 (some w)) w (some p)) p), va_rf ((va_up rg p (lf w)) p), .ref w, .int (zb (cl p))] rfl (Nat.le_of_ble_eq_true rfl) rfl rfl rfl q1039 dJ4_rotateLeft_92 (z_nV (fun V107 hV108 => ?_))
        have hW109 := tW.upa hW105 hp (some w) hV108
        have hU110 := zUnc.up (S := tC t L) hU106 hV108 (Or.inr hp)
        exact z_vret C hQ () rfl ⟨tW.cg hW109 (hI.xt1 hs77) (rot_l2 (hI.ul hs77) k95) (rot_r1 rfl (hI.nr hs77 (hI.lr hm78 k95))) (rot_p2 hs10 rfl), hU110⟩ (by decide) (by decide) dJ4_rotateLeft_95
    · skip
      refine z_aload_n C 1 rfl dJ4_rotateLeft_47 rfl ?_
      refine z_aload_n C 0 rfl dJ4_rotateLeft_48 rfl ?_
      refine z_put C k_TM hW73.1 3 (by decide) [.null, .null, .null, .ref w, .int (nI sz), .int mc, .null, .null, .null] rfl (Nat.le_of_ble_eq_true rfl) rfl rfl rfl q162 dJ4_rotateLeft_49 (z_nV (fun V111 hV112 => ?_))
      have hW113 := tW.map hW73 (some w) sz mc hV112
      have hU114 := zUnc.up (S := tC t L) hU74 hV112 (Or.inl rfl)
      refine z_goto C 85 dJ4_rotateLeft_52 (by decide) ?_
      refine z_aload_n C 0 rfl dJ4_rotateLeft_85 rfl ?_
      refine z_aload_n C 2 rfl dJ4_rotateLeft_86 rfl ?_
      refine z_put C k_E (hW113.2 w hm1) 2 (by decide) [.ref (ky w), .ref (vl w), .ref p, va_rf ((va_up rg p (lf w)) w), va_rf ((va_up (va_up pa a8 (some p)) w (pa p)) w), .int (zb (cl w))] rfl (Nat.le_of_ble_eq_true rfl) rfl rfl rfl q1036 dJ4_rotateLeft_87 (z_nV (fun V115 hV116 => ?_))
      have hW117 := tW.ulf hW113 hm1 (some p) hV116
      have hU118 := zUnc.up (S := tC t L) hU114 hV116 (Or.inr hm1)
      refine z_aload_n C 2 rfl dJ4_rotateLeft_90 rfl ?_
      refine z_aload_n C 0 rfl dJ4_rotateLeft_91 rfl ?_
      refine z_put C k_E (hW117.2 p hp) 4 (by decide) [.ref (ky p), .ref (vl p), va_rf ((va_up lf w (some p)) p), va_rf ((va_up rg p (lf w)) p), .ref w, .int (zb (cl p))] rfl (Nat.le_of_ble_eq_true rfl) rfl rfl rfl q1039 dJ4_rotateLeft_92 (z_nV (fun V119 hV120 => ?_))
      have hW121 := tW.upa hW117 hp (some w) hV120
      have hU122 := zUnc.up (S := tC t L) hU118 hV120 (Or.inr hp)
      exact z_vret C hQ () rfl ⟨tW.cg hW121 (hI.xt0 hp hn76) (rot_l1 (hI.nl0 hn76)) (rot_r1 rfl (hI.nr0 hn76)) (rot_p2 hs10 rfl), hU122⟩ (by decide) (by decide) dJ4_rotateLeft_95
set_option maxHeartbeats 4000000 in
set_option maxRecDepth 100000 in
theorem mJ4_rotateRight_n {l : Launch} {D : ZD} {V : ZV} {t : Nat} {L : List Nat} {rt : Option Nat} {lf rg pa : Nat → Option Nat} {cl : Nat → Bool} {ky vl : Nat → Nat} {sz : Nat} {mc : Int32} (hW : tW V t L rt lf rg pa cl ky vl sz mc)  : ZM l D yJ4_rotateRight (ws_ yJ4_rotateRight cJ4_rotateRight 3 none) 1 0 0 eU V [.ref t, .null] (fun r V' => V' = V) zno_x := by
  refine z_enter (by decide +kernel) [(0, .ref t), (1, .null)] rfl (Nat.le_of_ble_eq_true rfl) (zcat_cons rfl (zcat_cons rfl zcat_nil)) (fun Γ C hQ => ?_)
  have hU0 : zUnc V V (tC t L) := zUnc.rf
  refine z_aload_nQ C 1 (r := none) rfl dJ4_rotateRight_0 rfl ?_
  refine z_ifnull_n C 95 dJ4_rotateRight_1 (by decide) ?_
  exact z_vret C hQ () rfl rfl (by decide) (by decide) dJ4_rotateRight_95
set_option maxHeartbeats 4000000 in
set_option maxRecDepth 100000 in
theorem mJ4_rotateRight {l : Launch} {D : ZD} {V : ZV} {t : Nat} {L : List Nat} {rt : Option Nat} {lf rg pa : Nat → Option Nat} {cl : Nat → Bool} {ky vl : Nat → Nat} {sz : Nat} {mc : Int32} (hW : tW V t L rt lf rg pa cl ky vl sz mc) {ps lo hi : Nat → Nat} (hI : tI L rt lf rg pa ps lo hi) {p w : Nat} (hp : p ∈ L) (hr : lf p = some w) : ZM l D yJ4_rotateRight (ws_ yJ4_rotateRight cJ4_rotateRight 3 none) 1 0 0 eU V [.ref t, .ref p] (fun r V' => tW V' t L (xT rt p w) (xR rg lf p w) (xL rg p w) (xP rg pa p w) cl ky vl sz mc ∧ zUnc V V' (tC t L)) zno_x := by
  refine z_enter (by decide +kernel) [(0, .ref t), (1, .ref p)] rfl (Nat.le_of_ble_eq_true rfl) (zcat_cons rfl (zcat_cons rfl zcat_nil)) (fun Γ C hQ => ?_)
  have hU0 : zUnc V V (tC t L) := zUnc.rf
  obtain ⟨hm1, hp2, nx3⟩ := hI.ml hp hr
  refine z_aload_n C 1 rfl dJ4_rotateRight_0 rfl ?_
  refine z_ifnull_r C dJ4_rotateRight_1 ?_
  refine z_aload_n C 1 rfl dJ4_rotateRight_4 rfl ?_
  refine z_get C k_E (hW.2 p hp) 2 (by decide) rfl q1036 dJ4_rotateRight_5 ?_
  refine z_top (v := .ref w) (congrArg va_rf (show (lf p) = (some w) from (by rw [hr]))) ?_
  refine z_astore_n C [(2, .ref w), (0, .ref t), (1, .ref p)] dJ4_rotateRight_8 rfl (by decide) rfl ?_
  refine z_aload_n C 2 rfl dJ4_rotateRight_9 rfl ?_
  refine z_aload_n C 0 rfl dJ4_rotateRight_10 rfl ?_
  refine z_get C k_E (hW.2 w hm1) 3 (by decide) rfl q1037 dJ4_rotateRight_11 ?_
  refine z_put C k_E (hW.2 p hp) 2 (by decide) [.ref (ky p), .ref (vl p), va_rf (rg w), va_rf (rg p), va_rf (pa p), .int (zb (cl p))] rfl (Nat.le_of_ble_eq_true rfl) rfl (va_fitO _) rfl q1036 dJ4_rotateRight_14 (z_nV (fun V4 hV5 => ?_))
  have hW6 := tW.ulf hW hp (rg w) hV5
  have hU7 := zUnc.up (S := tC t L) hU0 hV5 (Or.inr hp)
  refine z_aload_n C 0 rfl dJ4_rotateRight_17 rfl ?_
  refine z_get C k_E (hW6.2 w hm1) 3 (by decide) rfl q1037 dJ4_rotateRight_18 ?_
  refine z_ifnullQ C 32 dJ4_rotateRight_21 (by decide) (fun hn9 => ?_) (fun a8 hs10 => ?_)
  · skip
    refine z_aload_n C 0 rfl dJ4_rotateRight_32 rfl ?_
    refine z_aload_n C 2 rfl dJ4_rotateRight_33 rfl ?_
    refine z_get C k_E (hW6.2 p hp) 4 (by decide) rfl q1039 dJ4_rotateRight_34 ?_
    refine z_put C k_E (hW6.2 w hm1) 4 (by decide) [.ref (ky w), .ref (vl w), va_rf ((va_up lf p (rg w)) w), va_rf (rg w), va_rf (pa p), .int (zb (cl w))] rfl (Nat.le_of_ble_eq_true rfl) rfl (va_fitO _) rfl q1039 dJ4_rotateRight_37 (z_nV (fun V11 hV12 => ?_))
    have hW13 := tW.upa hW6 hm1 (pa p) hV12
    have hU14 := zUnc.up (S := tC t L) hU7 hV12 (Or.inr hm1)
    refine z_aload_n C 2 rfl dJ4_rotateRight_40 rfl ?_
    refine z_get C k_E (hW13.2 p hp) 4 (by decide) rfl q1039 dJ4_rotateRight_41 ?_
    refine z_top (v := va_rf (pa p)) (congrArg va_rf (show ((va_up pa w (pa p)) p) = (pa p) from (by rw [zvn (Ne.symm nx3)]))) ?_
    refine z_ifnonnullQ C 55 dJ4_rotateRight_44 (by decide) (fun a15 hs17 => ?_) (fun hn16 => ?_)
    · skip
      obtain ⟨hm18, -, nx20, -⟩ := hI.mp hp hs17
      refine z_aload_n C 2 rfl dJ4_rotateRight_55 rfl ?_
      refine z_get C k_E (hW13.2 p hp) 4 (by decide) rfl q1039 dJ4_rotateRight_56 ?_
      refine z_top (v := .ref a15) (congrArg va_rf (show ((va_up pa w (pa p)) p) = (some a15) from (by rw [zvn (Ne.symm nx3), hs17]))) ?_
      refine z_get C k_E (hW13.2 a15 hm18) 3 (by decide) rfl q1037 dJ4_rotateRight_59 ?_
      refine z_aload_n C 2 rfl dJ4_rotateRight_62 rfl ?_
      refine z_acmp_ne C (rg a15) (some p) 77 dJ4_rotateRight_63 (by decide) (fun c63 => ?_) (fun c63 => ?_)
      · skip
        have k21 : ¬ rg a15 = (some p) := c63
        refine z_aload_n C 2 rfl dJ4_rotateRight_77 rfl ?_
        refine z_get C k_E (hW13.2 p hp) 4 (by decide) rfl q1039 dJ4_rotateRight_78 ?_
        refine z_top (v := .ref a15) (congrArg va_rf (show ((va_up pa w (pa p)) p) = (some a15) from (by rw [zvn (Ne.symm nx3), hs17]))) ?_
        refine z_aload_n C 0 rfl dJ4_rotateRight_81 rfl ?_
        refine z_put C k_E (hW13.2 a15 hm18) 2 (by decide) [.ref (ky a15), .ref (vl a15), .ref w, va_rf (rg a15), va_rf ((va_up pa w (pa p)) a15), .int (zb (cl a15))] rfl (Nat.le_of_ble_eq_true rfl) rfl rfl rfl q1036 dJ4_rotateRight_82 (z_nV (fun V22 hV23 => ?_))
        have hW24 := tW.ulf hW13 hm18 (some w) hV23
        have hU25 := zUnc.up (S := tC t L) hU14 hV23 (Or.inr hm18)
        refine z_aload_n C 0 rfl dJ4_rotateRight_85 rfl ?_
        refine z_aload_n C 2 rfl dJ4_rotateRight_86 rfl ?_
        refine z_put C k_E (hW24.2 w hm1) 3 (by decide) [.ref (ky w), .ref (vl w), va_rf ((va_up (va_up lf p (rg w)) a15 (some w)) w), .ref p, va_rf ((va_up pa w (pa p)) w), .int (zb (cl w))] rfl (Nat.le_of_ble_eq_true rfl) rfl rfl rfl q1037 dJ4_rotateRight_87 (z_nV (fun V26 hV27 => ?_))
        have hW28 := tW.urg hW24 hm1 (some p) hV27
        have hU29 := zUnc.up (S := tC t L) hU25 hV27 (Or.inr hm1)
        refine z_aload_n C 2 rfl dJ4_rotateRight_90 rfl ?_
        refine z_aload_n C 0 rfl dJ4_rotateRight_91 rfl ?_
        refine z_put C k_E (hW28.2 p hp) 4 (by decide) [.ref (ky p), .ref (vl p), va_rf ((va_up (va_up lf p (rg w)) a15 (some w)) p), va_rf ((va_up rg w (some p)) p), .ref w, .int (zb (cl p))] rfl (Nat.le_of_ble_eq_true rfl) rfl rfl rfl q1039 dJ4_rotateRight_92 (z_nV (fun V30 hV31 => ?_))
        have hW32 := tW.upa hW28 hp (some w) hV31
        have hU33 := zUnc.up (S := tC t L) hU29 hV31 (Or.inr hp)
        have hs34 := hI.sdL hp hs17 k21
        exact z_vret C hQ () rfl ⟨tW.cg hW32 (hI.xt1 hs17) (rot_r2 rfl nx20 (hI.ul hs17) hs34) (rot_l1 (hI.nr hs17 k21)) (rot_p1 hn9 rfl), hU33⟩ (by decide) (by decide) dJ4_rotateRight_95
      · skip
        have k35 : rg a15 = (some p) := c63
        obtain ⟨hm36, hp37, nx38⟩ := hI.mr hm18 k35
        refine z_aload_n C 2 rfl dJ4_rotateRight_66 rfl ?_
        refine z_get C k_E (hW13.2 p hp) 4 (by decide) rfl q1039 dJ4_rotateRight_67 ?_
        refine z_top (v := .ref a15) (congrArg va_rf (show ((va_up pa w (pa p)) p) = (some a15) from (by rw [zvn (Ne.symm nx3), hs17]))) ?_
        refine z_aload_n C 0 rfl dJ4_rotateRight_70 rfl ?_
        refine z_put C k_E (hW13.2 a15 hm18) 3 (by decide) [.ref (ky a15), .ref (vl a15), va_rf ((va_up lf p (rg w)) a15), .ref w, va_rf ((va_up pa w (pa p)) a15), .int (zb (cl a15))] rfl (Nat.le_of_ble_eq_true rfl) rfl rfl rfl q1037 dJ4_rotateRight_71 (z_nV (fun V39 hV40 => ?_))
        have hW41 := tW.urg hW13 hm18 (some w) hV40
        have hU42 := zUnc.up (S := tC t L) hU14 hV40 (Or.inr hm18)
        refine z_goto C 85 dJ4_rotateRight_74 (by decide) ?_
        refine z_aload_n C 0 rfl dJ4_rotateRight_85 rfl ?_
        refine z_aload_n C 2 rfl dJ4_rotateRight_86 rfl ?_
        refine z_put C k_E (hW41.2 w hm1) 3 (by decide) [.ref (ky w), .ref (vl w), va_rf ((va_up lf p (rg w)) w), .ref p, va_rf ((va_up pa w (pa p)) w), .int (zb (cl w))] rfl (Nat.le_of_ble_eq_true rfl) rfl rfl rfl q1037 dJ4_rotateRight_87 (z_nV (fun V43 hV44 => ?_))
        have hW45 := tW.urg hW41 hm1 (some p) hV44
        have hU46 := zUnc.up (S := tC t L) hU42 hV44 (Or.inr hm1)
        refine z_aload_n C 2 rfl dJ4_rotateRight_90 rfl ?_
        refine z_aload_n C 0 rfl dJ4_rotateRight_91 rfl ?_
        refine z_put C k_E (hW45.2 p hp) 4 (by decide) [.ref (ky p), .ref (vl p), va_rf ((va_up lf p (rg w)) p), va_rf ((va_up (va_up rg a15 (some w)) w (some p)) p), .ref w, .int (zb (cl p))] rfl (Nat.le_of_ble_eq_true rfl) rfl rfl rfl q1039 dJ4_rotateRight_92 (z_nV (fun V47 hV48 => ?_))
        have hW49 := tW.upa hW45 hp (some w) hV48
        have hU50 := zUnc.up (S := tC t L) hU46 hV48 (Or.inr hp)
        exact z_vret C hQ () rfl ⟨tW.cg hW49 (hI.xt1 hs17) (rot_r1 rfl (hI.nl hs17 (hI.rl hm18 k35))) (rot_l2 (hI.ur hs17) k35) (rot_p1 hn9 rfl), hU50⟩ (by decide) (by decide) dJ4_rotateRight_95
    · skip
      refine z_aload_n C 1 rfl dJ4_rotateRight_47 rfl ?_
      refine z_aload_n C 0 rfl dJ4_rotateRight_48 rfl ?_
      refine z_put C k_TM hW13.1 3 (by decide) [.null, .null, .null, .ref w, .int (nI sz), .int mc, .null, .null, .null] rfl (Nat.le_of_ble_eq_true rfl) rfl rfl rfl q162 dJ4_rotateRight_49 (z_nV (fun V51 hV52 => ?_))
      have hW53 := tW.map hW13 (some w) sz mc hV52
      have hU54 := zUnc.up (S := tC t L) hU14 hV52 (Or.inl rfl)
      refine z_goto C 85 dJ4_rotateRight_52 (by decide) ?_
      refine z_aload_n C 0 rfl dJ4_rotateRight_85 rfl ?_
      refine z_aload_n C 2 rfl dJ4_rotateRight_86 rfl ?_
      refine z_put C k_E (hW53.2 w hm1) 3 (by decide) [.ref (ky w), .ref (vl w), va_rf ((va_up lf p (rg w)) w), .ref p, va_rf ((va_up pa w (pa p)) w), .int (zb (cl w))] rfl (Nat.le_of_ble_eq_true rfl) rfl rfl rfl q1037 dJ4_rotateRight_87 (z_nV (fun V55 hV56 => ?_))
      have hW57 := tW.urg hW53 hm1 (some p) hV56
      have hU58 := zUnc.up (S := tC t L) hU54 hV56 (Or.inr hm1)
      refine z_aload_n C 2 rfl dJ4_rotateRight_90 rfl ?_
      refine z_aload_n C 0 rfl dJ4_rotateRight_91 rfl ?_
      refine z_put C k_E (hW57.2 p hp) 4 (by decide) [.ref (ky p), .ref (vl p), va_rf ((va_up lf p (rg w)) p), va_rf ((va_up rg w (some p)) p), .ref w, .int (zb (cl p))] rfl (Nat.le_of_ble_eq_true rfl) rfl rfl rfl q1039 dJ4_rotateRight_92 (z_nV (fun V59 hV60 => ?_))
      have hW61 := tW.upa hW57 hp (some w) hV60
      have hU62 := zUnc.up (S := tC t L) hU58 hV60 (Or.inr hp)
      exact z_vret C hQ () rfl ⟨tW.cg hW61 (hI.xt0 hp hn16) (rot_r1 rfl (hI.nl0 hn16)) (rot_l1 (hI.nr0 hn16)) (rot_p1 hn9 rfl), hU62⟩ (by decide) (by decide) dJ4_rotateRight_95
  · skip
    obtain ⟨hm63, hp64, nx65⟩ := hI.mr hm1 hs10
    refine z_aload_n C 0 rfl dJ4_rotateRight_24 rfl ?_
    refine z_get C k_E (hW6.2 w hm1) 3 (by decide) rfl q1037 dJ4_rotateRight_25 ?_
    refine z_top (v := .ref a8) (congrArg va_rf (show (rg w) = (some a8) from (by rw [hs10]))) ?_
    refine z_aload_n C 2 rfl dJ4_rotateRight_28 rfl ?_
    refine z_put C k_E (hW6.2 a8 hm63) 4 (by decide) [.ref (ky a8), .ref (vl a8), va_rf ((va_up lf p (rg w)) a8), va_rf (rg a8), .ref p, .int (zb (cl a8))] rfl (Nat.le_of_ble_eq_true rfl) rfl rfl rfl q1039 dJ4_rotateRight_29 (z_nV (fun V66 hV67 => ?_))
    have hW68 := tW.upa hW6 hm63 (some p) hV67
    have hU69 := zUnc.up (S := tC t L) hU7 hV67 (Or.inr hm63)
    refine z_aload_n C 0 rfl dJ4_rotateRight_32 rfl ?_
    refine z_aload_n C 2 rfl dJ4_rotateRight_33 rfl ?_
    refine z_get C k_E (hW68.2 p hp) 4 (by decide) rfl q1039 dJ4_rotateRight_34 ?_
    have nx70 : p ≠ a8 := (Ne.symm (tI.gg hI hm63 hp64 hm1 hp2))
    refine z_top (v := va_rf (pa p)) (congrArg va_rf (show ((va_up pa a8 (some p)) p) = (pa p) from (by rw [zvn nx70]))) ?_
    refine z_put C k_E (hW68.2 w hm1) 4 (by decide) [.ref (ky w), .ref (vl w), va_rf ((va_up lf p (rg w)) w), va_rf (rg w), va_rf (pa p), .int (zb (cl w))] rfl (Nat.le_of_ble_eq_true rfl) rfl (va_fitO _) rfl q1039 dJ4_rotateRight_37 (z_nV (fun V71 hV72 => ?_))
    have hW73 := tW.upa hW68 hm1 (pa p) hV72
    have hU74 := zUnc.up (S := tC t L) hU69 hV72 (Or.inr hm1)
    refine z_aload_n C 2 rfl dJ4_rotateRight_40 rfl ?_
    refine z_get C k_E (hW73.2 p hp) 4 (by decide) rfl q1039 dJ4_rotateRight_41 ?_
    refine z_top (v := va_rf (pa p)) (congrArg va_rf (show ((va_up (va_up pa a8 (some p)) w (pa p)) p) = (pa p) from (by rw [zvn (Ne.symm nx3), zvn nx70]))) ?_
    refine z_ifnonnullQ C 55 dJ4_rotateRight_44 (by decide) (fun a75 hs77 => ?_) (fun hn76 => ?_)
    · skip
      obtain ⟨hm78, -, nx80, -⟩ := hI.mp hp hs77
      refine z_aload_n C 2 rfl dJ4_rotateRight_55 rfl ?_
      refine z_get C k_E (hW73.2 p hp) 4 (by decide) rfl q1039 dJ4_rotateRight_56 ?_
      refine z_top (v := .ref a75) (congrArg va_rf (show ((va_up (va_up pa a8 (some p)) w (pa p)) p) = (some a75) from (by rw [zvn (Ne.symm nx3), zvn nx70, hs77]))) ?_
      refine z_get C k_E (hW73.2 a75 hm78) 3 (by decide) rfl q1037 dJ4_rotateRight_59 ?_
      refine z_aload_n C 2 rfl dJ4_rotateRight_62 rfl ?_
      refine z_acmp_ne C (rg a75) (some p) 77 dJ4_rotateRight_63 (by decide) (fun c63 => ?_) (fun c63 => ?_)
      · skip
        have k81 : ¬ rg a75 = (some p) := c63
        refine z_aload_n C 2 rfl dJ4_rotateRight_77 rfl ?_
        refine z_get C k_E (hW73.2 p hp) 4 (by decide) rfl q1039 dJ4_rotateRight_78 ?_
        refine z_top (v := .ref a75) (congrArg va_rf (show ((va_up (va_up pa a8 (some p)) w (pa p)) p) = (some a75) from (by rw [zvn (Ne.symm nx3), zvn nx70, hs77]))) ?_
        refine z_aload_n C 0 rfl dJ4_rotateRight_81 rfl ?_
        refine z_put C k_E (hW73.2 a75 hm78) 2 (by decide) [.ref (ky a75), .ref (vl a75), .ref w, va_rf (rg a75), va_rf ((va_up (va_up pa a8 (some p)) w (pa p)) a75), .int (zb (cl a75))] rfl (Nat.le_of_ble_eq_true rfl) rfl rfl rfl q1036 dJ4_rotateRight_82 (z_nV (fun V82 hV83 => ?_))
        have hW84 := tW.ulf hW73 hm78 (some w) hV83
        have hU85 := zUnc.up (S := tC t L) hU74 hV83 (Or.inr hm78)
        refine z_aload_n C 0 rfl dJ4_rotateRight_85 rfl ?_
        refine z_aload_n C 2 rfl dJ4_rotateRight_86 rfl ?_
        refine z_put C k_E (hW84.2 w hm1) 3 (by decide) [.ref (ky w), .ref (vl w), va_rf ((va_up (va_up lf p (rg w)) a75 (some w)) w), .ref p, va_rf ((va_up (va_up pa a8 (some p)) w (pa p)) w), .int (zb (cl w))] rfl (Nat.le_of_ble_eq_true rfl) rfl rfl rfl q1037 dJ4_rotateRight_87 (z_nV (fun V86 hV87 => ?_))
        have hW88 := tW.urg hW84 hm1 (some p) hV87
        have hU89 := zUnc.up (S := tC t L) hU85 hV87 (Or.inr hm1)
        refine z_aload_n C 2 rfl dJ4_rotateRight_90 rfl ?_
        refine z_aload_n C 0 rfl dJ4_rotateRight_91 rfl ?_
        refine z_put C k_E (hW88.2 p hp) 4 (by decide) [.ref (ky p), .ref (vl p), va_rf ((va_up (va_up lf p (rg w)) a75 (some w)) p), va_rf ((va_up rg w (some p)) p), .ref w, .int (zb (cl p))] rfl (Nat.le_of_ble_eq_true rfl) rfl rfl rfl q1039 dJ4_rotateRight_92 (z_nV (fun V90 hV91 => ?_))
        have hW92 := tW.upa hW88 hp (some w) hV91
        have hU93 := zUnc.up (S := tC t L) hU89 hV91 (Or.inr hp)
        have hs94 := hI.sdL hp hs77 k81
        exact z_vret C hQ () rfl ⟨tW.cg hW92 (hI.xt1 hs77) (rot_r2 rfl nx80 (hI.ul hs77) hs94) (rot_l1 (hI.nr hs77 k81)) (rot_p2 hs10 rfl), hU93⟩ (by decide) (by decide) dJ4_rotateRight_95
      · skip
        have k95 : rg a75 = (some p) := c63
        obtain ⟨hm96, hp97, nx98⟩ := hI.mr hm78 k95
        refine z_aload_n C 2 rfl dJ4_rotateRight_66 rfl ?_
        refine z_get C k_E (hW73.2 p hp) 4 (by decide) rfl q1039 dJ4_rotateRight_67 ?_
        refine z_top (v := .ref a75) (congrArg va_rf (show ((va_up (va_up pa a8 (some p)) w (pa p)) p) = (some a75) from (by rw [zvn (Ne.symm nx3), zvn nx70, hs77]))) ?_
        refine z_aload_n C 0 rfl dJ4_rotateRight_70 rfl ?_
        refine z_put C k_E (hW73.2 a75 hm78) 3 (by decide) [.ref (ky a75), .ref (vl a75), va_rf ((va_up lf p (rg w)) a75), .ref w, va_rf ((va_up (va_up pa a8 (some p)) w (pa p)) a75), .int (zb (cl a75))] rfl (Nat.le_of_ble_eq_true rfl) rfl rfl rfl q1037 dJ4_rotateRight_71 (z_nV (fun V99 hV100 => ?_))
        have hW101 := tW.urg hW73 hm78 (some w) hV100
        have hU102 := zUnc.up (S := tC t L) hU74 hV100 (Or.inr hm78)
        refine z_goto C 85 dJ4_rotateRight_74 (by decide) ?_
        refine z_aload_n C 0 rfl dJ4_rotateRight_85 rfl ?_
        refine z_aload_n C 2 rfl dJ4_rotateRight_86 rfl ?_
        refine z_put C k_E (hW101.2 w hm1) 3 (by decide) [.ref (ky w), .ref (vl w), va_rf ((va_up lf p (rg w)) w), .ref p, va_rf ((va_up (va_up pa a8 (some p)) w (pa p)) w), .int (zb (cl w))] rfl (Nat.le_of_ble_eq_true rfl) rfl rfl rfl q1037 dJ4_rotateRight_87 (z_nV (fun V103 hV104 => ?_))
        have hW105 := tW.urg hW101 hm1 (some p) hV104
        have hU106 := zUnc.up (S := tC t L) hU102 hV104 (Or.inr hm1)
        refine z_aload_n C 2 rfl dJ4_rotateRight_90 rfl ?_
        refine z_aload_n C 0 rfl dJ4_rotateRight_91 rfl ?_
        refine z_put C k_E (hW105.2 p hp) 4 (by decide) [.ref (ky p), .ref (vl p), va_rf ((va_up lf p (rg w)) p), va_rf ((va_up (va_up rg a75 (some w)) w (some p)) p), .ref w, .int (zb (cl p))] rfl (Nat.le_of_ble_eq_true rfl) rfl rfl rfl q1039 dJ4_rotateRight_92 (z_nV (fun V107 hV108 => ?_))
        have hW109 := tW.upa hW105 hp (some w) hV108
        have hU110 := zUnc.up (S := tC t L) hU106 hV108 (Or.inr hp)
        exact z_vret C hQ () rfl ⟨tW.cg hW109 (hI.xt1 hs77) (rot_r1 rfl (hI.nl hs77 (hI.rl hm78 k95))) (rot_l2 (hI.ur hs77) k95) (rot_p2 hs10 rfl), hU110⟩ (by decide) (by decide) dJ4_rotateRight_95
    · skip
      refine z_aload_n C 1 rfl dJ4_rotateRight_47 rfl ?_
      refine z_aload_n C 0 rfl dJ4_rotateRight_48 rfl ?_
      refine z_put C k_TM hW73.1 3 (by decide) [.null, .null, .null, .ref w, .int (nI sz), .int mc, .null, .null, .null] rfl (Nat.le_of_ble_eq_true rfl) rfl rfl rfl q162 dJ4_rotateRight_49 (z_nV (fun V111 hV112 => ?_))
      have hW113 := tW.map hW73 (some w) sz mc hV112
      have hU114 := zUnc.up (S := tC t L) hU74 hV112 (Or.inl rfl)
      refine z_goto C 85 dJ4_rotateRight_52 (by decide) ?_
      refine z_aload_n C 0 rfl dJ4_rotateRight_85 rfl ?_
      refine z_aload_n C 2 rfl dJ4_rotateRight_86 rfl ?_
      refine z_put C k_E (hW113.2 w hm1) 3 (by decide) [.ref (ky w), .ref (vl w), va_rf ((va_up lf p (rg w)) w), .ref p, va_rf ((va_up (va_up pa a8 (some p)) w (pa p)) w), .int (zb (cl w))] rfl (Nat.le_of_ble_eq_true rfl) rfl rfl rfl q1037 dJ4_rotateRight_87 (z_nV (fun V115 hV116 => ?_))
      have hW117 := tW.urg hW113 hm1 (some p) hV116
      have hU118 := zUnc.up (S := tC t L) hU114 hV116 (Or.inr hm1)
      refine z_aload_n C 2 rfl dJ4_rotateRight_90 rfl ?_
      refine z_aload_n C 0 rfl dJ4_rotateRight_91 rfl ?_
      refine z_put C k_E (hW117.2 p hp) 4 (by decide) [.ref (ky p), .ref (vl p), va_rf ((va_up lf p (rg w)) p), va_rf ((va_up rg w (some p)) p), .ref w, .int (zb (cl p))] rfl (Nat.le_of_ble_eq_true rfl) rfl rfl rfl q1039 dJ4_rotateRight_92 (z_nV (fun V119 hV120 => ?_))
      have hW121 := tW.upa hW117 hp (some w) hV120
      have hU122 := zUnc.up (S := tC t L) hU118 hV120 (Or.inr hp)
      exact z_vret C hQ () rfl ⟨tW.cg hW121 (hI.xt0 hp hn76) (rot_r1 rfl (hI.nl0 hn76)) (rot_l1 (hI.nr0 hn76)) (rot_p2 hs10 rfl), hU122⟩ (by decide) (by decide) dJ4_rotateRight_95
