/-! COMPONENT: going on from a plan -/
set_option maxRecDepth 100000
theorem run_80 {st bx t : Nat} {rch wt : Nat → Nat} {ins pin : Nat → Bool} (hbx : bx ≤ 20) (hrc : ∀ s, s < st → rch s ≤ 4) : ∀ (P : List Nat) {Y Z : YD}, yGood st bx ins Y → yRun (yLeg st rch wt ins pin t) Y P = some Z → ∀ m ∈ P, m < 80
  | [], _, _, _, _, m, hm => by cases hm
  | q :: P, Y, Z, hg, h, m, hm => by
    rw [yRun] at h
    by_cases hl : yLeg st rch wt ins pin t Y q = true
    · rw [if_pos hl] at h
      rcases List.mem_cons.mp hm with e | e
      · have := yLeg_lt hg q hl; omega
      · exact run_80 hbx hrc P (yGood_go hrc hg hl) h m e
    · rw [if_neg hl] at h; cases h
/-- a plan that may stand in the row -/
def pGd (L : YD → Nat → Bool) (t : Nat) (Y0 : YD) (P : List Nat) : Prop := (∃ Z, yRun L Y0 P = some Z) ∧ alP L t Y0 P ≤ 5 ∧ ∀ m ∈ P, m < 80
theorem pGd.len {L : YD → Nat → Bool} {t : Nat} {Y0 : YD} {P : List Nat} (h : pGd L t Y0 P) : P.length ≤ 5 := by
  have := h.2.1
  unfold alP at this; omega
theorem pq_cmp {l : Launch} {D : ZD} {Vb V : ZV} {ba : Nat → Nat} {bx : Nat} {L : YD → Nat → Bool} {t : Nat} {Y0 : YD} {pm : Nat → List Nat} {B : List Nat} {S : Nat → Prop} {cmp : Nat} (hB : ∀ a ∈ B, pCl D Vb V ba bx L t Y0 a (pm a) ∧ pGd L t Y0 (pm a)) (hc : V cmp = some (.inr (4, []))) (hS : ∀ z e, V z = some e → S z → pk e = false) (hS2 : ¬ S cmp) :
    ∀ W2, zUnc V W2 S → ∀ a ∈ B, ∀ b ∈ B, ZM l D yX5_compare (ws_ yX5_compare cX5_compare 3 (some .int)) 3 0 0 eI W2 [.ref cmp, .ref a, .ref b] (fun r V3 => V3 = W2 ∧ zCmp r (keP L t Y0 (pm a)) (keP L t Y0 (pm b))) zno_x := fun W2 hU a ha b hb => by
  obtain ⟨h1, g1⟩ := hB a ha
  obtain ⟨h2, g2⟩ := hB b hb
  obtain ⟨y1, yb1, yh1, rb1, rs1, fb1, fh1, gb1, gs1, k1, -⟩ := h1.mv hU hS
  obtain ⟨y2, yb2, yh2, rb2, rs2, fb2, fh2, gb2, gs2, k2, -⟩ := h2.mv hU hS
  have l1 := g1.len
  have l2 := g2.len
  have a1 := g1.2.1
  have a2 := g2.2.1
  exact mX5_compare k1 k2 (by omega) (by omega) g1.2.2 g2.2.2 (by omega) (by omega) (hU.get hS2 hc)
theorem hpA.cg {K K2 : Nat → List Nat} {A : List Nat} (h : hpA K A) (e : ∀ a ∈ A, K2 a = K a) : hpA K2 A := fun i p c hi hp hc => by
  rw [e p (List.mem_of_getElem? hp), e c (List.mem_of_getElem? hc)]; exact h i p c hi hp hc
theorem nI_subj {x y j : Nat} (h : y + j = x) : nI x - nI j = nI y := by
  subst h
  unfold nI
  rw [Int32.ofNat_add]
  exact Int32.add_sub_cancel _ _
/-- the moves below k that lead on within the bound -/
def chl (L : YD → Nat → Bool) (t : Nat) (Y0 : YD) (lim : Nat) (P : List Nat) (k : Nat) : List Nat := (List.range k).filter (fun m => L (zrP L Y0 P) m && decide (alP L t Y0 (P ++ [m]) ≤ lim))
theorem chl_t {L : YD → Nat → Bool} {t : Nat} {Y0 : YD} {lim : Nat} {P : List Nat} {k : Nat} (h1 : L (zrP L Y0 P) k = true) (h2 : alP L t Y0 (P ++ [k]) ≤ lim) : chl L t Y0 lim P (k + 1) = chl L t Y0 lim P k ++ [k] := by
  unfold chl
  rw [List.range_succ, List.filter_append, List.filter_cons, h1, decide_eq_true h2]; rfl
theorem chl_f {L : YD → Nat → Bool} {t : Nat} {Y0 : YD} {lim : Nat} {P : List Nat} {k : Nat} (h : L (zrP L Y0 P) k = false ∨ ¬ alP L t Y0 (P ++ [k]) ≤ lim) : chl L t Y0 lim P (k + 1) = chl L t Y0 lim P k := by
  unfold chl
  have e : (L (zrP L Y0 P) k && decide (alP L t Y0 (P ++ [k]) ≤ lim)) = false := by
    rcases h with h | h
    · rw [h]; rfl
    · rw [decide_eq_false h]; simp
  rw [List.range_succ, List.filter_append, List.filter_cons, e]
  simp
theorem chl_le {L : YD → Nat → Bool} {t : Nat} {Y0 : YD} {lim : Nat} {P : List Nat} : ∀ {j k : Nat}, k ≤ j → (chl L t Y0 lim P k).length ≤ (chl L t Y0 lim P j).length
  | 0, k, h => by rw [show k = 0 by omega]; exact Nat.le_refl _
  | j + 1, k, h => by
    by_cases e : k = j + 1
    · rw [e]; exact Nat.le_refl _
    · refine Nat.le_trans (chl_le (j := j) (by omega)) ?_
      unfold chl
      rw [List.range_succ, List.filter_append, List.length_append]
      omega
theorem chl_mem {L : YD → Nat → Bool} {t : Nat} {Y0 : YD} {lim : Nat} {P : List Nat} {k m : Nat} : m ∈ chl L t Y0 lim P k ↔ m < k ∧ L (zrP L Y0 P) m = true ∧ alP L t Y0 (P ++ [m]) ≤ lim := by
  unfold chl
  rw [List.mem_filter, List.mem_range]
  simp [Bool.and_eq_true]
theorem chl_skip {L : YD → Nat → Bool} {t : Nat} {Y0 : YD} {lim : Nat} {P : List Nat} {k : Nat} : ∀ {j : Nat}, k ≤ j → (∀ m, k ≤ m → m < j → L (zrP L Y0 P) m = false) → chl L t Y0 lim P j = chl L t Y0 lim P k
  | 0, h, _ => by rw [show k = 0 by omega]
  | j + 1, h, hn => by
    by_cases e : k = j + 1
    · rw [e]
    · rw [chl_f (Or.inl (hn j (by omega) (Nat.lt_succ_self _)))]
      exact chl_skip (by omega) (fun m h1 h2 => hn m h1 (by omega))

set_option maxHeartbeats 4000000 in
set_option maxRecDepth 100000 in
theorem mX1_goOn {l : Launch} {D : ZD} {V : ZV} {kk x y yb yh rr bb al t d cap : Nat} {fb : Nat → Option Nat} {fh fr : Nat → Int32} {fB : Nat → Option Nat} {ba : Nat → Nat} {hc : Nat → Int32} {uc : Nat → Nat} {fa : Nat → Option Nat} {ma : Int32} {aa sl : Nat → Nat} {Lb : List Nat} {Ct : List (Nat × Nat)} {mb : Int32} {kc : Nat → List Nat} {st : Nat} {rch : Nat → Nat} {bx : Nat} {wt : Nat → Nat} {ins : Nat → Bool} {hld : Nat → Int32} {unt : Nat → Nat} {Y : YD} {ap : Nat} {ab hr ln : Nat → Nat} {sa : Nat → Int32} {mv : Int32} {nw : Nat} {lf : Int64} {Vb : ZV} (hX : Vb x = some (.inr (0, [.ref y, .ref rr, .ref bb, .ref al, .ref t, .int (nI st), .int (nI bx), .int (nI (fC ins bx)), .int mv, .int (nI nw), .long lf]))) (hY : cY D Vb y yb yh rr fb fh fr ba bx st rch Y) (hB : cB D Vb bb fB ba bx wt ins hld unt hc uc) (hA : cA D Vb al d cap fa ma ba ap ab hr ln sa aa sl) (hT : cT Vb t Lb Ct mb kc ap hr ln sa aa sl) (hI : qI kk (qS st rch bx wt ins hld unt Y ap ab hr ln sa mv nw lf)) {tt lim : Nat} (htt : tt < bx) (hti : ins tt = true) (hlim : lim ≤ 5) {p : Nat} {P : List Nat} {Z : YD} (hZ : yRun (yLeg st rch wt ins (pin' hld) tt) Y P = some Z) (hp : pCl D Vb V ba bx (yLeg st rch wt ins (pin' hld) tt) tt Y p P) (hPg : pGd (yLeg st rch wt ins (pin' hld) tt) tt Y P) {q dq cap cmp NF F : Nat} {f : Nat → Option Nat} {A : List Nat} {mq : Int32} {pm : Nat → List Nat} (hQ0 : hPQ D V q dq cap f A cmp mq) (hcp : 11 ≤ cap ∧ cap ≤ 5000 ∧ cap ≠ 16 ∧ NF ≤ cap + F) (hAp : ∀ a ∈ A, pCl D Vb V ba bx (yLeg st rch wt ins (pin' hld) tt) tt Y a (pm a) ∧ pGd (yLeg st rch wt ins (pin' hld) tt) tt Y (pm a)) (hH : hpA (fun a => keP (yLeg st rch wt ins (pin' hld) tt) tt Y (pm a)) A) (hb0 : zUnc Vb V (fun _ => False)) (hbq : Vb q = none) (hbd : Vb dq = none) (hNF : NF = A.length + (chl (yLeg st rch wt ins (pin' hld) tt) tt Y lim P (4 * bx)).length) (hNF2 : NF ≤ 2000) : ZM l D yX1_goOn (ws_ yX1_goOn cX1_goOn 12 none) 8 (6 * (chl (yLeg st rch wt ins (pin' hld) tt) tt Y lim P (4 * bx)).length + gC F cap NF) (42 * (chl (yLeg st rch wt ins (pin' hld) tt) tt Y lim P (4 * bx)).length + gW F cap NF) eU V [.ref x, .ref p, .ref (ba tt), .int (nI lim), .ref q] (fun r V' => ∃ dq2 f2 A2 N pm2 mq2, hPQ D V' q dq2 (gE F cap NF) f2 A2 cmp mq2 ∧ (11 ≤ gE F cap NF ∧ gE F cap NF ≤ 5000 ∧ gE F cap NF ≠ 16) ∧ A2.Perm (N ++ A) ∧ N.map pm2 = ((chl (yLeg st rch wt ins (pin' hld) tt) tt Y lim P (4 * bx)).map (fun m => P ++ [m])).reverse ∧ (∀ a ∈ A, pm2 a = pm a) ∧ (∀ a ∈ A2, pCl D Vb V' ba bx (yLeg st rch wt ins (pin' hld) tt) tt Y a (pm2 a) ∧ pGd (yLeg st rch wt ins (pin' hld) tt) tt Y (pm2 a)) ∧ hpA (fun a => keP (yLeg st rch wt ins (pin' hld) tt) tt Y (pm2 a)) A2 ∧ zUnc V V' (fun z => z = q ∨ z = dq) ∧ (dq2 = dq ∨ V dq2 = none)) zno_x := by
  refine z_enter (by decide +kernel) [(0, .ref x), (1, .ref p), (2, .ref (ba tt)), (3, .int (nI lim)), (4, .ref q)] rfl (Nat.le_of_ble_eq_true rfl) (zcat_cons rfl (zcat_cons rfl (zcat_cons rfl (zcat_cons rfl (zcat_cons rfl zcat_nil))))) (fun Γ C hQ => ?_)
  have hst : st ≤ 4 := hI.1.1
  have hbx : bx ≤ 20 := hI.1.2.1
  have hrc : ∀ s, s < st → rch s ≤ 4 := fun s hs => (hI.1.2.2.1 s hs).2
  have hwt : ∀ b, b < bx → wt b < 1000 := fun b hb => by have h9 : wt b ≤ 30 := (hI.1.2.2.2 b hb).2; omega
  have hg : yGood st bx ins Y := hI.2.1.1
  have hht : ∀ s, s < st → (Y s).length ≤ rch s := hI.2.1.2.1
  have hf8 : fC ins bx ≤ 8 := hI.2.1.2.2
  have hu1 : ∀ b, unt b ≤ 1000 := hI.2.2.1.2.1
  have hhl : ∀ b, b < bx → hld b = nI 45 ∨ hld b = nI 112 ∨ hld b = nI 108 := hI.2.2.1.2.2
  have hap : ap ≤ 30 := hI.2.2.2.1.1
  have haa : ∀ a, a < ap → ab a < bx ∧ hr a ≤ 999 ∧ ln a < 3 ∧ (sa a = nI 98 ∨ sa a = nI 99 ∨ sa a = nI 103 ∨ sa a = nI 100 ∨ sa a = nI 109) := hI.2.2.2.1.2.1
  have hnw : nw ≤ 999 := hI.2.2.2.2
  have hY4 : ∀ s, (Y s).length ≤ 4 := hg.1.1
  have hmm : ∀ s, ∀ c ∈ Y s, c < bx := fun s c hc => (hg.2.2 s c hc).1
  obtain ⟨y1, yb1, yh1, rb1, rs1, fbp, fhp, gb1, gs1, hpl, hyd, hrel, hfbx, hrbn, hrsn⟩ := hp
  rw [zr_some hZ] at hrel
  have hgZ : yGood st bx ins Z := yGood_run hrc _ hg hZ
  have hlZ := yLen_run _ hht hZ
  have hP5 := hPg.len
  have hyt := yIn_of hgZ hst hB.2.2.1 hbx htt hti
  obtain ⟨pt, hpt⟩ := hgZ.2.1 tt htt hti
  have hpe := yPl_eq hgZ.1 hst hpt
  obtain ⟨hk0, hkl0, hab0⟩ := yAb_at hgZ.1 hst hpt
  have hl40 := hgZ.1.1 pt
  rw [← hpe] at hk0 hkl0 hab0 hl40
  have hp4t := hyt.1
  have halP : alP (yLeg st rch wt ins (pin' hld) tt) tt Y P = P.length + yAb Z tt := by unfold alP; rw [zr_some hZ]
  refine z_iconst C (v := (nI 0)) dX1_goOn_0 rfl ?_
  refine z_istore C [(5, .int (nI 0)), (0, .ref x), (1, .ref p), (2, .ref (ba tt)), (3, .int (nI lim)), (4, .ref q)] dX1_goOn_1 (by decide) rfl ?_
  refine z_pick [(0, .ref x), (1, .ref p), (2, .ref (ba tt)), (3, .int (nI lim)), (4, .ref q), (5, .int (nI 0))] [1, 2, 3, 4, 5, 0] rfl ?_
  have lo : ∀ (n_lo : Nat) (V1 : ZV) (f1 : Nat → Option Nat) (A1 N1 : List Nat) (pm1 : Nat → List Nat) (mq1 : Int32) (dq1 cap1 k1 k2 : Nat) (b : Nat), zUnc V V1 (fun z => z = q ∨ z = dq) → hPQ D V1 q dq1 cap1 f1 A1 cmp mq1 → A1.Perm (N1 ++ A) → N1.map pm1 = ((chl (yLeg st rch wt ins (pin' hld) tt) tt Y lim P (4 * b)).map (fun m => P ++ [m])).reverse → (∀ a ∈ A, pm1 a = pm a) → (∀ a ∈ A1, pCl D Vb V1 ba bx (yLeg st rch wt ins (pin' hld) tt) tt Y a (pm1 a) ∧ pGd (yLeg st rch wt ins (pin' hld) tt) tt Y (pm1 a)) → hpA (fun a => keP (yLeg st rch wt ins (pin' hld) tt) tt Y (pm1 a)) A1 → (dq1 = dq ∨ V dq1 = none) → (11 ≤ cap1 ∧ cap1 ≤ 5000 ∧ cap1 ≠ 16 ∧ NF ≤ cap1 + F) → gE F cap1 NF = gE F cap NF → k1 + gC F cap1 NF ≤ gC F cap NF + 6 * (chl (yLeg st rch wt ins (pin' hld) tt) tt Y lim P (4 * b)).length → k2 + gW F cap1 NF ≤ gW F cap NF + 42 * (chl (yLeg st rch wt ins (pin' hld) tt) tt Y lim P (4 * b)).length → b ≤ bx → bx - b < n_lo → ZW l D Γ (zr 8 (6 * (chl (yLeg st rch wt ins (pin' hld) tt) tt Y lim P (4 * bx)).length + gC F cap NF) (42 * (chl (yLeg st rch wt ins (pin' hld) tt) tt Y lim P (4 * bx)).length + gW F cap NF)) 3 [(0, .ref x), (1, .ref p), (2, .ref (ba tt)), (3, .int (nI lim)), (4, .ref q), (5, .int (nI b))] [] V1 k1 k2 := by
    intro n_lo
    induction n_lo with
    | zero => intro V1 f1 A1 N1 pm1 mq1 dq1 cap1 k1 k2 b _ _ _ _ _ _ _ _ _ _ _ _ _ hm; exact absurd hm (Nat.not_lt_zero _)
    | succ n_lo ih_lo =>
      intro V1 f1 A1 N1 pm1 mq1 dq1 cap1 k1 k2 b hlo_0 hlo_1 hlo_2 hlo_3 hlo_4 hlo_5 hlo_6 hlo_7 hlo_8 hlo_9 hlo_10 hlo_11 hlo_12 hm
      have unA : zUnc Vb V1 (fun _ => False) := zUnc.tr hb0 hlo_0 (fun a h => Or.inr (by rcases h with h | h; rw [h]; exact hbq; rw [h]; exact hbd))
      have hkA : ∀ {z e}, V z = some e → pk e = true → V1 z = some e := fun {z e} hz hpk => hlo_0.get (fun hs => by rw [pq_k hQ0 hcp.2.2.1 _ _ hz hs] at hpk; cases hpk) hz
      have hydA : hYd D V1 y1 yb1 yh1 fbp fhp := ⟨hkA hyd.1 rfl, hkA hyd.2.1 rfl, hkA hyd.2.2 rfl⟩
      have hplA : hPl D V1 p y1 rb1 rs1 (alP (yLeg st rch wt ins (pin' hld) tt) tt Y P) P gb1 gs1 := ⟨hkA hpl.1 rfl, hkA hpl.2.1 rfl, hkA hpl.2.2.1 rfl, hpl.2.2.2⟩
      have hmo := hm
      refine z_iload C 5 rfl dX1_goOn_3 ?_
      refine z_aload_n C 0 rfl dX1_goOn_5 rfl ?_
      refine z_get C k_Q (unA.get (fun h => h) hX) 6 (by decide) rfl q191 dX1_goOn_6 ?_
      refine z_icmp_geN C 185 (by omega) (by omega) dX1_goOn_9 (by decide) (fun c9 => ?_) (fun c9 => ?_)
      · skip
        have hbe : b = bx := by omega
        rw [hbe] at hlo_3 hlo_10 hlo_11
        have hlen : A1.length = NF := by have h8 := hlo_2.length_eq; have h9 := congrArg List.length hlo_3; rw [List.length_map, List.length_reverse, List.length_map] at h9; rw [List.length_append] at h8; omega
        have hcap1 : cap1 = gE F cap NF := by rw [← hlo_9]; exact (g_in (by rw [← hlen]; exact hlo_1.2.2.2.1)).2.2.symm
        have hQe := hlo_1
        rw [hcap1] at hQe
        exact z_vret C hQ () rfl ⟨_, _, A1, N1, pm1, _, hQe, by rw [← hcap1]; exact ⟨hlo_8.1, hlo_8.2.1, hlo_8.2.2.1⟩, hlo_2, hlo_3, hlo_4, hlo_5, hlo_6, hlo_0, hlo_7⟩ (by omega) (by omega) dX1_goOn_185
      · skip
        refine z_iconst C (v := (nI 0)) dX1_goOn_12 rfl ?_
        refine z_istore C [(6, .int (nI 0)), (0, .ref x), (1, .ref p), (2, .ref (ba tt)), (3, .int (nI lim)), (4, .ref q), (5, .int (nI b))] dX1_goOn_13 (by decide) rfl ?_
        refine z_pick [(0, .ref x), (1, .ref p), (2, .ref (ba tt)), (3, .int (nI lim)), (4, .ref q), (5, .int (nI b)), (6, .int (nI 0))] [1, 2, 3, 4, 5, 6, 0] rfl ?_
        have li : ∀ (n_li : Nat) (VB : ZV) (f1 : Nat → Option Nat) (A1 N1 : List Nat) (pm1 : Nat → List Nat) (mq1 : Int32) (dq1 cap1 k1 k2 : Nat) (s : Nat), zUnc V VB (fun z => z = q ∨ z = dq) → hPQ D VB q dq1 cap1 f1 A1 cmp mq1 → A1.Perm (N1 ++ A) → N1.map pm1 = ((chl (yLeg st rch wt ins (pin' hld) tt) tt Y lim P (4 * b + s)).map (fun m => P ++ [m])).reverse → (∀ a ∈ A, pm1 a = pm a) → (∀ a ∈ A1, pCl D Vb VB ba bx (yLeg st rch wt ins (pin' hld) tt) tt Y a (pm1 a) ∧ pGd (yLeg st rch wt ins (pin' hld) tt) tt Y (pm1 a)) → hpA (fun a => keP (yLeg st rch wt ins (pin' hld) tt) tt Y (pm1 a)) A1 → (dq1 = dq ∨ V dq1 = none) → (11 ≤ cap1 ∧ cap1 ≤ 5000 ∧ cap1 ≠ 16 ∧ NF ≤ cap1 + F) → gE F cap1 NF = gE F cap NF → k1 + gC F cap1 NF ≤ gC F cap NF + 6 * (chl (yLeg st rch wt ins (pin' hld) tt) tt Y lim P (4 * b + s)).length → k2 + gW F cap1 NF ≤ gW F cap NF + 42 * (chl (yLeg st rch wt ins (pin' hld) tt) tt Y lim P (4 * b + s)).length → s ≤ st → st - s < n_li → ZW l D Γ (zr 8 (6 * (chl (yLeg st rch wt ins (pin' hld) tt) tt Y lim P (4 * bx)).length + gC F cap NF) (42 * (chl (yLeg st rch wt ins (pin' hld) tt) tt Y lim P (4 * bx)).length + gW F cap NF)) 15 [(0, .ref x), (1, .ref p), (2, .ref (ba tt)), (3, .int (nI lim)), (4, .ref q), (5, .int (nI b)), (6, .int (nI s))] [] VB k1 k2 := by
          intro n_li
          induction n_li with
          | zero => intro VB f1 A1 N1 pm1 mq1 dq1 cap1 k1 k2 s _ _ _ _ _ _ _ _ _ _ _ _ _ hm; exact absurd hm (Nat.not_lt_zero _)
          | succ n_li ih_li =>
            intro VB f1 A1 N1 pm1 mq1 dq1 cap1 k1 k2 s hli_0 hli_1 hli_2 hli_3 hli_4 hli_5 hli_6 hli_7 hli_8 hli_9 hli_10 hli_11 hli_12 hm
            have unB : zUnc Vb VB (fun _ => False) := zUnc.tr hb0 hli_0 (fun a h => Or.inr (by rcases h with h | h; rw [h]; exact hbq; rw [h]; exact hbd))
            have hkB : ∀ {z e}, V z = some e → pk e = true → VB z = some e := fun {z e} hz hpk => hli_0.get (fun hs => by rw [pq_k hQ0 hcp.2.2.1 _ _ hz hs] at hpk; cases hpk) hz
            have hydB : hYd D VB y1 yb1 yh1 fbp fhp := ⟨hkB hyd.1 rfl, hkB hyd.2.1 rfl, hkB hyd.2.2 rfl⟩
            have hplB : hPl D VB p y1 rb1 rs1 (alP (yLeg st rch wt ins (pin' hld) tt) tt Y P) P gb1 gs1 := ⟨hkB hpl.1 rfl, hkB hpl.2.1 rfl, hkB hpl.2.2.1 rfl, hpl.2.2.2⟩
            refine z_iload C 6 rfl dX1_goOn_15 ?_
            refine z_aload_n C 0 rfl dX1_goOn_17 rfl ?_
            refine z_get C k_Q (unB.get (fun h => h) hX) 5 (by decide) rfl q190 dX1_goOn_18 ?_
            refine z_icmp_geN C 179 (by omega) (by omega) dX1_goOn_21 (by decide) (fun c21 => ?_) (fun c21 => ?_)
            · skip
              have hse : s = st := by omega
              have hcs : (chl (yLeg st rch wt ins (pin' hld) tt) tt Y lim P (4 * (b + 1))) = (chl (yLeg st rch wt ins (pin' hld) tt) tt Y lim P (4 * b + s)) := chl_skip (by omega) (fun m h1 h2 => by rw [zr_some hZ]; exact Bool.eq_false_iff.mpr (fun h => by have h9 := (yLeg_spec h).2.1; omega))
              refine z_iincN C 5 1 [(5, .int (nI (b + 1))), (0, .ref x), (1, .ref p), (2, .ref (ba tt)), (3, .int (nI lim)), (4, .ref q), (6, .int (nI s))] rfl dX1_goOn_179 rfl (by decide) rfl ?_
              refine z_goto C 3 dX1_goOn_182 (by decide) ?_
              refine z_pick [(0, .ref x), (1, .ref p), (2, .ref (ba tt)), (3, .int (nI lim)), (4, .ref q), (5, .int (nI (b + 1)))] [1, 2, 3, 4, 5, 0] rfl ?_
              exact ih_lo VB f1 A1 N1 pm1 mq1 dq1 cap1 k1 k2 (b + 1) hli_0 hli_1 hli_2 (by rw [hcs]; exact hli_3) hli_4 hli_5 hli_6 hli_7 hli_8 hli_9 (by rw [hcs]; exact hli_10) (by rw [hcs]; exact hli_11) (by omega) (by omega)
            · skip
              have hs4 : s < st := by omega
              have hcnb : (chl (yLeg st rch wt ins (pin' hld) tt) tt Y lim P (4 * b + s)).length ≤ (chl (yLeg st rch wt ins (pin' hld) tt) tt Y lim P (4 * bx)).length := chl_le (by omega)
              have hq4 : (4 * b + s) / 4 = b := by omega
              have hq5 : (4 * b + s) % 4 = s := by omega
              by_cases hin : b < bx ∧ ins b = true
              · skip
                obtain ⟨hbb, hbi⟩ := hin
                have hyi := yIn_of hgZ hst hB.2.2.1 hbx hbb hbi
                refine z_aload_n C 0 rfl dX1_goOn_24 rfl ?_
                refine z_get C k_Q (unB.get (fun h => h) hX) 2 (by decide) rfl q187 dX1_goOn_25 ?_
                refine z_iload C 5 rfl dX1_goOn_28 ?_
                refine z_aaldR C 1 (by decide) ((hB.mv unB no_k).1) (by omega) (by omega) (by rw [(hB.mv unB no_k).2.1 b (by omega), if_pos ⟨hbb, hbi⟩]) dX1_goOn_30 ?_
                refine z_astore C [(7, .ref (ba b)), (0, .ref x), (1, .ref p), (2, .ref (ba tt)), (3, .int (nI lim)), (4, .ref q), (5, .int (nI b)), (6, .int (nI s))] dX1_goOn_31 (by decide) rfl ?_
                refine z_aload C 0 rfl dX1_goOn_33 ?_
                refine z_ifnull_r C dX1_goOn_35 ?_
                refine z_aload C 0 rfl dX1_goOn_38 ?_
                refine z_aload_n C 3 rfl dX1_goOn_40 rfl ?_
                refine z_acmp_eq C (some (ba b)) (some (ba tt)) 173 dX1_goOn_41 (by decide) (fun c41 => ?_) (fun c41 => ?_)
                · skip
                  have hbt : b = tt := hB.2.2.1.inj hbx hbb htt (Option.some.inj c41)
                  have hno : (yLeg st rch wt ins (pin' hld) tt) Z (4 * b + s) = false ∨ ¬ alP (yLeg st rch wt ins (pin' hld) tt) tt Y (P ++ [(4 * b + s)]) ≤ lim := Or.inl (Bool.eq_false_iff.mpr (fun h => (yLeg_spec h).1 (by rw [hq4, hbt])))
                  refine z_iincN C 7 1 [(6, .int (nI (s + 1))), (7, .ref (ba b)), (0, .ref x), (1, .ref p), (2, .ref (ba tt)), (3, .int (nI lim)), (4, .ref q), (5, .int (nI b))] rfl dX1_goOn_173 rfl (by decide) rfl ?_
                  refine z_goto C 15 dX1_goOn_176 (by decide) ?_
                  refine z_pick [(0, .ref x), (1, .ref p), (2, .ref (ba tt)), (3, .int (nI lim)), (4, .ref q), (5, .int (nI b)), (6, .int (nI (s + 1)))] [2, 3, 4, 5, 6, 7, 0] rfl ?_
                  have hcf : (chl (yLeg st rch wt ins (pin' hld) tt) tt Y lim P ((4 * b + s) + 1)) = (chl (yLeg st rch wt ins (pin' hld) tt) tt Y lim P (4 * b + s)) := chl_f (by rw [zr_some hZ]; exact hno)
                  exact ih_li VB f1 A1 N1 pm1 mq1 dq1 cap1 k1 k2 (s + 1) hli_0 hli_1 hli_2 (by rw [← Nat.add_assoc, hcf]; exact hli_3) hli_4 hli_5 hli_6 hli_7 hli_8 hli_9 (by rw [← Nat.add_assoc, hcf]; exact hli_10) (by rw [← Nat.add_assoc, hcf]; exact hli_11) (by omega) (by omega)
                · skip
                  have hbt : ¬ b = tt := fun e => c41 (by rw [e])
                  refine z_aload_n C 1 rfl dX1_goOn_44 rfl ?_
                  refine z_aload_n C 2 rfl dX1_goOn_45 rfl ?_
                  refine z_getN C k_P hplB.1 0 (by decide) rfl q846 dX1_goOn_46 ?_
                  refine z_aload C 0 rfl dX1_goOn_49 ?_
                  refine z_iload C 7 rfl dX1_goOn_51 ?_
                  refine z_callV C k_Q (unB.get (fun h => h) hX) (As := [.ref y1, .ref (ba b), .int (nI s)]) (mX1_why_2 (unB.get (fun h => h) hX) (hY.mv unB no_k) (hB.mv unB no_k) (hA.mv unB no_k) (hT.mv unB no_k) hI hydB hrel hgZ hbb hbi (s := s) hs4) (lw_V q765 q767 qs10 q58 q768) rfl hd_X1_why_2 rfl (Nat.le_of_ble_eq_true rfl) (by decide) (by decide) (by omega) (by omega) rfl dX1_goOn_53 (fun _ _ h => h.elim) (fun r1 V2 hP3 => ?_)
                  rw [hP3.1, hP3.2]
                  refine z_st (st' := [.int (yWhy rch wt (pin' hld) Z (yPl Z b) b s)]) rfl ?_
                  refine z_bipush C (v := (nI 45)) dX1_goOn_56 rfl ?_
                  refine z_icmp_ne C 173 dX1_goOn_58 (by decide) (fun c58 => ?_) (fun c58 => ?_)
                  · skip
                    have hno : (yLeg st rch wt ins (pin' hld) tt) Z (4 * b + s) = false ∨ ¬ alP (yLeg st rch wt ins (pin' hld) tt) tt Y (P ++ [(4 * b + s)]) ≤ lim := Or.inl (Bool.eq_false_iff.mpr (fun h => by have h9 := (yLeg_spec h).2.2.2; rw [hq4, hq5, yWhy_no c58] at h9; cases h9))
                    refine z_iincN C 7 1 [(6, .int (nI (s + 1))), (7, .ref (ba b)), (0, .ref x), (1, .ref p), (2, .ref (ba tt)), (3, .int (nI lim)), (4, .ref q), (5, .int (nI b))] rfl dX1_goOn_173 rfl (by decide) rfl ?_
                    refine z_goto C 15 dX1_goOn_176 (by decide) ?_
                    refine z_pick [(0, .ref x), (1, .ref p), (2, .ref (ba tt)), (3, .int (nI lim)), (4, .ref q), (5, .int (nI b)), (6, .int (nI (s + 1)))] [2, 3, 4, 5, 6, 7, 0] rfl ?_
                    have hcf : (chl (yLeg st rch wt ins (pin' hld) tt) tt Y lim P ((4 * b + s) + 1)) = (chl (yLeg st rch wt ins (pin' hld) tt) tt Y lim P (4 * b + s)) := chl_f (by rw [zr_some hZ]; exact hno)
                    exact ih_li VB f1 A1 N1 pm1 mq1 dq1 cap1 k1 k2 (s + 1) hli_0 hli_1 hli_2 (by rw [← Nat.add_assoc, hcf]; exact hli_3) hli_4 hli_5 hli_6 hli_7 hli_8 hli_9 (by rw [← Nat.add_assoc, hcf]; exact hli_10) (by rw [← Nat.add_assoc, hcf]; exact hli_11) (by omega) (by omega)
                  · skip
                    have hcan := yWhy_yes (hlZ s hs4) (hrc s hs4) c58
                    obtain ⟨w1, w2, w3, w4⟩ := yCan_spec hcan
                    have hyes : (yLeg st rch wt ins (pin' hld) tt) Z (4 * b + s) = true := by unfold yLeg; rw [hq4, hq5, hcan, decide_eq_true (show b ≠ tt from hbt), decide_eq_true hs4, hbi]; rfl
                    have hgo : yGo Z (4 * b + s) = yMv Z (yPl Z b) s b := by unfold yGo; rw [hq4, hq5]
                    obtain ⟨n0, hn0⟩ := last_n w1
                    have hp4 := hyi.1
                    have hl4 := hgZ.1.1 (yPl Z b)
                    have hr4 := hrc s hs4
                    have hab := (ab_go hst hrc hgZ htt hti hyes).2
                    rw [hq4, hq5] at hab
                    have hrn := yRun_snoc hZ hyes
                    have halN : alP (yLeg st rch wt ins (pin' hld) tt) tt Y (P ++ [(4 * b + s)]) = P.length + 1 + yAb (yGo Z (4 * b + s)) tt := by unfold alP; rw [zr_some hrn]; simp
                    have hgg : yGood st bx ins (yGo Z (4 * b + s)) := yGood_go hrc hgZ hyes
                    obtain ⟨pu, hpu⟩ := hgg.2.1 tt htt hti
                    obtain ⟨-, hku, habu⟩ := yAb_at hgg.1 hst hpu
                    have hl4u := hgg.1.1 pu
                    refine z_aload_n C 2 rfl dX1_goOn_61 rfl ?_
                    refine z_getN C k_P hplB.1 0 (by decide) rfl q846 dX1_goOn_62 ?_
                    refine z_aload C 0 rfl dX1_goOn_65 ?_
                    refine z_callV C k_Y hydB.1 (As := [.ref (ba b)]) (mX2_stackOf hydB hrel hyi) (lw_V q482 q483 q484 q59 q485) rfl hd_X2_stackOf rfl (Nat.le_of_ble_eq_true rfl) (by decide) (by decide) (by omega) (by omega) rfl dX1_goOn_67 (fun _ _ h => h.elim) (fun r4 V5 hP6 => ?_)
                    rw [hP6.1, hP6.2]
                    refine z_st (st' := [.int (nI (yPl Z b))]) rfl ?_
                    refine z_istore C [(8, .int (nI (yPl Z b))), (7, .ref (ba b)), (0, .ref x), (1, .ref p), (2, .ref (ba tt)), (3, .int (nI lim)), (4, .ref q), (5, .int (nI b)), (6, .int (nI s))] dX1_goOn_70 (by decide) rfl ?_
                    refine z_aload_n C 3 rfl dX1_goOn_72 rfl ?_
                    refine z_getN C k_P hplB.1 0 (by decide) rfl q846 dX1_goOn_73 ?_
                    refine z_aload_n C 4 rfl dX1_goOn_76 rfl ?_
                    refine z_callV C k_Y hydB.1 (As := [.ref (ba tt)]) (mX2_stackOf hydB hrel hyt) (lw_V q482 q483 q484 q59 q485) rfl hd_X2_stackOf rfl (Nat.le_of_ble_eq_true rfl) (by decide) (by decide) (by omega) (by omega) rfl dX1_goOn_77 (fun _ _ h => h.elim) (fun r7 V8 hP9 => ?_)
                    rw [hP9.1, hP9.2]
                    refine z_st (st' := [.int (nI (yPl Z tt))]) rfl ?_
                    refine z_istore C [(9, .int (nI (yPl Z tt))), (8, .int (nI (yPl Z b))), (7, .ref (ba b)), (0, .ref x), (1, .ref p), (2, .ref (ba tt)), (3, .int (nI lim)), (4, .ref q), (5, .int (nI b)), (6, .int (nI s))] dX1_goOn_80 (by decide) rfl ?_
                    refine z_aload_n C 4 rfl dX1_goOn_82 rfl ?_
                    refine z_getN C k_P hplB.1 0 (by decide) rfl q846 dX1_goOn_83 ?_
                    refine z_aload_n C 5 rfl dX1_goOn_86 rfl ?_
                    refine z_callV C k_Y hydB.1 (As := [.ref (ba tt)]) (mX2_above hydB hrel hyt hk0 (hgZ.1.2.2.2.1 _)) (lw_V q505 q506 q507 q59 q508) rfl hd_X2_above rfl (Nat.le_of_ble_eq_true rfl) (by decide) (by decide) (by omega) (by omega) rfl dX1_goOn_87 (fun _ _ h => h.elim) (fun r10 V11 hP12 => ?_)
                    rw [hP12.1, hP12.2]
                    refine z_st (st' := [.int (nI ((Z (yPl Z tt)).length - 1 - (Z (yPl Z tt)).idxOf tt))]) rfl ?_
                    refine z_top (v := .int (nI (yAb Z tt))) (congrArg (fun n => Value.int (nI n)) (by omega)) ?_
                    refine z_iload C 9 rfl dX1_goOn_90 ?_
                    refine z_iload C 0 rfl dX1_goOn_92 ?_
                    refine z_icmp_neN C 101 (by omega) (by omega) dX1_goOn_94 (by decide) (fun c94 => ?_) (fun c94 => ?_)
                    · skip
                      refine z_iconst C (v := (nI 0)) dX1_goOn_101 rfl ?_
                      refine z_iaddN C dX1_goOn_102 ?_
                      refine z_iload C 1 rfl dX1_goOn_103 ?_
                      refine z_iload C 0 rfl dX1_goOn_105 ?_
                      refine z_icmp_neN C 114 (by omega) (by omega) dX1_goOn_107 (by decide) (fun c107 => ?_) (fun c107 => ?_)
                      · skip
                        refine z_iconst C (v := (nI 0)) dX1_goOn_114 rfl ?_
                        refine z_isub C dX1_goOn_115 ?_
                        rw [if_neg (show ¬ yPl Z b = yPl Z tt by have := c107; omega), if_neg (show ¬ s = yPl Z tt by have := c94; omega)] at hab
                        refine z_top (v := .int (nI (yAb (yGo Z (4 * b + s)) tt))) (congrArg Value.int (nI_subj (by omega))) ?_
                        refine z_istore C [(10, .int (nI (yAb (yGo Z (4 * b + s)) tt))), (9, .int (nI (yPl Z tt))), (8, .int (nI (yPl Z b))), (7, .ref (ba b)), (0, .ref x), (1, .ref p), (2, .ref (ba tt)), (3, .int (nI lim)), (4, .ref q), (5, .int (nI b)), (6, .int (nI s))] dX1_goOn_116 (by decide) rfl ?_
                        refine z_aload_n C 5 rfl dX1_goOn_118 rfl ?_
                        refine z_getN C k_P hplB.1 1 (by decide) rfl q849 dX1_goOn_119 ?_
                        refine z_alen C 0 rfl hplB.2.1 (n := P.length) rfl dX1_goOn_122 ?_
                        refine z_iconst C (v := (nI 1)) dX1_goOn_123 rfl ?_
                        refine z_iaddN C dX1_goOn_124 ?_
                        refine z_iload C 0 rfl dX1_goOn_125 ?_
                        refine z_iaddN C dX1_goOn_127 ?_
                        refine z_iload_n C 7 rfl dX1_goOn_128 rfl ?_
                        refine z_icmp_gtN C 173 (by omega) (by omega) dX1_goOn_129 (by decide) (fun c129 => ?_) (fun c129 => ?_)
                        · skip
                          have hno : (yLeg st rch wt ins (pin' hld) tt) Z (4 * b + s) = false ∨ ¬ alP (yLeg st rch wt ins (pin' hld) tt) tt Y (P ++ [(4 * b + s)]) ≤ lim := Or.inr (by rw [halN]; omega)
                          refine z_iincN C 10 1 [(6, .int (nI (s + 1))), (10, .int (nI (yAb (yGo Z (4 * b + s)) tt))), (9, .int (nI (yPl Z tt))), (8, .int (nI (yPl Z b))), (7, .ref (ba b)), (0, .ref x), (1, .ref p), (2, .ref (ba tt)), (3, .int (nI lim)), (4, .ref q), (5, .int (nI b))] rfl dX1_goOn_173 rfl (by decide) rfl ?_
                          refine z_goto C 15 dX1_goOn_176 (by decide) ?_
                          refine z_pick [(0, .ref x), (1, .ref p), (2, .ref (ba tt)), (3, .int (nI lim)), (4, .ref q), (5, .int (nI b)), (6, .int (nI (s + 1)))] [5, 6, 7, 8, 9, 10, 0] rfl ?_
                          have hcf : (chl (yLeg st rch wt ins (pin' hld) tt) tt Y lim P ((4 * b + s) + 1)) = (chl (yLeg st rch wt ins (pin' hld) tt) tt Y lim P (4 * b + s)) := chl_f (by rw [zr_some hZ]; exact hno)
                          exact ih_li VB f1 A1 N1 pm1 mq1 dq1 cap1 k1 k2 (s + 1) hli_0 hli_1 hli_2 (by rw [← Nat.add_assoc, hcf]; exact hli_3) hli_4 hli_5 hli_6 hli_7 hli_8 hli_9 (by rw [← Nat.add_assoc, hcf]; exact hli_10) (by rw [← Nat.add_assoc, hcf]; exact hli_11) (by omega) (by omega)
                        · skip
                          have hal9 : alP (yLeg st rch wt ins (pin' hld) tt) tt Y (P ++ [(4 * b + s)]) ≤ lim := by rw [halN]; omega
                          have hct : (chl (yLeg st rch wt ins (pin' hld) tt) tt Y lim P ((4 * b + s) + 1)) = (chl (yLeg st rch wt ins (pin' hld) tt) tt Y lim P (4 * b + s)) ++ [(4 * b + s)] := chl_t (by rw [zr_some hZ]; exact hyes) hal9
                          have hctl : (chl (yLeg st rch wt ins (pin' hld) tt) tt Y lim P ((4 * b + s) + 1)).length = (chl (yLeg st rch wt ins (pin' hld) tt) tt Y lim P (4 * b + s)).length + 1 := by rw [hct]; simp
                          have hcn9 : (chl (yLeg st rch wt ins (pin' hld) tt) tt Y lim P ((4 * b + s) + 1)).length ≤ (chl (yLeg st rch wt ins (pin' hld) tt) tt Y lim P (4 * bx)).length := chl_le (by omega)
                          refine z_aload_n C 5 rfl dX1_goOn_132 rfl ?_
                          refine z_getN C k_P hplB.1 0 (by decide) rfl q846 dX1_goOn_133 ?_
                          refine z_callV C k_Y hydB.1 (As := []) (mX2_copy hydB (fun i hi z hz => by obtain ⟨b9, hb9, rfl⟩ := hfbx i z hi hz; exact ⟨_, (hB.mv unB no_k).2.2.1 b9 hb9⟩)) (lw_V q1067 q1068 q1069 q59 q1070) rfl hd_X2_copy rfl (Nat.le_of_ble_eq_true rfl) (by decide) (by decide) (by omega) (by omega) rfl dX1_goOn_136 (fun _ _ h => h.elim) (fun r13 V14 hP15 => ?_)
                          obtain ⟨yb2, yh2, fb2, hyc, hfe, hcu, hny2, hnb, hnh⟩ := hP15
                          refine z_st (st' := [.ref r13]) rfl ?_
                          have hrc2 := yRel.cg hrel hgZ.1.1 hfe
                          have un16 := zUnc.tr unB hcu (fun _ h => h.elim)
                          have hyP17 : hYd D V14 y1 yb1 yh1 fbp fhp := ⟨hcu.get (fun h => h) hydB.1, hcu.get (fun h => h) hydB.2.1, hcu.get (fun h => h) hydB.2.2⟩
                          have hpP18 : hPl D V14 p y1 rb1 rs1 (alP (yLeg st rch wt ins (pin' hld) tt) tt Y P) P gb1 gs1 := ⟨hcu.get (fun h => h) hplB.1, hcu.get (fun h => h) hplB.2.1, hcu.get (fun h => h) hplB.2.2.1, hplB.2.2.2⟩
                          have hqP19 := hcu.get (fun h => h) hli_1.1
                          refine z_astore C [(11, .ref r13), (10, .int (nI (yAb (yGo Z (4 * b + s)) tt))), (9, .int (nI (yPl Z tt))), (8, .int (nI (yPl Z b))), (7, .ref (ba b)), (0, .ref x), (1, .ref p), (2, .ref (ba tt)), (3, .int (nI lim)), (4, .ref q), (5, .int (nI b)), (6, .int (nI s))] dX1_goOn_139 (by decide) rfl ?_
                          refine z_aload C 0 rfl dX1_goOn_141 ?_
                          refine z_iload C 11 rfl dX1_goOn_143 ?_
                          refine z_aload C 0 rfl dX1_goOn_145 ?_
                          refine z_iload C 3 rfl dX1_goOn_147 ?_
                          refine z_callV C k_Y hyc.1 (As := [.int (nI (yPl Z b))]) (mX2_pop hyc (s := yPl Z b) (n := n0) hp4 (by omega) (by rw [hrc2.1 _ hp4, hn0]) (hrc2.2 _ _ _ hp4 (last_at w1 hn0))) (lw_V q784 q785 q786 q59 q787) rfl hd_X2_pop rfl (Nat.le_of_ble_eq_true rfl) (by decide) (by decide) (by omega) (by omega) rfl dX1_goOn_149 (fun _ _ h => h.elim) (fun r20 V21 hP22 => ?_)
                          obtain ⟨e8, e9⟩ := hP22
                          rw [e8]
                          refine z_st (st' := [.ref (ba b), .int (nI s), .ref r13]) rfl ?_
                          obtain ⟨hy3, hu3⟩ := hyc.u1 e9
                          have hr3 := hrc2.pop hgZ.1.1 hp4 hn0
                          have uB23 := zUnc.tr hcu hu3 (fun a h => Or.inr (by rcases h with h | h; rw [h]; exact hnb; rw [h]; exact hnh))
                          have un24 := zUnc.tr unB uB23 (fun _ h => h.elim)
                          have hyP25 : hYd D V21 y1 yb1 yh1 fbp fhp := ⟨uB23.get (fun h => h) hydB.1, uB23.get (fun h => h) hydB.2.1, uB23.get (fun h => h) hydB.2.2⟩
                          have hpP26 : hPl D V21 p y1 rb1 rs1 (alP (yLeg st rch wt ins (pin' hld) tt) tt Y P) P gb1 gs1 := ⟨uB23.get (fun h => h) hplB.1, uB23.get (fun h => h) hplB.2.1, uB23.get (fun h => h) hplB.2.2.1, hplB.2.2.2⟩
                          have hqP27 := uB23.get (fun h => h) hli_1.1
                          have hA1 : ((va_up Z (yPl Z b) (Z (yPl Z b)).dropLast) s).length = (Z s).length := by rw [zvn (Ne.symm w3)]
                          have hA2 : ∀ z, ((va_up Z (yPl Z b) (Z (yPl Z b)).dropLast) z).length ≤ 4 := fun z => by
                            by_cases e : z = yPl Z b
                            · rw [e, zvs, List.length_dropLast]; omega
                            · rw [zvn e]; exact hgZ.1.1 z
                          refine z_callV C k_Y hy3.1 (As := [.int (nI s), .ref (ba b)]) (mX2_push hy3 (s := s) (n := (Z s).length) (by omega) (by omega) (by rw [hr3.1 _ (show s < 4 by omega), hA1]) ((hB.mv un24 no_k).2.2.1 b hbb)) (lw_V q460 q461 q462 q59 q463) rfl hd_X2_push rfl (Nat.le_of_ble_eq_true rfl) (by decide) (by decide) (by omega) (by omega) rfl dX1_goOn_152 (fun _ _ h => h.elim) (fun r28 V29 hP30 => ?_)
                          refine z_st (st' := []) rfl ?_
                          obtain ⟨hy4, hu4⟩ := hy3.u2 hP30
                          have hr4y := hr3.push (b := b) hA2 (show s < 4 by omega) hA1 (by omega)
                          change yRel ba (yMv Z (yPl Z b) s b) _ _ at hr4y
                          rw [← hgo] at hr4y
                          have uB31 := zUnc.tr uB23 hu4 (fun a h => Or.inr (by rcases h with h | h; rw [h]; exact hnb; rw [h]; exact hnh))
                          have un32 := zUnc.tr unB uB31 (fun _ h => h.elim)
                          have hyP33 : hYd D V29 y1 yb1 yh1 fbp fhp := ⟨uB31.get (fun h => h) hydB.1, uB31.get (fun h => h) hydB.2.1, uB31.get (fun h => h) hydB.2.2⟩
                          have hpP34 : hPl D V29 p y1 rb1 rs1 (alP (yLeg st rch wt ins (pin' hld) tt) tt Y P) P gb1 gs1 := ⟨uB31.get (fun h => h) hplB.1, uB31.get (fun h => h) hplB.2.1, uB31.get (fun h => h) hplB.2.2.1, hplB.2.2.2⟩
                          have hqP35 := uB31.get (fun h => h) hli_1.1
                          refine z_aload C 9 rfl dX1_goOn_155 ?_
                          refine z_aload_n C 6 rfl dX1_goOn_157 rfl ?_
                          refine z_aload C 0 rfl dX1_goOn_158 ?_
                          refine z_iload C 10 rfl dX1_goOn_160 ?_
                          refine z_iload C 11 rfl dX1_goOn_162 ?_
                          refine z_iload C 1 rfl dX1_goOn_164 ?_
                          refine z_callV C k_P hpP34.1 (As := [.ref r13, .int (nI b), .int (nI s), .int (nI (yAb (yGo Z (4 * b + s)) tt))]) (mX6_with hpP34 (b := b) (s := s) (y2 := r13) (k := yAb (yGo Z (4 * b + s)) tt) (by omega) (by omega)) (lw_V q1082 q1083 q1084 q85 q1085) rfl hd_X6_with rfl (Nat.le_of_ble_eq_true rfl) (by decide) (by decide) (by omega) (by omega) rfl dX1_goOn_166 (fun _ _ h => h.elim) (fun r36 V37 hP38 => ?_)
                          obtain ⟨rb3, rs3, fb3, fs3, hpN, hnN, hnR, hnS, huN⟩ := hP38
                          refine z_st (st' := [.ref r36, .ref q]) rfl ?_
                          have uB39 := zUnc.tr uB31 huN (fun _ h => h.elim)
                          have hy5 : hYd D V37 r13 yb2 yh2 _ _ := ⟨huN.get (fun h => h) hy4.1, huN.get (fun h => h) hy4.2.1, huN.get (fun h => h) hy4.2.2⟩
                          have un40 := zUnc.tr unB uB39 (fun _ h => h.elim)
                          have hyP41 : hYd D V37 y1 yb1 yh1 fbp fhp := ⟨uB39.get (fun h => h) hydB.1, uB39.get (fun h => h) hydB.2.1, uB39.get (fun h => h) hydB.2.2⟩
                          have hpP42 : hPl D V37 p y1 rb1 rs1 (alP (yLeg st rch wt ins (pin' hld) tt) tt Y P) P gb1 gs1 := ⟨uB39.get (fun h => h) hplB.1, uB39.get (fun h => h) hplB.2.1, uB39.get (fun h => h) hplB.2.2.1, hplB.2.2.2⟩
                          have hqP43 := uB39.get (fun h => h) hli_1.1
                          have hnB := zUnc.none uB31 (fun h => h) hnN
                          have hfbN : ∀ i z : Nat, i < 16 → va_up (va_up fb2 (4 * yPl Z b + n0) none) (4 * s + (Z s).length) (some (ba b)) i = some z → ∃ b, b < bx ∧ z = ba b := fun i z hi hz => by
                            by_cases c1 : i = 4 * s + (Z s).length
                            · rw [c1, zvs] at hz; cases hz; exact ⟨b, hbb, rfl⟩
                            · rw [zvn c1] at hz
                              by_cases c2 : i = 4 * yPl Z b + n0
                              · rw [c2, zvs] at hz; cases hz
                              · rw [zvn c2, hfe i hi] at hz; exact hfbx i z hi hz
                          have hpc : pCl D Vb V37 ba bx (yLeg st rch wt ins (pin' hld) tt) tt Y r36 (P ++ [(4 * b + s)]) := ⟨_, _, _, _, _, _, _, _, _, by rw [halN]; exact hpN, hy5, by rw [zr_some hrn]; exact hr4y, hfbN, zUnc.none un32 (fun h => h) hnR, zUnc.none un32 (fun h => h) hnS⟩
                          have hpg : pGd (yLeg st rch wt ins (pin' hld) tt) tt Y (P ++ [(4 * b + s)]) := ⟨⟨_, hrn⟩, by omega, fun m hm => by rw [List.mem_append, List.mem_singleton] at hm; rcases hm with hm | hm; exact hPg.2.2 m hm; omega⟩
                          have hneA : ∀ a ∈ A1, a ≠ r36 := fun a ha => by obtain ⟨vs, hv⟩ := (hli_5 a ha).1.o; exact zne_new hv hnB
                          have hAll : ∀ a ∈ r36 :: A1, pCl D Vb V37 ba bx (yLeg st rch wt ins (pin' hld) tt) tt Y a (va_up pm1 r36 (P ++ [(4 * b + s)]) a) ∧ pGd (yLeg st rch wt ins (pin' hld) tt) tt Y (va_up pm1 r36 (P ++ [(4 * b + s)]) a) := fun a ha => by
                            rcases List.mem_cons.mp ha with e | e
                            · rw [e, zvs]; exact ⟨hpc, hpg⟩
                            · rw [zvn (hneA a e)]; exact ⟨(hli_5 a e).1.mv uB39 (fun _ _ _ h => h.elim), (hli_5 a e).2⟩
                          have hQ5 : hPQ D V37 q dq1 cap1 f1 A1 cmp mq1 := ⟨uB39.get (fun h => h) hli_1.1, uB39.get (fun h => h) hli_1.2.1, uB39.get (fun h => h) hli_1.2.2.1, hli_1.2.2.2⟩
                          have hH5 : hpA (fun a => keP (yLeg st rch wt ins (pin' hld) tt) tt Y (va_up pm1 r36 (P ++ [(4 * b + s)]) a)) A1 := hli_6.cg (fun a ha => by show keP (yLeg st rch wt ins (pin' hld) tt) tt Y (va_up pm1 r36 (P ++ [(4 * b + s)]) a) = _; rw [zvn (hneA a ha)])
                          have hS5 := pq_k hQ5 hli_8.2.2.1
                          have hcm5 := fun l => pq_cmp (l := l) hAll hQ5.2.2.1 hS5 (by rintro (h | h); exact zne_cc hQ5.2.2.1 hQ5.1 (by decide) h; exact zne_oa hQ5.2.2.1 hQ5.2.1 h)
                          rcases Nat.lt_or_ge A1.length cap1 with hcl | hcl
                          · skip
                            have hlN : A1.length < NF := by have h8 := hli_2.length_eq; have h9 := congrArg List.length hli_3; rw [List.length_map, List.length_reverse, List.length_map] at h9; rw [List.length_append] at h8; omega
                            refine z_callV C k_PQ hqP43 (As := [.ref r36]) (mJ21_add_0 (K := (fun a => keP (yLeg st rch wt ins (pin' hld) tt) tt Y (va_up pm1 r36 (P ++ [(4 * b + s)]) a))) hQ5 hcl (by omega) (fun a ha => (hli_5 a ha).1.mv uB39 (fun _ _ _ h => h.elim) |>.o) hpN.1 (hcm5 l) hH5) (lw_V q864 q865 q866 q83 q867) rfl hd_J21_add rfl (Nat.le_of_ble_eq_true rfl) (by decide) (by decide) (by omega) (by omega) rfl dX1_goOn_169 (fun _ _ h => h.elim) (fun r44 V45 hP46 => ?_)
                            obtain ⟨-, dq2, f2, A2, hQ6, hP6, hH6, hd6, hu6⟩ := hP46
                            refine z_st (st' := [.int (zb r44)]) rfl ?_
                            have hU6 : zUnc V V45 (fun z => z = q ∨ z = dq) := zUnc.tr (zUnc.tr hli_0 uB39 (fun _ h => h.elim)) hu6 (fun a h => by rcases h with h | h; exact Or.inl (Or.inl h); rcases hli_7 with e | e; exact Or.inl (Or.inr (h.trans e)); exact Or.inr (by rw [h]; exact e))
                            refine z_pop C dX1_goOn_172 rfl ?_
                            refine z_iincN C 11 1 [(6, .int (nI (s + 1))), (11, .ref r13), (10, .int (nI (yAb (yGo Z (4 * b + s)) tt))), (9, .int (nI (yPl Z tt))), (8, .int (nI (yPl Z b))), (7, .ref (ba b)), (0, .ref x), (1, .ref p), (2, .ref (ba tt)), (3, .int (nI lim)), (4, .ref q), (5, .int (nI b))] rfl dX1_goOn_173 rfl (by decide) rfl ?_
                            refine z_goto C 15 dX1_goOn_176 (by decide) ?_
                            refine z_pick [(0, .ref x), (1, .ref p), (2, .ref (ba tt)), (3, .int (nI lim)), (4, .ref q), (5, .int (nI b)), (6, .int (nI (s + 1)))] [6, 7, 8, 9, 10, 11, 0] rfl ?_
                            exact ih_li V45 f2 A2 (r36 :: N1) (va_up pm1 r36 (P ++ [(4 * b + s)])) _ dq2 cap1 (k1 + 0 + 0 + 0 + 0 + 3 + 0 + 0 + 3 + 0) (k2 + 0 + 0 + 0 + 0 + 22 + 0 + 0 + 20 + 0) (s + 1) hU6 hQ6 (hP6.trans (List.Perm.cons _ hli_2)) (by rw [← Nat.add_assoc, hct, List.map_append, List.reverse_append, List.map_cons, zvs, ← hli_3]; exact congrArg (List.cons _) (List.map_congr_left (fun a ha => zvn (hneA a (hli_2.mem_iff.mpr (List.mem_append_left _ ha)))))) (fun a ha => by rw [zvn (hneA a (hli_2.mem_iff.mpr (List.mem_append_right _ ha)))]; exact hli_4 a ha) (fun a ha => ⟨(hAll a (hP6.mem_iff.mp ha)).1.mv hu6 hS5, (hAll a (hP6.mem_iff.mp ha)).2⟩) hH6 (by rw [hd6]; exact hli_7) hli_8 hli_9 (by rw [← Nat.add_assoc, hctl]; omega) (by rw [← Nat.add_assoc, hctl]; omega) (by omega) (by omega)
                          · skip
                            have hcl2 : A1.length = cap1 := by have := hli_1.2.2.2.1; omega
                            have hlN : A1.length < NF := by have h8 := hli_2.length_eq; have h9 := congrArg List.length hli_3; rw [List.length_map, List.length_reverse, List.length_map] at h9; rw [List.length_append] at h8; omega
                            obtain ⟨gu1, gu2, gu3⟩ := g_up (f := F) (c := cap1) (n := NF) (by omega) (by omega) hli_8.2.2.2
                            have hpcg : cap1 < pcap cap1 ∧ pcap cap1 ≤ 5000 ∧ 24 ≤ pcap cap1 := by unfold pcap; split <;> omega
                            refine z_callV C k_PQ hqP43 (As := [.ref r36]) (mJ21_add_1 (K := (fun a => keP (yLeg st rch wt ins (pin' hld) tt) tt Y (va_up pm1 r36 (P ++ [(4 * b + s)]) a))) hQ5 hcl2 (by omega) (by omega) (fun a ha => (hli_5 a ha).1.mv uB39 (fun _ _ _ h => h.elim) |>.o) hpN.1 (hcm5 l) hH5) (lw_V q864 q865 q866 q83 q867) rfl hd_J21_add rfl (Nat.le_of_ble_eq_true rfl) (by decide) (by decide) (by omega) (by omega) rfl dX1_goOn_169 (fun _ _ h => h.elim) (fun r47 V48 hP49 => ?_)
                            obtain ⟨-, dq2, f2, A2, hQ6, hP6, hH6, hd6, hu6⟩ := hP49
                            refine z_st (st' := [.int (zb r47)]) rfl ?_
                            have hU6 : zUnc V V48 (fun z => z = q ∨ z = dq) := zUnc.tr (zUnc.tr hli_0 uB39 (fun _ h => h.elim)) hu6 (fun a h => by rcases h with h | h; exact Or.inl (Or.inl h); rcases hli_7 with e | e; exact Or.inl (Or.inr (h.trans e)); exact Or.inr (by rw [h]; exact e))
                            have hdn : dq2 = dq ∨ V dq2 = none := by
                              by_cases e : dq2 = dq
                              · exact Or.inl e
                              · refine Or.inr (zUnc.none (zUnc.tr hli_0 uB39 (fun _ h => h.elim)) (by rintro (h | h); exact zne_new hQ5.1 hd6 h.symm; exact e h) hd6)
                            refine z_pop C dX1_goOn_172 rfl ?_
                            refine z_iincN C 11 1 [(6, .int (nI (s + 1))), (11, .ref r13), (10, .int (nI (yAb (yGo Z (4 * b + s)) tt))), (9, .int (nI (yPl Z tt))), (8, .int (nI (yPl Z b))), (7, .ref (ba b)), (0, .ref x), (1, .ref p), (2, .ref (ba tt)), (3, .int (nI lim)), (4, .ref q), (5, .int (nI b))] rfl dX1_goOn_173 rfl (by decide) rfl ?_
                            refine z_goto C 15 dX1_goOn_176 (by decide) ?_
                            refine z_pick [(0, .ref x), (1, .ref p), (2, .ref (ba tt)), (3, .int (nI lim)), (4, .ref q), (5, .int (nI b)), (6, .int (nI (s + 1)))] [6, 7, 8, 9, 10, 11, 0] rfl ?_
                            exact ih_li V48 f2 A2 (r36 :: N1) (va_up pm1 r36 (P ++ [(4 * b + s)])) _ dq2 (pcap cap1) (k1 + 0 + 0 + 0 + 0 + 3 + 0 + 0 + 3 + 1) (k2 + 0 + 0 + 0 + 0 + 22 + 0 + 0 + 20 + (pcap cap1)) (s + 1) hU6 hQ6 (hP6.trans (List.Perm.cons _ hli_2)) (by rw [← Nat.add_assoc, hct, List.map_append, List.reverse_append, List.map_cons, zvs, ← hli_3]; exact congrArg (List.cons _) (List.map_congr_left (fun a ha => zvn (hneA a (hli_2.mem_iff.mpr (List.mem_append_left _ ha)))))) (fun a ha => by rw [zvn (hneA a (hli_2.mem_iff.mpr (List.mem_append_right _ ha)))]; exact hli_4 a ha) (fun a ha => ⟨(hAll a (hP6.mem_iff.mp ha)).1.mv hu6 hS5, (hAll a (hP6.mem_iff.mp ha)).2⟩) hH6 hdn ⟨by omega, by omega, by omega, by have := hli_8.2.2.2; omega⟩ (gu3.symm.trans hli_9) (by rw [← Nat.add_assoc, hctl]; omega) (by rw [← Nat.add_assoc, hctl]; omega) (by omega) (by omega)
                      · skip
                        refine z_iconst C (v := (nI 1)) dX1_goOn_110 rfl ?_
                        refine z_goto C 115 dX1_goOn_111 (by decide) ?_
                        refine z_isub C dX1_goOn_115 ?_
                        rw [if_pos (show yPl Z b = yPl Z tt by have := c107; omega), if_neg (show ¬ s = yPl Z tt by have := c94; omega)] at hab
                        refine z_top (v := .int (nI (yAb (yGo Z (4 * b + s)) tt))) (congrArg Value.int (nI_subj (by omega))) ?_
                        refine z_istore C [(10, .int (nI (yAb (yGo Z (4 * b + s)) tt))), (9, .int (nI (yPl Z tt))), (8, .int (nI (yPl Z b))), (7, .ref (ba b)), (0, .ref x), (1, .ref p), (2, .ref (ba tt)), (3, .int (nI lim)), (4, .ref q), (5, .int (nI b)), (6, .int (nI s))] dX1_goOn_116 (by decide) rfl ?_
                        refine z_aload_n C 5 rfl dX1_goOn_118 rfl ?_
                        refine z_getN C k_P hplB.1 1 (by decide) rfl q849 dX1_goOn_119 ?_
                        refine z_alen C 0 rfl hplB.2.1 (n := P.length) rfl dX1_goOn_122 ?_
                        refine z_iconst C (v := (nI 1)) dX1_goOn_123 rfl ?_
                        refine z_iaddN C dX1_goOn_124 ?_
                        refine z_iload C 0 rfl dX1_goOn_125 ?_
                        refine z_iaddN C dX1_goOn_127 ?_
                        refine z_iload_n C 7 rfl dX1_goOn_128 rfl ?_
                        refine z_icmp_gtN C 173 (by omega) (by omega) dX1_goOn_129 (by decide) (fun c129 => ?_) (fun c129 => ?_)
                        · skip
                          have hno : (yLeg st rch wt ins (pin' hld) tt) Z (4 * b + s) = false ∨ ¬ alP (yLeg st rch wt ins (pin' hld) tt) tt Y (P ++ [(4 * b + s)]) ≤ lim := Or.inr (by rw [halN]; omega)
                          refine z_iincN C 10 1 [(6, .int (nI (s + 1))), (10, .int (nI (yAb (yGo Z (4 * b + s)) tt))), (9, .int (nI (yPl Z tt))), (8, .int (nI (yPl Z b))), (7, .ref (ba b)), (0, .ref x), (1, .ref p), (2, .ref (ba tt)), (3, .int (nI lim)), (4, .ref q), (5, .int (nI b))] rfl dX1_goOn_173 rfl (by decide) rfl ?_
                          refine z_goto C 15 dX1_goOn_176 (by decide) ?_
                          refine z_pick [(0, .ref x), (1, .ref p), (2, .ref (ba tt)), (3, .int (nI lim)), (4, .ref q), (5, .int (nI b)), (6, .int (nI (s + 1)))] [5, 6, 7, 8, 9, 10, 0] rfl ?_
                          have hcf : (chl (yLeg st rch wt ins (pin' hld) tt) tt Y lim P ((4 * b + s) + 1)) = (chl (yLeg st rch wt ins (pin' hld) tt) tt Y lim P (4 * b + s)) := chl_f (by rw [zr_some hZ]; exact hno)
                          exact ih_li VB f1 A1 N1 pm1 mq1 dq1 cap1 k1 k2 (s + 1) hli_0 hli_1 hli_2 (by rw [← Nat.add_assoc, hcf]; exact hli_3) hli_4 hli_5 hli_6 hli_7 hli_8 hli_9 (by rw [← Nat.add_assoc, hcf]; exact hli_10) (by rw [← Nat.add_assoc, hcf]; exact hli_11) (by omega) (by omega)
                        · skip
                          have hal9 : alP (yLeg st rch wt ins (pin' hld) tt) tt Y (P ++ [(4 * b + s)]) ≤ lim := by rw [halN]; omega
                          have hct : (chl (yLeg st rch wt ins (pin' hld) tt) tt Y lim P ((4 * b + s) + 1)) = (chl (yLeg st rch wt ins (pin' hld) tt) tt Y lim P (4 * b + s)) ++ [(4 * b + s)] := chl_t (by rw [zr_some hZ]; exact hyes) hal9
                          have hctl : (chl (yLeg st rch wt ins (pin' hld) tt) tt Y lim P ((4 * b + s) + 1)).length = (chl (yLeg st rch wt ins (pin' hld) tt) tt Y lim P (4 * b + s)).length + 1 := by rw [hct]; simp
                          have hcn9 : (chl (yLeg st rch wt ins (pin' hld) tt) tt Y lim P ((4 * b + s) + 1)).length ≤ (chl (yLeg st rch wt ins (pin' hld) tt) tt Y lim P (4 * bx)).length := chl_le (by omega)
                          refine z_aload_n C 5 rfl dX1_goOn_132 rfl ?_
                          refine z_getN C k_P hplB.1 0 (by decide) rfl q846 dX1_goOn_133 ?_
                          refine z_callV C k_Y hydB.1 (As := []) (mX2_copy hydB (fun i hi z hz => by obtain ⟨b9, hb9, rfl⟩ := hfbx i z hi hz; exact ⟨_, (hB.mv unB no_k).2.2.1 b9 hb9⟩)) (lw_V q1067 q1068 q1069 q59 q1070) rfl hd_X2_copy rfl (Nat.le_of_ble_eq_true rfl) (by decide) (by decide) (by omega) (by omega) rfl dX1_goOn_136 (fun _ _ h => h.elim) (fun r50 V51 hP52 => ?_)
                          obtain ⟨yb2, yh2, fb2, hyc, hfe, hcu, hny2, hnb, hnh⟩ := hP52
                          refine z_st (st' := [.ref r50]) rfl ?_
                          have hrc2 := yRel.cg hrel hgZ.1.1 hfe
                          have un53 := zUnc.tr unB hcu (fun _ h => h.elim)
                          have hyP54 : hYd D V51 y1 yb1 yh1 fbp fhp := ⟨hcu.get (fun h => h) hydB.1, hcu.get (fun h => h) hydB.2.1, hcu.get (fun h => h) hydB.2.2⟩
                          have hpP55 : hPl D V51 p y1 rb1 rs1 (alP (yLeg st rch wt ins (pin' hld) tt) tt Y P) P gb1 gs1 := ⟨hcu.get (fun h => h) hplB.1, hcu.get (fun h => h) hplB.2.1, hcu.get (fun h => h) hplB.2.2.1, hplB.2.2.2⟩
                          have hqP56 := hcu.get (fun h => h) hli_1.1
                          refine z_astore C [(11, .ref r50), (10, .int (nI (yAb (yGo Z (4 * b + s)) tt))), (9, .int (nI (yPl Z tt))), (8, .int (nI (yPl Z b))), (7, .ref (ba b)), (0, .ref x), (1, .ref p), (2, .ref (ba tt)), (3, .int (nI lim)), (4, .ref q), (5, .int (nI b)), (6, .int (nI s))] dX1_goOn_139 (by decide) rfl ?_
                          refine z_aload C 0 rfl dX1_goOn_141 ?_
                          refine z_iload C 11 rfl dX1_goOn_143 ?_
                          refine z_aload C 0 rfl dX1_goOn_145 ?_
                          refine z_iload C 3 rfl dX1_goOn_147 ?_
                          refine z_callV C k_Y hyc.1 (As := [.int (nI (yPl Z b))]) (mX2_pop hyc (s := yPl Z b) (n := n0) hp4 (by omega) (by rw [hrc2.1 _ hp4, hn0]) (hrc2.2 _ _ _ hp4 (last_at w1 hn0))) (lw_V q784 q785 q786 q59 q787) rfl hd_X2_pop rfl (Nat.le_of_ble_eq_true rfl) (by decide) (by decide) (by omega) (by omega) rfl dX1_goOn_149 (fun _ _ h => h.elim) (fun r57 V58 hP59 => ?_)
                          obtain ⟨e8, e9⟩ := hP59
                          rw [e8]
                          refine z_st (st' := [.ref (ba b), .int (nI s), .ref r50]) rfl ?_
                          obtain ⟨hy3, hu3⟩ := hyc.u1 e9
                          have hr3 := hrc2.pop hgZ.1.1 hp4 hn0
                          have uB60 := zUnc.tr hcu hu3 (fun a h => Or.inr (by rcases h with h | h; rw [h]; exact hnb; rw [h]; exact hnh))
                          have un61 := zUnc.tr unB uB60 (fun _ h => h.elim)
                          have hyP62 : hYd D V58 y1 yb1 yh1 fbp fhp := ⟨uB60.get (fun h => h) hydB.1, uB60.get (fun h => h) hydB.2.1, uB60.get (fun h => h) hydB.2.2⟩
                          have hpP63 : hPl D V58 p y1 rb1 rs1 (alP (yLeg st rch wt ins (pin' hld) tt) tt Y P) P gb1 gs1 := ⟨uB60.get (fun h => h) hplB.1, uB60.get (fun h => h) hplB.2.1, uB60.get (fun h => h) hplB.2.2.1, hplB.2.2.2⟩
                          have hqP64 := uB60.get (fun h => h) hli_1.1
                          have hA1 : ((va_up Z (yPl Z b) (Z (yPl Z b)).dropLast) s).length = (Z s).length := by rw [zvn (Ne.symm w3)]
                          have hA2 : ∀ z, ((va_up Z (yPl Z b) (Z (yPl Z b)).dropLast) z).length ≤ 4 := fun z => by
                            by_cases e : z = yPl Z b
                            · rw [e, zvs, List.length_dropLast]; omega
                            · rw [zvn e]; exact hgZ.1.1 z
                          refine z_callV C k_Y hy3.1 (As := [.int (nI s), .ref (ba b)]) (mX2_push hy3 (s := s) (n := (Z s).length) (by omega) (by omega) (by rw [hr3.1 _ (show s < 4 by omega), hA1]) ((hB.mv un61 no_k).2.2.1 b hbb)) (lw_V q460 q461 q462 q59 q463) rfl hd_X2_push rfl (Nat.le_of_ble_eq_true rfl) (by decide) (by decide) (by omega) (by omega) rfl dX1_goOn_152 (fun _ _ h => h.elim) (fun r65 V66 hP67 => ?_)
                          refine z_st (st' := []) rfl ?_
                          obtain ⟨hy4, hu4⟩ := hy3.u2 hP67
                          have hr4y := hr3.push (b := b) hA2 (show s < 4 by omega) hA1 (by omega)
                          change yRel ba (yMv Z (yPl Z b) s b) _ _ at hr4y
                          rw [← hgo] at hr4y
                          have uB68 := zUnc.tr uB60 hu4 (fun a h => Or.inr (by rcases h with h | h; rw [h]; exact hnb; rw [h]; exact hnh))
                          have un69 := zUnc.tr unB uB68 (fun _ h => h.elim)
                          have hyP70 : hYd D V66 y1 yb1 yh1 fbp fhp := ⟨uB68.get (fun h => h) hydB.1, uB68.get (fun h => h) hydB.2.1, uB68.get (fun h => h) hydB.2.2⟩
                          have hpP71 : hPl D V66 p y1 rb1 rs1 (alP (yLeg st rch wt ins (pin' hld) tt) tt Y P) P gb1 gs1 := ⟨uB68.get (fun h => h) hplB.1, uB68.get (fun h => h) hplB.2.1, uB68.get (fun h => h) hplB.2.2.1, hplB.2.2.2⟩
                          have hqP72 := uB68.get (fun h => h) hli_1.1
                          refine z_aload C 9 rfl dX1_goOn_155 ?_
                          refine z_aload_n C 6 rfl dX1_goOn_157 rfl ?_
                          refine z_aload C 0 rfl dX1_goOn_158 ?_
                          refine z_iload C 10 rfl dX1_goOn_160 ?_
                          refine z_iload C 11 rfl dX1_goOn_162 ?_
                          refine z_iload C 1 rfl dX1_goOn_164 ?_
                          refine z_callV C k_P hpP71.1 (As := [.ref r50, .int (nI b), .int (nI s), .int (nI (yAb (yGo Z (4 * b + s)) tt))]) (mX6_with hpP71 (b := b) (s := s) (y2 := r50) (k := yAb (yGo Z (4 * b + s)) tt) (by omega) (by omega)) (lw_V q1082 q1083 q1084 q85 q1085) rfl hd_X6_with rfl (Nat.le_of_ble_eq_true rfl) (by decide) (by decide) (by omega) (by omega) rfl dX1_goOn_166 (fun _ _ h => h.elim) (fun r73 V74 hP75 => ?_)
                          obtain ⟨rb3, rs3, fb3, fs3, hpN, hnN, hnR, hnS, huN⟩ := hP75
                          refine z_st (st' := [.ref r73, .ref q]) rfl ?_
                          have uB76 := zUnc.tr uB68 huN (fun _ h => h.elim)
                          have hy5 : hYd D V74 r50 yb2 yh2 _ _ := ⟨huN.get (fun h => h) hy4.1, huN.get (fun h => h) hy4.2.1, huN.get (fun h => h) hy4.2.2⟩
                          have un77 := zUnc.tr unB uB76 (fun _ h => h.elim)
                          have hyP78 : hYd D V74 y1 yb1 yh1 fbp fhp := ⟨uB76.get (fun h => h) hydB.1, uB76.get (fun h => h) hydB.2.1, uB76.get (fun h => h) hydB.2.2⟩
                          have hpP79 : hPl D V74 p y1 rb1 rs1 (alP (yLeg st rch wt ins (pin' hld) tt) tt Y P) P gb1 gs1 := ⟨uB76.get (fun h => h) hplB.1, uB76.get (fun h => h) hplB.2.1, uB76.get (fun h => h) hplB.2.2.1, hplB.2.2.2⟩
                          have hqP80 := uB76.get (fun h => h) hli_1.1
                          have hnB := zUnc.none uB68 (fun h => h) hnN
                          have hfbN : ∀ i z : Nat, i < 16 → va_up (va_up fb2 (4 * yPl Z b + n0) none) (4 * s + (Z s).length) (some (ba b)) i = some z → ∃ b, b < bx ∧ z = ba b := fun i z hi hz => by
                            by_cases c1 : i = 4 * s + (Z s).length
                            · rw [c1, zvs] at hz; cases hz; exact ⟨b, hbb, rfl⟩
                            · rw [zvn c1] at hz
                              by_cases c2 : i = 4 * yPl Z b + n0
                              · rw [c2, zvs] at hz; cases hz
                              · rw [zvn c2, hfe i hi] at hz; exact hfbx i z hi hz
                          have hpc : pCl D Vb V74 ba bx (yLeg st rch wt ins (pin' hld) tt) tt Y r73 (P ++ [(4 * b + s)]) := ⟨_, _, _, _, _, _, _, _, _, by rw [halN]; exact hpN, hy5, by rw [zr_some hrn]; exact hr4y, hfbN, zUnc.none un69 (fun h => h) hnR, zUnc.none un69 (fun h => h) hnS⟩
                          have hpg : pGd (yLeg st rch wt ins (pin' hld) tt) tt Y (P ++ [(4 * b + s)]) := ⟨⟨_, hrn⟩, by omega, fun m hm => by rw [List.mem_append, List.mem_singleton] at hm; rcases hm with hm | hm; exact hPg.2.2 m hm; omega⟩
                          have hneA : ∀ a ∈ A1, a ≠ r73 := fun a ha => by obtain ⟨vs, hv⟩ := (hli_5 a ha).1.o; exact zne_new hv hnB
                          have hAll : ∀ a ∈ r73 :: A1, pCl D Vb V74 ba bx (yLeg st rch wt ins (pin' hld) tt) tt Y a (va_up pm1 r73 (P ++ [(4 * b + s)]) a) ∧ pGd (yLeg st rch wt ins (pin' hld) tt) tt Y (va_up pm1 r73 (P ++ [(4 * b + s)]) a) := fun a ha => by
                            rcases List.mem_cons.mp ha with e | e
                            · rw [e, zvs]; exact ⟨hpc, hpg⟩
                            · rw [zvn (hneA a e)]; exact ⟨(hli_5 a e).1.mv uB76 (fun _ _ _ h => h.elim), (hli_5 a e).2⟩
                          have hQ5 : hPQ D V74 q dq1 cap1 f1 A1 cmp mq1 := ⟨uB76.get (fun h => h) hli_1.1, uB76.get (fun h => h) hli_1.2.1, uB76.get (fun h => h) hli_1.2.2.1, hli_1.2.2.2⟩
                          have hH5 : hpA (fun a => keP (yLeg st rch wt ins (pin' hld) tt) tt Y (va_up pm1 r73 (P ++ [(4 * b + s)]) a)) A1 := hli_6.cg (fun a ha => by show keP (yLeg st rch wt ins (pin' hld) tt) tt Y (va_up pm1 r73 (P ++ [(4 * b + s)]) a) = _; rw [zvn (hneA a ha)])
                          have hS5 := pq_k hQ5 hli_8.2.2.1
                          have hcm5 := fun l => pq_cmp (l := l) hAll hQ5.2.2.1 hS5 (by rintro (h | h); exact zne_cc hQ5.2.2.1 hQ5.1 (by decide) h; exact zne_oa hQ5.2.2.1 hQ5.2.1 h)
                          rcases Nat.lt_or_ge A1.length cap1 with hcl | hcl
                          · skip
                            have hlN : A1.length < NF := by have h8 := hli_2.length_eq; have h9 := congrArg List.length hli_3; rw [List.length_map, List.length_reverse, List.length_map] at h9; rw [List.length_append] at h8; omega
                            refine z_callV C k_PQ hqP80 (As := [.ref r73]) (mJ21_add_0 (K := (fun a => keP (yLeg st rch wt ins (pin' hld) tt) tt Y (va_up pm1 r73 (P ++ [(4 * b + s)]) a))) hQ5 hcl (by omega) (fun a ha => (hli_5 a ha).1.mv uB76 (fun _ _ _ h => h.elim) |>.o) hpN.1 (hcm5 l) hH5) (lw_V q864 q865 q866 q83 q867) rfl hd_J21_add rfl (Nat.le_of_ble_eq_true rfl) (by decide) (by decide) (by omega) (by omega) rfl dX1_goOn_169 (fun _ _ h => h.elim) (fun r81 V82 hP83 => ?_)
                            obtain ⟨-, dq2, f2, A2, hQ6, hP6, hH6, hd6, hu6⟩ := hP83
                            refine z_st (st' := [.int (zb r81)]) rfl ?_
                            have hU6 : zUnc V V82 (fun z => z = q ∨ z = dq) := zUnc.tr (zUnc.tr hli_0 uB76 (fun _ h => h.elim)) hu6 (fun a h => by rcases h with h | h; exact Or.inl (Or.inl h); rcases hli_7 with e | e; exact Or.inl (Or.inr (h.trans e)); exact Or.inr (by rw [h]; exact e))
                            refine z_pop C dX1_goOn_172 rfl ?_
                            refine z_iincN C 11 1 [(6, .int (nI (s + 1))), (11, .ref r50), (10, .int (nI (yAb (yGo Z (4 * b + s)) tt))), (9, .int (nI (yPl Z tt))), (8, .int (nI (yPl Z b))), (7, .ref (ba b)), (0, .ref x), (1, .ref p), (2, .ref (ba tt)), (3, .int (nI lim)), (4, .ref q), (5, .int (nI b))] rfl dX1_goOn_173 rfl (by decide) rfl ?_
                            refine z_goto C 15 dX1_goOn_176 (by decide) ?_
                            refine z_pick [(0, .ref x), (1, .ref p), (2, .ref (ba tt)), (3, .int (nI lim)), (4, .ref q), (5, .int (nI b)), (6, .int (nI (s + 1)))] [6, 7, 8, 9, 10, 11, 0] rfl ?_
                            exact ih_li V82 f2 A2 (r73 :: N1) (va_up pm1 r73 (P ++ [(4 * b + s)])) _ dq2 cap1 (k1 + 0 + 0 + 0 + 0 + 3 + 0 + 0 + 3 + 0) (k2 + 0 + 0 + 0 + 0 + 22 + 0 + 0 + 20 + 0) (s + 1) hU6 hQ6 (hP6.trans (List.Perm.cons _ hli_2)) (by rw [← Nat.add_assoc, hct, List.map_append, List.reverse_append, List.map_cons, zvs, ← hli_3]; exact congrArg (List.cons _) (List.map_congr_left (fun a ha => zvn (hneA a (hli_2.mem_iff.mpr (List.mem_append_left _ ha)))))) (fun a ha => by rw [zvn (hneA a (hli_2.mem_iff.mpr (List.mem_append_right _ ha)))]; exact hli_4 a ha) (fun a ha => ⟨(hAll a (hP6.mem_iff.mp ha)).1.mv hu6 hS5, (hAll a (hP6.mem_iff.mp ha)).2⟩) hH6 (by rw [hd6]; exact hli_7) hli_8 hli_9 (by rw [← Nat.add_assoc, hctl]; omega) (by rw [← Nat.add_assoc, hctl]; omega) (by omega) (by omega)
                          · skip
                            have hcl2 : A1.length = cap1 := by have := hli_1.2.2.2.1; omega
                            have hlN : A1.length < NF := by have h8 := hli_2.length_eq; have h9 := congrArg List.length hli_3; rw [List.length_map, List.length_reverse, List.length_map] at h9; rw [List.length_append] at h8; omega
                            obtain ⟨gu1, gu2, gu3⟩ := g_up (f := F) (c := cap1) (n := NF) (by omega) (by omega) hli_8.2.2.2
                            have hpcg : cap1 < pcap cap1 ∧ pcap cap1 ≤ 5000 ∧ 24 ≤ pcap cap1 := by unfold pcap; split <;> omega
                            refine z_callV C k_PQ hqP80 (As := [.ref r73]) (mJ21_add_1 (K := (fun a => keP (yLeg st rch wt ins (pin' hld) tt) tt Y (va_up pm1 r73 (P ++ [(4 * b + s)]) a))) hQ5 hcl2 (by omega) (by omega) (fun a ha => (hli_5 a ha).1.mv uB76 (fun _ _ _ h => h.elim) |>.o) hpN.1 (hcm5 l) hH5) (lw_V q864 q865 q866 q83 q867) rfl hd_J21_add rfl (Nat.le_of_ble_eq_true rfl) (by decide) (by decide) (by omega) (by omega) rfl dX1_goOn_169 (fun _ _ h => h.elim) (fun r84 V85 hP86 => ?_)
                            obtain ⟨-, dq2, f2, A2, hQ6, hP6, hH6, hd6, hu6⟩ := hP86
                            refine z_st (st' := [.int (zb r84)]) rfl ?_
                            have hU6 : zUnc V V85 (fun z => z = q ∨ z = dq) := zUnc.tr (zUnc.tr hli_0 uB76 (fun _ h => h.elim)) hu6 (fun a h => by rcases h with h | h; exact Or.inl (Or.inl h); rcases hli_7 with e | e; exact Or.inl (Or.inr (h.trans e)); exact Or.inr (by rw [h]; exact e))
                            have hdn : dq2 = dq ∨ V dq2 = none := by
                              by_cases e : dq2 = dq
                              · exact Or.inl e
                              · refine Or.inr (zUnc.none (zUnc.tr hli_0 uB76 (fun _ h => h.elim)) (by rintro (h | h); exact zne_new hQ5.1 hd6 h.symm; exact e h) hd6)
                            refine z_pop C dX1_goOn_172 rfl ?_
                            refine z_iincN C 11 1 [(6, .int (nI (s + 1))), (11, .ref r50), (10, .int (nI (yAb (yGo Z (4 * b + s)) tt))), (9, .int (nI (yPl Z tt))), (8, .int (nI (yPl Z b))), (7, .ref (ba b)), (0, .ref x), (1, .ref p), (2, .ref (ba tt)), (3, .int (nI lim)), (4, .ref q), (5, .int (nI b))] rfl dX1_goOn_173 rfl (by decide) rfl ?_
                            refine z_goto C 15 dX1_goOn_176 (by decide) ?_
                            refine z_pick [(0, .ref x), (1, .ref p), (2, .ref (ba tt)), (3, .int (nI lim)), (4, .ref q), (5, .int (nI b)), (6, .int (nI (s + 1)))] [6, 7, 8, 9, 10, 11, 0] rfl ?_
                            exact ih_li V85 f2 A2 (r73 :: N1) (va_up pm1 r73 (P ++ [(4 * b + s)])) _ dq2 (pcap cap1) (k1 + 0 + 0 + 0 + 0 + 3 + 0 + 0 + 3 + 1) (k2 + 0 + 0 + 0 + 0 + 22 + 0 + 0 + 20 + (pcap cap1)) (s + 1) hU6 hQ6 (hP6.trans (List.Perm.cons _ hli_2)) (by rw [← Nat.add_assoc, hct, List.map_append, List.reverse_append, List.map_cons, zvs, ← hli_3]; exact congrArg (List.cons _) (List.map_congr_left (fun a ha => zvn (hneA a (hli_2.mem_iff.mpr (List.mem_append_left _ ha)))))) (fun a ha => by rw [zvn (hneA a (hli_2.mem_iff.mpr (List.mem_append_right _ ha)))]; exact hli_4 a ha) (fun a ha => ⟨(hAll a (hP6.mem_iff.mp ha)).1.mv hu6 hS5, (hAll a (hP6.mem_iff.mp ha)).2⟩) hH6 hdn ⟨by omega, by omega, by omega, by have := hli_8.2.2.2; omega⟩ (gu3.symm.trans hli_9) (by rw [← Nat.add_assoc, hctl]; omega) (by rw [← Nat.add_assoc, hctl]; omega) (by omega) (by omega)
                    · skip
                      refine z_iconst C (v := (nI 1)) dX1_goOn_97 rfl ?_
                      refine z_goto C 102 dX1_goOn_98 (by decide) ?_
                      refine z_iaddN C dX1_goOn_102 ?_
                      refine z_iload C 1 rfl dX1_goOn_103 ?_
                      refine z_iload C 0 rfl dX1_goOn_105 ?_
                      refine z_icmp_neN C 114 (by omega) (by omega) dX1_goOn_107 (by decide) (fun c107 => ?_) (fun c107 => ?_)
                      · skip
                        refine z_iconst C (v := (nI 0)) dX1_goOn_114 rfl ?_
                        refine z_isub C dX1_goOn_115 ?_
                        rw [if_neg (show ¬ yPl Z b = yPl Z tt by have := c107; omega), if_pos (show s = yPl Z tt by have := c94; omega)] at hab
                        refine z_top (v := .int (nI (yAb (yGo Z (4 * b + s)) tt))) (congrArg Value.int (nI_subj (by omega))) ?_
                        refine z_istore C [(10, .int (nI (yAb (yGo Z (4 * b + s)) tt))), (9, .int (nI (yPl Z tt))), (8, .int (nI (yPl Z b))), (7, .ref (ba b)), (0, .ref x), (1, .ref p), (2, .ref (ba tt)), (3, .int (nI lim)), (4, .ref q), (5, .int (nI b)), (6, .int (nI s))] dX1_goOn_116 (by decide) rfl ?_
                        refine z_aload_n C 5 rfl dX1_goOn_118 rfl ?_
                        refine z_getN C k_P hplB.1 1 (by decide) rfl q849 dX1_goOn_119 ?_
                        refine z_alen C 0 rfl hplB.2.1 (n := P.length) rfl dX1_goOn_122 ?_
                        refine z_iconst C (v := (nI 1)) dX1_goOn_123 rfl ?_
                        refine z_iaddN C dX1_goOn_124 ?_
                        refine z_iload C 0 rfl dX1_goOn_125 ?_
                        refine z_iaddN C dX1_goOn_127 ?_
                        refine z_iload_n C 7 rfl dX1_goOn_128 rfl ?_
                        refine z_icmp_gtN C 173 (by omega) (by omega) dX1_goOn_129 (by decide) (fun c129 => ?_) (fun c129 => ?_)
                        · skip
                          have hno : (yLeg st rch wt ins (pin' hld) tt) Z (4 * b + s) = false ∨ ¬ alP (yLeg st rch wt ins (pin' hld) tt) tt Y (P ++ [(4 * b + s)]) ≤ lim := Or.inr (by rw [halN]; omega)
                          refine z_iincN C 10 1 [(6, .int (nI (s + 1))), (10, .int (nI (yAb (yGo Z (4 * b + s)) tt))), (9, .int (nI (yPl Z tt))), (8, .int (nI (yPl Z b))), (7, .ref (ba b)), (0, .ref x), (1, .ref p), (2, .ref (ba tt)), (3, .int (nI lim)), (4, .ref q), (5, .int (nI b))] rfl dX1_goOn_173 rfl (by decide) rfl ?_
                          refine z_goto C 15 dX1_goOn_176 (by decide) ?_
                          refine z_pick [(0, .ref x), (1, .ref p), (2, .ref (ba tt)), (3, .int (nI lim)), (4, .ref q), (5, .int (nI b)), (6, .int (nI (s + 1)))] [5, 6, 7, 8, 9, 10, 0] rfl ?_
                          have hcf : (chl (yLeg st rch wt ins (pin' hld) tt) tt Y lim P ((4 * b + s) + 1)) = (chl (yLeg st rch wt ins (pin' hld) tt) tt Y lim P (4 * b + s)) := chl_f (by rw [zr_some hZ]; exact hno)
                          exact ih_li VB f1 A1 N1 pm1 mq1 dq1 cap1 k1 k2 (s + 1) hli_0 hli_1 hli_2 (by rw [← Nat.add_assoc, hcf]; exact hli_3) hli_4 hli_5 hli_6 hli_7 hli_8 hli_9 (by rw [← Nat.add_assoc, hcf]; exact hli_10) (by rw [← Nat.add_assoc, hcf]; exact hli_11) (by omega) (by omega)
                        · skip
                          have hal9 : alP (yLeg st rch wt ins (pin' hld) tt) tt Y (P ++ [(4 * b + s)]) ≤ lim := by rw [halN]; omega
                          have hct : (chl (yLeg st rch wt ins (pin' hld) tt) tt Y lim P ((4 * b + s) + 1)) = (chl (yLeg st rch wt ins (pin' hld) tt) tt Y lim P (4 * b + s)) ++ [(4 * b + s)] := chl_t (by rw [zr_some hZ]; exact hyes) hal9
                          have hctl : (chl (yLeg st rch wt ins (pin' hld) tt) tt Y lim P ((4 * b + s) + 1)).length = (chl (yLeg st rch wt ins (pin' hld) tt) tt Y lim P (4 * b + s)).length + 1 := by rw [hct]; simp
                          have hcn9 : (chl (yLeg st rch wt ins (pin' hld) tt) tt Y lim P ((4 * b + s) + 1)).length ≤ (chl (yLeg st rch wt ins (pin' hld) tt) tt Y lim P (4 * bx)).length := chl_le (by omega)
                          refine z_aload_n C 5 rfl dX1_goOn_132 rfl ?_
                          refine z_getN C k_P hplB.1 0 (by decide) rfl q846 dX1_goOn_133 ?_
                          refine z_callV C k_Y hydB.1 (As := []) (mX2_copy hydB (fun i hi z hz => by obtain ⟨b9, hb9, rfl⟩ := hfbx i z hi hz; exact ⟨_, (hB.mv unB no_k).2.2.1 b9 hb9⟩)) (lw_V q1067 q1068 q1069 q59 q1070) rfl hd_X2_copy rfl (Nat.le_of_ble_eq_true rfl) (by decide) (by decide) (by omega) (by omega) rfl dX1_goOn_136 (fun _ _ h => h.elim) (fun r87 V88 hP89 => ?_)
                          obtain ⟨yb2, yh2, fb2, hyc, hfe, hcu, hny2, hnb, hnh⟩ := hP89
                          refine z_st (st' := [.ref r87]) rfl ?_
                          have hrc2 := yRel.cg hrel hgZ.1.1 hfe
                          have un90 := zUnc.tr unB hcu (fun _ h => h.elim)
                          have hyP91 : hYd D V88 y1 yb1 yh1 fbp fhp := ⟨hcu.get (fun h => h) hydB.1, hcu.get (fun h => h) hydB.2.1, hcu.get (fun h => h) hydB.2.2⟩
                          have hpP92 : hPl D V88 p y1 rb1 rs1 (alP (yLeg st rch wt ins (pin' hld) tt) tt Y P) P gb1 gs1 := ⟨hcu.get (fun h => h) hplB.1, hcu.get (fun h => h) hplB.2.1, hcu.get (fun h => h) hplB.2.2.1, hplB.2.2.2⟩
                          have hqP93 := hcu.get (fun h => h) hli_1.1
                          refine z_astore C [(11, .ref r87), (10, .int (nI (yAb (yGo Z (4 * b + s)) tt))), (9, .int (nI (yPl Z tt))), (8, .int (nI (yPl Z b))), (7, .ref (ba b)), (0, .ref x), (1, .ref p), (2, .ref (ba tt)), (3, .int (nI lim)), (4, .ref q), (5, .int (nI b)), (6, .int (nI s))] dX1_goOn_139 (by decide) rfl ?_
                          refine z_aload C 0 rfl dX1_goOn_141 ?_
                          refine z_iload C 11 rfl dX1_goOn_143 ?_
                          refine z_aload C 0 rfl dX1_goOn_145 ?_
                          refine z_iload C 3 rfl dX1_goOn_147 ?_
                          refine z_callV C k_Y hyc.1 (As := [.int (nI (yPl Z b))]) (mX2_pop hyc (s := yPl Z b) (n := n0) hp4 (by omega) (by rw [hrc2.1 _ hp4, hn0]) (hrc2.2 _ _ _ hp4 (last_at w1 hn0))) (lw_V q784 q785 q786 q59 q787) rfl hd_X2_pop rfl (Nat.le_of_ble_eq_true rfl) (by decide) (by decide) (by omega) (by omega) rfl dX1_goOn_149 (fun _ _ h => h.elim) (fun r94 V95 hP96 => ?_)
                          obtain ⟨e8, e9⟩ := hP96
                          rw [e8]
                          refine z_st (st' := [.ref (ba b), .int (nI s), .ref r87]) rfl ?_
                          obtain ⟨hy3, hu3⟩ := hyc.u1 e9
                          have hr3 := hrc2.pop hgZ.1.1 hp4 hn0
                          have uB97 := zUnc.tr hcu hu3 (fun a h => Or.inr (by rcases h with h | h; rw [h]; exact hnb; rw [h]; exact hnh))
                          have un98 := zUnc.tr unB uB97 (fun _ h => h.elim)
                          have hyP99 : hYd D V95 y1 yb1 yh1 fbp fhp := ⟨uB97.get (fun h => h) hydB.1, uB97.get (fun h => h) hydB.2.1, uB97.get (fun h => h) hydB.2.2⟩
                          have hpP100 : hPl D V95 p y1 rb1 rs1 (alP (yLeg st rch wt ins (pin' hld) tt) tt Y P) P gb1 gs1 := ⟨uB97.get (fun h => h) hplB.1, uB97.get (fun h => h) hplB.2.1, uB97.get (fun h => h) hplB.2.2.1, hplB.2.2.2⟩
                          have hqP101 := uB97.get (fun h => h) hli_1.1
                          have hA1 : ((va_up Z (yPl Z b) (Z (yPl Z b)).dropLast) s).length = (Z s).length := by rw [zvn (Ne.symm w3)]
                          have hA2 : ∀ z, ((va_up Z (yPl Z b) (Z (yPl Z b)).dropLast) z).length ≤ 4 := fun z => by
                            by_cases e : z = yPl Z b
                            · rw [e, zvs, List.length_dropLast]; omega
                            · rw [zvn e]; exact hgZ.1.1 z
                          refine z_callV C k_Y hy3.1 (As := [.int (nI s), .ref (ba b)]) (mX2_push hy3 (s := s) (n := (Z s).length) (by omega) (by omega) (by rw [hr3.1 _ (show s < 4 by omega), hA1]) ((hB.mv un98 no_k).2.2.1 b hbb)) (lw_V q460 q461 q462 q59 q463) rfl hd_X2_push rfl (Nat.le_of_ble_eq_true rfl) (by decide) (by decide) (by omega) (by omega) rfl dX1_goOn_152 (fun _ _ h => h.elim) (fun r102 V103 hP104 => ?_)
                          refine z_st (st' := []) rfl ?_
                          obtain ⟨hy4, hu4⟩ := hy3.u2 hP104
                          have hr4y := hr3.push (b := b) hA2 (show s < 4 by omega) hA1 (by omega)
                          change yRel ba (yMv Z (yPl Z b) s b) _ _ at hr4y
                          rw [← hgo] at hr4y
                          have uB105 := zUnc.tr uB97 hu4 (fun a h => Or.inr (by rcases h with h | h; rw [h]; exact hnb; rw [h]; exact hnh))
                          have un106 := zUnc.tr unB uB105 (fun _ h => h.elim)
                          have hyP107 : hYd D V103 y1 yb1 yh1 fbp fhp := ⟨uB105.get (fun h => h) hydB.1, uB105.get (fun h => h) hydB.2.1, uB105.get (fun h => h) hydB.2.2⟩
                          have hpP108 : hPl D V103 p y1 rb1 rs1 (alP (yLeg st rch wt ins (pin' hld) tt) tt Y P) P gb1 gs1 := ⟨uB105.get (fun h => h) hplB.1, uB105.get (fun h => h) hplB.2.1, uB105.get (fun h => h) hplB.2.2.1, hplB.2.2.2⟩
                          have hqP109 := uB105.get (fun h => h) hli_1.1
                          refine z_aload C 9 rfl dX1_goOn_155 ?_
                          refine z_aload_n C 6 rfl dX1_goOn_157 rfl ?_
                          refine z_aload C 0 rfl dX1_goOn_158 ?_
                          refine z_iload C 10 rfl dX1_goOn_160 ?_
                          refine z_iload C 11 rfl dX1_goOn_162 ?_
                          refine z_iload C 1 rfl dX1_goOn_164 ?_
                          refine z_callV C k_P hpP108.1 (As := [.ref r87, .int (nI b), .int (nI s), .int (nI (yAb (yGo Z (4 * b + s)) tt))]) (mX6_with hpP108 (b := b) (s := s) (y2 := r87) (k := yAb (yGo Z (4 * b + s)) tt) (by omega) (by omega)) (lw_V q1082 q1083 q1084 q85 q1085) rfl hd_X6_with rfl (Nat.le_of_ble_eq_true rfl) (by decide) (by decide) (by omega) (by omega) rfl dX1_goOn_166 (fun _ _ h => h.elim) (fun r110 V111 hP112 => ?_)
                          obtain ⟨rb3, rs3, fb3, fs3, hpN, hnN, hnR, hnS, huN⟩ := hP112
                          refine z_st (st' := [.ref r110, .ref q]) rfl ?_
                          have uB113 := zUnc.tr uB105 huN (fun _ h => h.elim)
                          have hy5 : hYd D V111 r87 yb2 yh2 _ _ := ⟨huN.get (fun h => h) hy4.1, huN.get (fun h => h) hy4.2.1, huN.get (fun h => h) hy4.2.2⟩
                          have un114 := zUnc.tr unB uB113 (fun _ h => h.elim)
                          have hyP115 : hYd D V111 y1 yb1 yh1 fbp fhp := ⟨uB113.get (fun h => h) hydB.1, uB113.get (fun h => h) hydB.2.1, uB113.get (fun h => h) hydB.2.2⟩
                          have hpP116 : hPl D V111 p y1 rb1 rs1 (alP (yLeg st rch wt ins (pin' hld) tt) tt Y P) P gb1 gs1 := ⟨uB113.get (fun h => h) hplB.1, uB113.get (fun h => h) hplB.2.1, uB113.get (fun h => h) hplB.2.2.1, hplB.2.2.2⟩
                          have hqP117 := uB113.get (fun h => h) hli_1.1
                          have hnB := zUnc.none uB105 (fun h => h) hnN
                          have hfbN : ∀ i z : Nat, i < 16 → va_up (va_up fb2 (4 * yPl Z b + n0) none) (4 * s + (Z s).length) (some (ba b)) i = some z → ∃ b, b < bx ∧ z = ba b := fun i z hi hz => by
                            by_cases c1 : i = 4 * s + (Z s).length
                            · rw [c1, zvs] at hz; cases hz; exact ⟨b, hbb, rfl⟩
                            · rw [zvn c1] at hz
                              by_cases c2 : i = 4 * yPl Z b + n0
                              · rw [c2, zvs] at hz; cases hz
                              · rw [zvn c2, hfe i hi] at hz; exact hfbx i z hi hz
                          have hpc : pCl D Vb V111 ba bx (yLeg st rch wt ins (pin' hld) tt) tt Y r110 (P ++ [(4 * b + s)]) := ⟨_, _, _, _, _, _, _, _, _, by rw [halN]; exact hpN, hy5, by rw [zr_some hrn]; exact hr4y, hfbN, zUnc.none un106 (fun h => h) hnR, zUnc.none un106 (fun h => h) hnS⟩
                          have hpg : pGd (yLeg st rch wt ins (pin' hld) tt) tt Y (P ++ [(4 * b + s)]) := ⟨⟨_, hrn⟩, by omega, fun m hm => by rw [List.mem_append, List.mem_singleton] at hm; rcases hm with hm | hm; exact hPg.2.2 m hm; omega⟩
                          have hneA : ∀ a ∈ A1, a ≠ r110 := fun a ha => by obtain ⟨vs, hv⟩ := (hli_5 a ha).1.o; exact zne_new hv hnB
                          have hAll : ∀ a ∈ r110 :: A1, pCl D Vb V111 ba bx (yLeg st rch wt ins (pin' hld) tt) tt Y a (va_up pm1 r110 (P ++ [(4 * b + s)]) a) ∧ pGd (yLeg st rch wt ins (pin' hld) tt) tt Y (va_up pm1 r110 (P ++ [(4 * b + s)]) a) := fun a ha => by
                            rcases List.mem_cons.mp ha with e | e
                            · rw [e, zvs]; exact ⟨hpc, hpg⟩
                            · rw [zvn (hneA a e)]; exact ⟨(hli_5 a e).1.mv uB113 (fun _ _ _ h => h.elim), (hli_5 a e).2⟩
                          have hQ5 : hPQ D V111 q dq1 cap1 f1 A1 cmp mq1 := ⟨uB113.get (fun h => h) hli_1.1, uB113.get (fun h => h) hli_1.2.1, uB113.get (fun h => h) hli_1.2.2.1, hli_1.2.2.2⟩
                          have hH5 : hpA (fun a => keP (yLeg st rch wt ins (pin' hld) tt) tt Y (va_up pm1 r110 (P ++ [(4 * b + s)]) a)) A1 := hli_6.cg (fun a ha => by show keP (yLeg st rch wt ins (pin' hld) tt) tt Y (va_up pm1 r110 (P ++ [(4 * b + s)]) a) = _; rw [zvn (hneA a ha)])
                          have hS5 := pq_k hQ5 hli_8.2.2.1
                          have hcm5 := fun l => pq_cmp (l := l) hAll hQ5.2.2.1 hS5 (by rintro (h | h); exact zne_cc hQ5.2.2.1 hQ5.1 (by decide) h; exact zne_oa hQ5.2.2.1 hQ5.2.1 h)
                          rcases Nat.lt_or_ge A1.length cap1 with hcl | hcl
                          · skip
                            have hlN : A1.length < NF := by have h8 := hli_2.length_eq; have h9 := congrArg List.length hli_3; rw [List.length_map, List.length_reverse, List.length_map] at h9; rw [List.length_append] at h8; omega
                            refine z_callV C k_PQ hqP117 (As := [.ref r110]) (mJ21_add_0 (K := (fun a => keP (yLeg st rch wt ins (pin' hld) tt) tt Y (va_up pm1 r110 (P ++ [(4 * b + s)]) a))) hQ5 hcl (by omega) (fun a ha => (hli_5 a ha).1.mv uB113 (fun _ _ _ h => h.elim) |>.o) hpN.1 (hcm5 l) hH5) (lw_V q864 q865 q866 q83 q867) rfl hd_J21_add rfl (Nat.le_of_ble_eq_true rfl) (by decide) (by decide) (by omega) (by omega) rfl dX1_goOn_169 (fun _ _ h => h.elim) (fun r118 V119 hP120 => ?_)
                            obtain ⟨-, dq2, f2, A2, hQ6, hP6, hH6, hd6, hu6⟩ := hP120
                            refine z_st (st' := [.int (zb r118)]) rfl ?_
                            have hU6 : zUnc V V119 (fun z => z = q ∨ z = dq) := zUnc.tr (zUnc.tr hli_0 uB113 (fun _ h => h.elim)) hu6 (fun a h => by rcases h with h | h; exact Or.inl (Or.inl h); rcases hli_7 with e | e; exact Or.inl (Or.inr (h.trans e)); exact Or.inr (by rw [h]; exact e))
                            refine z_pop C dX1_goOn_172 rfl ?_
                            refine z_iincN C 11 1 [(6, .int (nI (s + 1))), (11, .ref r87), (10, .int (nI (yAb (yGo Z (4 * b + s)) tt))), (9, .int (nI (yPl Z tt))), (8, .int (nI (yPl Z b))), (7, .ref (ba b)), (0, .ref x), (1, .ref p), (2, .ref (ba tt)), (3, .int (nI lim)), (4, .ref q), (5, .int (nI b))] rfl dX1_goOn_173 rfl (by decide) rfl ?_
                            refine z_goto C 15 dX1_goOn_176 (by decide) ?_
                            refine z_pick [(0, .ref x), (1, .ref p), (2, .ref (ba tt)), (3, .int (nI lim)), (4, .ref q), (5, .int (nI b)), (6, .int (nI (s + 1)))] [6, 7, 8, 9, 10, 11, 0] rfl ?_
                            exact ih_li V119 f2 A2 (r110 :: N1) (va_up pm1 r110 (P ++ [(4 * b + s)])) _ dq2 cap1 (k1 + 0 + 0 + 0 + 0 + 3 + 0 + 0 + 3 + 0) (k2 + 0 + 0 + 0 + 0 + 22 + 0 + 0 + 20 + 0) (s + 1) hU6 hQ6 (hP6.trans (List.Perm.cons _ hli_2)) (by rw [← Nat.add_assoc, hct, List.map_append, List.reverse_append, List.map_cons, zvs, ← hli_3]; exact congrArg (List.cons _) (List.map_congr_left (fun a ha => zvn (hneA a (hli_2.mem_iff.mpr (List.mem_append_left _ ha)))))) (fun a ha => by rw [zvn (hneA a (hli_2.mem_iff.mpr (List.mem_append_right _ ha)))]; exact hli_4 a ha) (fun a ha => ⟨(hAll a (hP6.mem_iff.mp ha)).1.mv hu6 hS5, (hAll a (hP6.mem_iff.mp ha)).2⟩) hH6 (by rw [hd6]; exact hli_7) hli_8 hli_9 (by rw [← Nat.add_assoc, hctl]; omega) (by rw [← Nat.add_assoc, hctl]; omega) (by omega) (by omega)
                          · skip
                            have hcl2 : A1.length = cap1 := by have := hli_1.2.2.2.1; omega
                            have hlN : A1.length < NF := by have h8 := hli_2.length_eq; have h9 := congrArg List.length hli_3; rw [List.length_map, List.length_reverse, List.length_map] at h9; rw [List.length_append] at h8; omega
                            obtain ⟨gu1, gu2, gu3⟩ := g_up (f := F) (c := cap1) (n := NF) (by omega) (by omega) hli_8.2.2.2
                            have hpcg : cap1 < pcap cap1 ∧ pcap cap1 ≤ 5000 ∧ 24 ≤ pcap cap1 := by unfold pcap; split <;> omega
                            refine z_callV C k_PQ hqP117 (As := [.ref r110]) (mJ21_add_1 (K := (fun a => keP (yLeg st rch wt ins (pin' hld) tt) tt Y (va_up pm1 r110 (P ++ [(4 * b + s)]) a))) hQ5 hcl2 (by omega) (by omega) (fun a ha => (hli_5 a ha).1.mv uB113 (fun _ _ _ h => h.elim) |>.o) hpN.1 (hcm5 l) hH5) (lw_V q864 q865 q866 q83 q867) rfl hd_J21_add rfl (Nat.le_of_ble_eq_true rfl) (by decide) (by decide) (by omega) (by omega) rfl dX1_goOn_169 (fun _ _ h => h.elim) (fun r121 V122 hP123 => ?_)
                            obtain ⟨-, dq2, f2, A2, hQ6, hP6, hH6, hd6, hu6⟩ := hP123
                            refine z_st (st' := [.int (zb r121)]) rfl ?_
                            have hU6 : zUnc V V122 (fun z => z = q ∨ z = dq) := zUnc.tr (zUnc.tr hli_0 uB113 (fun _ h => h.elim)) hu6 (fun a h => by rcases h with h | h; exact Or.inl (Or.inl h); rcases hli_7 with e | e; exact Or.inl (Or.inr (h.trans e)); exact Or.inr (by rw [h]; exact e))
                            have hdn : dq2 = dq ∨ V dq2 = none := by
                              by_cases e : dq2 = dq
                              · exact Or.inl e
                              · refine Or.inr (zUnc.none (zUnc.tr hli_0 uB113 (fun _ h => h.elim)) (by rintro (h | h); exact zne_new hQ5.1 hd6 h.symm; exact e h) hd6)
                            refine z_pop C dX1_goOn_172 rfl ?_
                            refine z_iincN C 11 1 [(6, .int (nI (s + 1))), (11, .ref r87), (10, .int (nI (yAb (yGo Z (4 * b + s)) tt))), (9, .int (nI (yPl Z tt))), (8, .int (nI (yPl Z b))), (7, .ref (ba b)), (0, .ref x), (1, .ref p), (2, .ref (ba tt)), (3, .int (nI lim)), (4, .ref q), (5, .int (nI b))] rfl dX1_goOn_173 rfl (by decide) rfl ?_
                            refine z_goto C 15 dX1_goOn_176 (by decide) ?_
                            refine z_pick [(0, .ref x), (1, .ref p), (2, .ref (ba tt)), (3, .int (nI lim)), (4, .ref q), (5, .int (nI b)), (6, .int (nI (s + 1)))] [6, 7, 8, 9, 10, 11, 0] rfl ?_
                            exact ih_li V122 f2 A2 (r110 :: N1) (va_up pm1 r110 (P ++ [(4 * b + s)])) _ dq2 (pcap cap1) (k1 + 0 + 0 + 0 + 0 + 3 + 0 + 0 + 3 + 1) (k2 + 0 + 0 + 0 + 0 + 22 + 0 + 0 + 20 + (pcap cap1)) (s + 1) hU6 hQ6 (hP6.trans (List.Perm.cons _ hli_2)) (by rw [← Nat.add_assoc, hct, List.map_append, List.reverse_append, List.map_cons, zvs, ← hli_3]; exact congrArg (List.cons _) (List.map_congr_left (fun a ha => zvn (hneA a (hli_2.mem_iff.mpr (List.mem_append_left _ ha)))))) (fun a ha => by rw [zvn (hneA a (hli_2.mem_iff.mpr (List.mem_append_right _ ha)))]; exact hli_4 a ha) (fun a ha => ⟨(hAll a (hP6.mem_iff.mp ha)).1.mv hu6 hS5, (hAll a (hP6.mem_iff.mp ha)).2⟩) hH6 hdn ⟨by omega, by omega, by omega, by have := hli_8.2.2.2; omega⟩ (gu3.symm.trans hli_9) (by rw [← Nat.add_assoc, hctl]; omega) (by rw [← Nat.add_assoc, hctl]; omega) (by omega) (by omega)
                      · skip
                        refine z_iconst C (v := (nI 1)) dX1_goOn_110 rfl ?_
                        refine z_goto C 115 dX1_goOn_111 (by decide) ?_
                        refine z_isub C dX1_goOn_115 ?_
                        rw [if_pos (show yPl Z b = yPl Z tt by have := c107; omega), if_pos (show s = yPl Z tt by have := c94; omega)] at hab
                        refine z_top (v := .int (nI (yAb (yGo Z (4 * b + s)) tt))) (congrArg Value.int (nI_subj (by omega))) ?_
                        refine z_istore C [(10, .int (nI (yAb (yGo Z (4 * b + s)) tt))), (9, .int (nI (yPl Z tt))), (8, .int (nI (yPl Z b))), (7, .ref (ba b)), (0, .ref x), (1, .ref p), (2, .ref (ba tt)), (3, .int (nI lim)), (4, .ref q), (5, .int (nI b)), (6, .int (nI s))] dX1_goOn_116 (by decide) rfl ?_
                        refine z_aload_n C 5 rfl dX1_goOn_118 rfl ?_
                        refine z_getN C k_P hplB.1 1 (by decide) rfl q849 dX1_goOn_119 ?_
                        refine z_alen C 0 rfl hplB.2.1 (n := P.length) rfl dX1_goOn_122 ?_
                        refine z_iconst C (v := (nI 1)) dX1_goOn_123 rfl ?_
                        refine z_iaddN C dX1_goOn_124 ?_
                        refine z_iload C 0 rfl dX1_goOn_125 ?_
                        refine z_iaddN C dX1_goOn_127 ?_
                        refine z_iload_n C 7 rfl dX1_goOn_128 rfl ?_
                        refine z_icmp_gtN C 173 (by omega) (by omega) dX1_goOn_129 (by decide) (fun c129 => ?_) (fun c129 => ?_)
                        · skip
                          have hno : (yLeg st rch wt ins (pin' hld) tt) Z (4 * b + s) = false ∨ ¬ alP (yLeg st rch wt ins (pin' hld) tt) tt Y (P ++ [(4 * b + s)]) ≤ lim := Or.inr (by rw [halN]; omega)
                          refine z_iincN C 10 1 [(6, .int (nI (s + 1))), (10, .int (nI (yAb (yGo Z (4 * b + s)) tt))), (9, .int (nI (yPl Z tt))), (8, .int (nI (yPl Z b))), (7, .ref (ba b)), (0, .ref x), (1, .ref p), (2, .ref (ba tt)), (3, .int (nI lim)), (4, .ref q), (5, .int (nI b))] rfl dX1_goOn_173 rfl (by decide) rfl ?_
                          refine z_goto C 15 dX1_goOn_176 (by decide) ?_
                          refine z_pick [(0, .ref x), (1, .ref p), (2, .ref (ba tt)), (3, .int (nI lim)), (4, .ref q), (5, .int (nI b)), (6, .int (nI (s + 1)))] [5, 6, 7, 8, 9, 10, 0] rfl ?_
                          have hcf : (chl (yLeg st rch wt ins (pin' hld) tt) tt Y lim P ((4 * b + s) + 1)) = (chl (yLeg st rch wt ins (pin' hld) tt) tt Y lim P (4 * b + s)) := chl_f (by rw [zr_some hZ]; exact hno)
                          exact ih_li VB f1 A1 N1 pm1 mq1 dq1 cap1 k1 k2 (s + 1) hli_0 hli_1 hli_2 (by rw [← Nat.add_assoc, hcf]; exact hli_3) hli_4 hli_5 hli_6 hli_7 hli_8 hli_9 (by rw [← Nat.add_assoc, hcf]; exact hli_10) (by rw [← Nat.add_assoc, hcf]; exact hli_11) (by omega) (by omega)
                        · skip
                          have hal9 : alP (yLeg st rch wt ins (pin' hld) tt) tt Y (P ++ [(4 * b + s)]) ≤ lim := by rw [halN]; omega
                          have hct : (chl (yLeg st rch wt ins (pin' hld) tt) tt Y lim P ((4 * b + s) + 1)) = (chl (yLeg st rch wt ins (pin' hld) tt) tt Y lim P (4 * b + s)) ++ [(4 * b + s)] := chl_t (by rw [zr_some hZ]; exact hyes) hal9
                          have hctl : (chl (yLeg st rch wt ins (pin' hld) tt) tt Y lim P ((4 * b + s) + 1)).length = (chl (yLeg st rch wt ins (pin' hld) tt) tt Y lim P (4 * b + s)).length + 1 := by rw [hct]; simp
                          have hcn9 : (chl (yLeg st rch wt ins (pin' hld) tt) tt Y lim P ((4 * b + s) + 1)).length ≤ (chl (yLeg st rch wt ins (pin' hld) tt) tt Y lim P (4 * bx)).length := chl_le (by omega)
                          refine z_aload_n C 5 rfl dX1_goOn_132 rfl ?_
                          refine z_getN C k_P hplB.1 0 (by decide) rfl q846 dX1_goOn_133 ?_
                          refine z_callV C k_Y hydB.1 (As := []) (mX2_copy hydB (fun i hi z hz => by obtain ⟨b9, hb9, rfl⟩ := hfbx i z hi hz; exact ⟨_, (hB.mv unB no_k).2.2.1 b9 hb9⟩)) (lw_V q1067 q1068 q1069 q59 q1070) rfl hd_X2_copy rfl (Nat.le_of_ble_eq_true rfl) (by decide) (by decide) (by omega) (by omega) rfl dX1_goOn_136 (fun _ _ h => h.elim) (fun r124 V125 hP126 => ?_)
                          obtain ⟨yb2, yh2, fb2, hyc, hfe, hcu, hny2, hnb, hnh⟩ := hP126
                          refine z_st (st' := [.ref r124]) rfl ?_
                          have hrc2 := yRel.cg hrel hgZ.1.1 hfe
                          have un127 := zUnc.tr unB hcu (fun _ h => h.elim)
                          have hyP128 : hYd D V125 y1 yb1 yh1 fbp fhp := ⟨hcu.get (fun h => h) hydB.1, hcu.get (fun h => h) hydB.2.1, hcu.get (fun h => h) hydB.2.2⟩
                          have hpP129 : hPl D V125 p y1 rb1 rs1 (alP (yLeg st rch wt ins (pin' hld) tt) tt Y P) P gb1 gs1 := ⟨hcu.get (fun h => h) hplB.1, hcu.get (fun h => h) hplB.2.1, hcu.get (fun h => h) hplB.2.2.1, hplB.2.2.2⟩
                          have hqP130 := hcu.get (fun h => h) hli_1.1
                          refine z_astore C [(11, .ref r124), (10, .int (nI (yAb (yGo Z (4 * b + s)) tt))), (9, .int (nI (yPl Z tt))), (8, .int (nI (yPl Z b))), (7, .ref (ba b)), (0, .ref x), (1, .ref p), (2, .ref (ba tt)), (3, .int (nI lim)), (4, .ref q), (5, .int (nI b)), (6, .int (nI s))] dX1_goOn_139 (by decide) rfl ?_
                          refine z_aload C 0 rfl dX1_goOn_141 ?_
                          refine z_iload C 11 rfl dX1_goOn_143 ?_
                          refine z_aload C 0 rfl dX1_goOn_145 ?_
                          refine z_iload C 3 rfl dX1_goOn_147 ?_
                          refine z_callV C k_Y hyc.1 (As := [.int (nI (yPl Z b))]) (mX2_pop hyc (s := yPl Z b) (n := n0) hp4 (by omega) (by rw [hrc2.1 _ hp4, hn0]) (hrc2.2 _ _ _ hp4 (last_at w1 hn0))) (lw_V q784 q785 q786 q59 q787) rfl hd_X2_pop rfl (Nat.le_of_ble_eq_true rfl) (by decide) (by decide) (by omega) (by omega) rfl dX1_goOn_149 (fun _ _ h => h.elim) (fun r131 V132 hP133 => ?_)
                          obtain ⟨e8, e9⟩ := hP133
                          rw [e8]
                          refine z_st (st' := [.ref (ba b), .int (nI s), .ref r124]) rfl ?_
                          obtain ⟨hy3, hu3⟩ := hyc.u1 e9
                          have hr3 := hrc2.pop hgZ.1.1 hp4 hn0
                          have uB134 := zUnc.tr hcu hu3 (fun a h => Or.inr (by rcases h with h | h; rw [h]; exact hnb; rw [h]; exact hnh))
                          have un135 := zUnc.tr unB uB134 (fun _ h => h.elim)
                          have hyP136 : hYd D V132 y1 yb1 yh1 fbp fhp := ⟨uB134.get (fun h => h) hydB.1, uB134.get (fun h => h) hydB.2.1, uB134.get (fun h => h) hydB.2.2⟩
                          have hpP137 : hPl D V132 p y1 rb1 rs1 (alP (yLeg st rch wt ins (pin' hld) tt) tt Y P) P gb1 gs1 := ⟨uB134.get (fun h => h) hplB.1, uB134.get (fun h => h) hplB.2.1, uB134.get (fun h => h) hplB.2.2.1, hplB.2.2.2⟩
                          have hqP138 := uB134.get (fun h => h) hli_1.1
                          have hA1 : ((va_up Z (yPl Z b) (Z (yPl Z b)).dropLast) s).length = (Z s).length := by rw [zvn (Ne.symm w3)]
                          have hA2 : ∀ z, ((va_up Z (yPl Z b) (Z (yPl Z b)).dropLast) z).length ≤ 4 := fun z => by
                            by_cases e : z = yPl Z b
                            · rw [e, zvs, List.length_dropLast]; omega
                            · rw [zvn e]; exact hgZ.1.1 z
                          refine z_callV C k_Y hy3.1 (As := [.int (nI s), .ref (ba b)]) (mX2_push hy3 (s := s) (n := (Z s).length) (by omega) (by omega) (by rw [hr3.1 _ (show s < 4 by omega), hA1]) ((hB.mv un135 no_k).2.2.1 b hbb)) (lw_V q460 q461 q462 q59 q463) rfl hd_X2_push rfl (Nat.le_of_ble_eq_true rfl) (by decide) (by decide) (by omega) (by omega) rfl dX1_goOn_152 (fun _ _ h => h.elim) (fun r139 V140 hP141 => ?_)
                          refine z_st (st' := []) rfl ?_
                          obtain ⟨hy4, hu4⟩ := hy3.u2 hP141
                          have hr4y := hr3.push (b := b) hA2 (show s < 4 by omega) hA1 (by omega)
                          change yRel ba (yMv Z (yPl Z b) s b) _ _ at hr4y
                          rw [← hgo] at hr4y
                          have uB142 := zUnc.tr uB134 hu4 (fun a h => Or.inr (by rcases h with h | h; rw [h]; exact hnb; rw [h]; exact hnh))
                          have un143 := zUnc.tr unB uB142 (fun _ h => h.elim)
                          have hyP144 : hYd D V140 y1 yb1 yh1 fbp fhp := ⟨uB142.get (fun h => h) hydB.1, uB142.get (fun h => h) hydB.2.1, uB142.get (fun h => h) hydB.2.2⟩
                          have hpP145 : hPl D V140 p y1 rb1 rs1 (alP (yLeg st rch wt ins (pin' hld) tt) tt Y P) P gb1 gs1 := ⟨uB142.get (fun h => h) hplB.1, uB142.get (fun h => h) hplB.2.1, uB142.get (fun h => h) hplB.2.2.1, hplB.2.2.2⟩
                          have hqP146 := uB142.get (fun h => h) hli_1.1
                          refine z_aload C 9 rfl dX1_goOn_155 ?_
                          refine z_aload_n C 6 rfl dX1_goOn_157 rfl ?_
                          refine z_aload C 0 rfl dX1_goOn_158 ?_
                          refine z_iload C 10 rfl dX1_goOn_160 ?_
                          refine z_iload C 11 rfl dX1_goOn_162 ?_
                          refine z_iload C 1 rfl dX1_goOn_164 ?_
                          refine z_callV C k_P hpP145.1 (As := [.ref r124, .int (nI b), .int (nI s), .int (nI (yAb (yGo Z (4 * b + s)) tt))]) (mX6_with hpP145 (b := b) (s := s) (y2 := r124) (k := yAb (yGo Z (4 * b + s)) tt) (by omega) (by omega)) (lw_V q1082 q1083 q1084 q85 q1085) rfl hd_X6_with rfl (Nat.le_of_ble_eq_true rfl) (by decide) (by decide) (by omega) (by omega) rfl dX1_goOn_166 (fun _ _ h => h.elim) (fun r147 V148 hP149 => ?_)
                          obtain ⟨rb3, rs3, fb3, fs3, hpN, hnN, hnR, hnS, huN⟩ := hP149
                          refine z_st (st' := [.ref r147, .ref q]) rfl ?_
                          have uB150 := zUnc.tr uB142 huN (fun _ h => h.elim)
                          have hy5 : hYd D V148 r124 yb2 yh2 _ _ := ⟨huN.get (fun h => h) hy4.1, huN.get (fun h => h) hy4.2.1, huN.get (fun h => h) hy4.2.2⟩
                          have un151 := zUnc.tr unB uB150 (fun _ h => h.elim)
                          have hyP152 : hYd D V148 y1 yb1 yh1 fbp fhp := ⟨uB150.get (fun h => h) hydB.1, uB150.get (fun h => h) hydB.2.1, uB150.get (fun h => h) hydB.2.2⟩
                          have hpP153 : hPl D V148 p y1 rb1 rs1 (alP (yLeg st rch wt ins (pin' hld) tt) tt Y P) P gb1 gs1 := ⟨uB150.get (fun h => h) hplB.1, uB150.get (fun h => h) hplB.2.1, uB150.get (fun h => h) hplB.2.2.1, hplB.2.2.2⟩
                          have hqP154 := uB150.get (fun h => h) hli_1.1
                          have hnB := zUnc.none uB142 (fun h => h) hnN
                          have hfbN : ∀ i z : Nat, i < 16 → va_up (va_up fb2 (4 * yPl Z b + n0) none) (4 * s + (Z s).length) (some (ba b)) i = some z → ∃ b, b < bx ∧ z = ba b := fun i z hi hz => by
                            by_cases c1 : i = 4 * s + (Z s).length
                            · rw [c1, zvs] at hz; cases hz; exact ⟨b, hbb, rfl⟩
                            · rw [zvn c1] at hz
                              by_cases c2 : i = 4 * yPl Z b + n0
                              · rw [c2, zvs] at hz; cases hz
                              · rw [zvn c2, hfe i hi] at hz; exact hfbx i z hi hz
                          have hpc : pCl D Vb V148 ba bx (yLeg st rch wt ins (pin' hld) tt) tt Y r147 (P ++ [(4 * b + s)]) := ⟨_, _, _, _, _, _, _, _, _, by rw [halN]; exact hpN, hy5, by rw [zr_some hrn]; exact hr4y, hfbN, zUnc.none un143 (fun h => h) hnR, zUnc.none un143 (fun h => h) hnS⟩
                          have hpg : pGd (yLeg st rch wt ins (pin' hld) tt) tt Y (P ++ [(4 * b + s)]) := ⟨⟨_, hrn⟩, by omega, fun m hm => by rw [List.mem_append, List.mem_singleton] at hm; rcases hm with hm | hm; exact hPg.2.2 m hm; omega⟩
                          have hneA : ∀ a ∈ A1, a ≠ r147 := fun a ha => by obtain ⟨vs, hv⟩ := (hli_5 a ha).1.o; exact zne_new hv hnB
                          have hAll : ∀ a ∈ r147 :: A1, pCl D Vb V148 ba bx (yLeg st rch wt ins (pin' hld) tt) tt Y a (va_up pm1 r147 (P ++ [(4 * b + s)]) a) ∧ pGd (yLeg st rch wt ins (pin' hld) tt) tt Y (va_up pm1 r147 (P ++ [(4 * b + s)]) a) := fun a ha => by
                            rcases List.mem_cons.mp ha with e | e
                            · rw [e, zvs]; exact ⟨hpc, hpg⟩
                            · rw [zvn (hneA a e)]; exact ⟨(hli_5 a e).1.mv uB150 (fun _ _ _ h => h.elim), (hli_5 a e).2⟩
                          have hQ5 : hPQ D V148 q dq1 cap1 f1 A1 cmp mq1 := ⟨uB150.get (fun h => h) hli_1.1, uB150.get (fun h => h) hli_1.2.1, uB150.get (fun h => h) hli_1.2.2.1, hli_1.2.2.2⟩
                          have hH5 : hpA (fun a => keP (yLeg st rch wt ins (pin' hld) tt) tt Y (va_up pm1 r147 (P ++ [(4 * b + s)]) a)) A1 := hli_6.cg (fun a ha => by show keP (yLeg st rch wt ins (pin' hld) tt) tt Y (va_up pm1 r147 (P ++ [(4 * b + s)]) a) = _; rw [zvn (hneA a ha)])
                          have hS5 := pq_k hQ5 hli_8.2.2.1
                          have hcm5 := fun l => pq_cmp (l := l) hAll hQ5.2.2.1 hS5 (by rintro (h | h); exact zne_cc hQ5.2.2.1 hQ5.1 (by decide) h; exact zne_oa hQ5.2.2.1 hQ5.2.1 h)
                          rcases Nat.lt_or_ge A1.length cap1 with hcl | hcl
                          · skip
                            have hlN : A1.length < NF := by have h8 := hli_2.length_eq; have h9 := congrArg List.length hli_3; rw [List.length_map, List.length_reverse, List.length_map] at h9; rw [List.length_append] at h8; omega
                            refine z_callV C k_PQ hqP154 (As := [.ref r147]) (mJ21_add_0 (K := (fun a => keP (yLeg st rch wt ins (pin' hld) tt) tt Y (va_up pm1 r147 (P ++ [(4 * b + s)]) a))) hQ5 hcl (by omega) (fun a ha => (hli_5 a ha).1.mv uB150 (fun _ _ _ h => h.elim) |>.o) hpN.1 (hcm5 l) hH5) (lw_V q864 q865 q866 q83 q867) rfl hd_J21_add rfl (Nat.le_of_ble_eq_true rfl) (by decide) (by decide) (by omega) (by omega) rfl dX1_goOn_169 (fun _ _ h => h.elim) (fun r155 V156 hP157 => ?_)
                            obtain ⟨-, dq2, f2, A2, hQ6, hP6, hH6, hd6, hu6⟩ := hP157
                            refine z_st (st' := [.int (zb r155)]) rfl ?_
                            have hU6 : zUnc V V156 (fun z => z = q ∨ z = dq) := zUnc.tr (zUnc.tr hli_0 uB150 (fun _ h => h.elim)) hu6 (fun a h => by rcases h with h | h; exact Or.inl (Or.inl h); rcases hli_7 with e | e; exact Or.inl (Or.inr (h.trans e)); exact Or.inr (by rw [h]; exact e))
                            refine z_pop C dX1_goOn_172 rfl ?_
                            refine z_iincN C 11 1 [(6, .int (nI (s + 1))), (11, .ref r124), (10, .int (nI (yAb (yGo Z (4 * b + s)) tt))), (9, .int (nI (yPl Z tt))), (8, .int (nI (yPl Z b))), (7, .ref (ba b)), (0, .ref x), (1, .ref p), (2, .ref (ba tt)), (3, .int (nI lim)), (4, .ref q), (5, .int (nI b))] rfl dX1_goOn_173 rfl (by decide) rfl ?_
                            refine z_goto C 15 dX1_goOn_176 (by decide) ?_
                            refine z_pick [(0, .ref x), (1, .ref p), (2, .ref (ba tt)), (3, .int (nI lim)), (4, .ref q), (5, .int (nI b)), (6, .int (nI (s + 1)))] [6, 7, 8, 9, 10, 11, 0] rfl ?_
                            exact ih_li V156 f2 A2 (r147 :: N1) (va_up pm1 r147 (P ++ [(4 * b + s)])) _ dq2 cap1 (k1 + 0 + 0 + 0 + 0 + 3 + 0 + 0 + 3 + 0) (k2 + 0 + 0 + 0 + 0 + 22 + 0 + 0 + 20 + 0) (s + 1) hU6 hQ6 (hP6.trans (List.Perm.cons _ hli_2)) (by rw [← Nat.add_assoc, hct, List.map_append, List.reverse_append, List.map_cons, zvs, ← hli_3]; exact congrArg (List.cons _) (List.map_congr_left (fun a ha => zvn (hneA a (hli_2.mem_iff.mpr (List.mem_append_left _ ha)))))) (fun a ha => by rw [zvn (hneA a (hli_2.mem_iff.mpr (List.mem_append_right _ ha)))]; exact hli_4 a ha) (fun a ha => ⟨(hAll a (hP6.mem_iff.mp ha)).1.mv hu6 hS5, (hAll a (hP6.mem_iff.mp ha)).2⟩) hH6 (by rw [hd6]; exact hli_7) hli_8 hli_9 (by rw [← Nat.add_assoc, hctl]; omega) (by rw [← Nat.add_assoc, hctl]; omega) (by omega) (by omega)
                          · skip
                            have hcl2 : A1.length = cap1 := by have := hli_1.2.2.2.1; omega
                            have hlN : A1.length < NF := by have h8 := hli_2.length_eq; have h9 := congrArg List.length hli_3; rw [List.length_map, List.length_reverse, List.length_map] at h9; rw [List.length_append] at h8; omega
                            obtain ⟨gu1, gu2, gu3⟩ := g_up (f := F) (c := cap1) (n := NF) (by omega) (by omega) hli_8.2.2.2
                            have hpcg : cap1 < pcap cap1 ∧ pcap cap1 ≤ 5000 ∧ 24 ≤ pcap cap1 := by unfold pcap; split <;> omega
                            refine z_callV C k_PQ hqP154 (As := [.ref r147]) (mJ21_add_1 (K := (fun a => keP (yLeg st rch wt ins (pin' hld) tt) tt Y (va_up pm1 r147 (P ++ [(4 * b + s)]) a))) hQ5 hcl2 (by omega) (by omega) (fun a ha => (hli_5 a ha).1.mv uB150 (fun _ _ _ h => h.elim) |>.o) hpN.1 (hcm5 l) hH5) (lw_V q864 q865 q866 q83 q867) rfl hd_J21_add rfl (Nat.le_of_ble_eq_true rfl) (by decide) (by decide) (by omega) (by omega) rfl dX1_goOn_169 (fun _ _ h => h.elim) (fun r158 V159 hP160 => ?_)
                            obtain ⟨-, dq2, f2, A2, hQ6, hP6, hH6, hd6, hu6⟩ := hP160
                            refine z_st (st' := [.int (zb r158)]) rfl ?_
                            have hU6 : zUnc V V159 (fun z => z = q ∨ z = dq) := zUnc.tr (zUnc.tr hli_0 uB150 (fun _ h => h.elim)) hu6 (fun a h => by rcases h with h | h; exact Or.inl (Or.inl h); rcases hli_7 with e | e; exact Or.inl (Or.inr (h.trans e)); exact Or.inr (by rw [h]; exact e))
                            have hdn : dq2 = dq ∨ V dq2 = none := by
                              by_cases e : dq2 = dq
                              · exact Or.inl e
                              · refine Or.inr (zUnc.none (zUnc.tr hli_0 uB150 (fun _ h => h.elim)) (by rintro (h | h); exact zne_new hQ5.1 hd6 h.symm; exact e h) hd6)
                            refine z_pop C dX1_goOn_172 rfl ?_
                            refine z_iincN C 11 1 [(6, .int (nI (s + 1))), (11, .ref r124), (10, .int (nI (yAb (yGo Z (4 * b + s)) tt))), (9, .int (nI (yPl Z tt))), (8, .int (nI (yPl Z b))), (7, .ref (ba b)), (0, .ref x), (1, .ref p), (2, .ref (ba tt)), (3, .int (nI lim)), (4, .ref q), (5, .int (nI b))] rfl dX1_goOn_173 rfl (by decide) rfl ?_
                            refine z_goto C 15 dX1_goOn_176 (by decide) ?_
                            refine z_pick [(0, .ref x), (1, .ref p), (2, .ref (ba tt)), (3, .int (nI lim)), (4, .ref q), (5, .int (nI b)), (6, .int (nI (s + 1)))] [6, 7, 8, 9, 10, 11, 0] rfl ?_
                            exact ih_li V159 f2 A2 (r147 :: N1) (va_up pm1 r147 (P ++ [(4 * b + s)])) _ dq2 (pcap cap1) (k1 + 0 + 0 + 0 + 0 + 3 + 0 + 0 + 3 + 1) (k2 + 0 + 0 + 0 + 0 + 22 + 0 + 0 + 20 + (pcap cap1)) (s + 1) hU6 hQ6 (hP6.trans (List.Perm.cons _ hli_2)) (by rw [← Nat.add_assoc, hct, List.map_append, List.reverse_append, List.map_cons, zvs, ← hli_3]; exact congrArg (List.cons _) (List.map_congr_left (fun a ha => zvn (hneA a (hli_2.mem_iff.mpr (List.mem_append_left _ ha)))))) (fun a ha => by rw [zvn (hneA a (hli_2.mem_iff.mpr (List.mem_append_right _ ha)))]; exact hli_4 a ha) (fun a ha => ⟨(hAll a (hP6.mem_iff.mp ha)).1.mv hu6 hS5, (hAll a (hP6.mem_iff.mp ha)).2⟩) hH6 hdn ⟨by omega, by omega, by omega, by have := hli_8.2.2.2; omega⟩ (gu3.symm.trans hli_9) (by rw [← Nat.add_assoc, hctl]; omega) (by rw [← Nat.add_assoc, hctl]; omega) (by omega) (by omega)
              · skip
                have hno : (yLeg st rch wt ins (pin' hld) tt) Z (4 * b + s) = false ∨ ¬ alP (yLeg st rch wt ins (pin' hld) tt) tt Y (P ++ [(4 * b + s)]) ≤ lim := Or.inl (Bool.eq_false_iff.mpr (fun h => hin ⟨by omega, by have h9 := (yLeg_spec h).2.2.1; rw [hq4] at h9; exact h9⟩))
                refine z_aload_n C 0 rfl dX1_goOn_24 rfl ?_
                refine z_get C k_Q (unB.get (fun h => h) hX) 2 (by decide) rfl q187 dX1_goOn_25 ?_
                refine z_iload C 5 rfl dX1_goOn_28 ?_
                refine z_aaldN C 1 (by decide) ((hB.mv unB no_k).1) (by omega) (by omega) (by rw [(hB.mv unB no_k).2.1 b (by omega), if_neg hin]) dX1_goOn_30 ?_
                refine z_astoreQ C (r := none) [(7, .null), (0, .ref x), (1, .ref p), (2, .ref (ba tt)), (3, .int (nI lim)), (4, .ref q), (5, .int (nI b)), (6, .int (nI s))] dX1_goOn_31 (by decide) rfl ?_
                refine z_aloadQ C 0 (r := none) rfl dX1_goOn_33 ?_
                refine z_ifnull_n C 173 dX1_goOn_35 (by decide) ?_
                refine z_iincN C 7 1 [(6, .int (nI (s + 1))), (7, .null), (0, .ref x), (1, .ref p), (2, .ref (ba tt)), (3, .int (nI lim)), (4, .ref q), (5, .int (nI b))] rfl dX1_goOn_173 rfl (by decide) rfl ?_
                refine z_goto C 15 dX1_goOn_176 (by decide) ?_
                refine z_pick [(0, .ref x), (1, .ref p), (2, .ref (ba tt)), (3, .int (nI lim)), (4, .ref q), (5, .int (nI b)), (6, .int (nI (s + 1)))] [2, 3, 4, 5, 6, 7, 0] rfl ?_
                have hcf : (chl (yLeg st rch wt ins (pin' hld) tt) tt Y lim P ((4 * b + s) + 1)) = (chl (yLeg st rch wt ins (pin' hld) tt) tt Y lim P (4 * b + s)) := chl_f (by rw [zr_some hZ]; exact hno)
                exact ih_li VB f1 A1 N1 pm1 mq1 dq1 cap1 k1 k2 (s + 1) hli_0 hli_1 hli_2 (by rw [← Nat.add_assoc, hcf]; exact hli_3) hli_4 hli_5 hli_6 hli_7 hli_8 hli_9 (by rw [← Nat.add_assoc, hcf]; exact hli_10) (by rw [← Nat.add_assoc, hcf]; exact hli_11) (by omega) (by omega)
        exact li _ V1 f1 A1 N1 pm1 mq1 dq1 cap1 k1 k2 0 hlo_0 hlo_1 hlo_2 hlo_3 hlo_4 hlo_5 hlo_6 hlo_7 hlo_8 hlo_9 hlo_10 hlo_11 (Nat.zero_le _) (Nat.lt_succ_self _)
  exact lo _ V f A [] pm mq dq cap 0 0 0 zUnc.rf hQ0 (List.Perm.refl _) rfl (fun _ _ => rfl) hAp hH (Or.inl rfl) hcp rfl (Nat.le_of_eq (Nat.add_comm _ _)) (Nat.le_of_eq (Nat.add_comm _ _)) (Nat.zero_le _) (Nat.lt_succ_self _)
