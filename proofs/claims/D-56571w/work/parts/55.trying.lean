/-! COMPONENT: the length of a plan, by trying -/
set_option maxRecDepth 100000
theorem pl_some {S : QS} {t n : Nat} (h1 : dg (qL S t) t n (qY S)) (h2 : ∀ m, m < n → ¬ dg (qL S t) t m (qY S)) (h3 : n ≤ yAb (qY S) t + 1) : ∃ ms, qPlan S t = some ms ∧ ms.length = n := by
  have hp := qPlan_ok S t
  cases e : qPlan S t with
  | none =>
    rw [e] at hp
    obtain ⟨ms, k1, k2⟩ := h1
    exact absurd k2 (hp n h3 ms k1)
  | some ms =>
    rw [e] at hp
    obtain ⟨p1, ⟨p2, p3, p4⟩, p5⟩ := hp
    refine ⟨ms, rfl, ?_⟩
    rcases Nat.lt_trichotomy ms.length n with q | q | q
    · exact absurd ⟨ms, rfl, p3⟩ (h2 _ q)
    · exact q
    · obtain ⟨ms2, k1, k2⟩ := h1
      exact absurd k2 (p5 n q ms2 k1)
theorem pl_none {S : QS} {t : Nat} (h : ∀ m, m ≤ yAb (qY S) t + 1 → ¬ dg (qL S t) t m (qY S)) : qPlan S t = none := by
  have hp := qPlan_ok S t
  cases e : qPlan S t with
  | none => rfl
  | some ms =>
    rw [e] at hp
    obtain ⟨p1, ⟨p2, p3, p4⟩, p5⟩ := hp
    exact absurd ⟨ms, rfl, p3⟩ (h _ p1)
theorem oPlanLen_1 {S : QS} {b : Nat} (h : qIs S b = false) : oPlanLen S b = (1, 0, S) := by unfold oPlanLen; rw [if_pos h]
theorem oPlanLen_2 {S : QS} {b : Nat} (h : qIs S b = true) (h2 : qPlan S b = none) : oPlanLen S b = (2, 0, S) := by unfold oPlanLen; rw [if_neg (by rw [h]; decide), h2]
theorem oPlanLen_0 {S : QS} {b n : Nat} (h : qIs S b = true) (h2 : ∃ ms, qPlan S b = some ms ∧ ms.length = n) : oPlanLen S b = (0, nI n, S) := by
  obtain ⟨ms, e, rfl⟩ := h2
  unfold oPlanLen; rw [if_neg (by rw [h]; decide), e]
theorem yRel.cg {ba : Nat → Nat} {Y : YD} {fb fb2 : Nat → Option Nat} {fh : Nat → Int32} (h : yRel ba Y fb fh) (hl : ∀ s, (Y s).length ≤ 4) (e : ∀ i, i < 16 → fb2 i = fb i) : yRel ba Y fb2 fh := ⟨h.1, fun s k b hs hk => by
  have l2 := (List.getElem?_eq_some_iff.mp hk).1
  have l3 := hl s
  rw [e _ (by omega)]; exact h.2 s k b hs hk⟩
theorem fb_el {D : ZD} {V : ZV} {y yb yh rr bb : Nat} {fb fB : Nat → Option Nat} {fh fr : Nat → Int32} {ba : Nat → Nat} {bx st : Nat} {rch wt : Nat → Nat} {Y : YD} {ins : Nat → Bool} {hld : Nat → Int32} {unt : Nat → Nat} {hc : Nat → Int32} {uc : Nat → Nat} (h : cY D V y yb yh rr fb fh fr ba bx st rch Y) (hB : cB D V bb fB ba bx wt ins hld unt hc uc) : ∀ i, i < 16 → ∀ z, fb i = some z → ∃ vs, V z = some (.inr (3, vs)) := fun i hi z hz => by
  obtain ⟨b, hb, rfl⟩ := h.2.2.1 i z hi hz
  exact ⟨_, hB.2.2.1 b hb⟩

set_option maxHeartbeats 4000000 in
set_option maxRecDepth 100000 in
theorem mX1_planByTrying {l : Launch} {D : ZD} {V : ZV} {x kk : Nat} {st : Nat} {rch : Nat → Nat} {bx : Nat} {wt : Nat → Nat} {ins : Nat → Bool} {hld : Nat → Int32} {unt : Nat → Nat} {Y : YD} {ap : Nat} {ab hr ln : Nat → Nat} {sa : Nat → Int32} {mv : Int32} {nw : Nat} {lf : Int64} (hC : cR D V x (qS st rch bx wt ins hld unt Y ap ab hr ln sa mv nw lf)) (hI : qI kk (qS st rch bx wt ins hld unt Y ap ab hr ln sa mv nw lf)) {v1 : Int32} : ZM l D yX1_planByTrying (ws_ yX1_planByTrying cX1_planByTrying 5 (some .int)) 12 8 56 eI V [.ref x, .int v1] (fun r V' => (oPlanLen (qS st rch bx wt ins hld unt Y ap ab hr ln sa mv nw lf) (vN v1)).1 = 0 ∧ r = (oPlanLen (qS st rch bx wt ins hld unt Y ap ab hr ln sa mv nw lf) (vN v1)).2.1 ∧ cR D V' x (oPlanLen (qS st rch bx wt ins hld unt Y ap ab hr ln sa mv nw lf) (vN v1)).2.2) (fun E V' => ∃ k, (["java/lang/IndexOutOfBoundsException", "java/util/NoSuchElementException"] : List String)[k]? = some E ∧ (oPlanLen (qS st rch bx wt ins hld unt Y ap ab hr ln sa mv nw lf) (vN v1)).1 = k + 1 ∧ cR D V' x (qS st rch bx wt ins hld unt Y ap ab hr ln sa mv nw lf)) := by
  refine z_enter (by decide +kernel) [(0, .ref x), (1, .int v1)] rfl (Nat.le_of_ble_eq_true rfl) (zcat_cons rfl (zcat_cons rfl zcat_nil)) (fun Γ C hQ => ?_)
  have hC0 := hC
  obtain ⟨y, yb, yh, rr, bb, al, t, d, cap, fb, fh, fr, fB, ba, hc, uc, fa, ma, aa, sl, Lb, Ct, mb, kc, hX, hY, hB, hA, hT⟩ := hC
  have hX : V x = some (.inr (0, [.ref y, .ref rr, .ref bb, .ref al, .ref t, .int (nI st), .int (nI bx), .int (nI (fC ins bx)), .int mv, .int (nI nw), .long lf])) := hX
  have hY : cY D V y yb yh rr fb fh fr ba bx st rch Y := hY
  have hB : cB D V bb fB ba bx wt ins hld unt hc uc := hB
  have hA : cA D V al d cap fa ma ba ap ab hr ln sa aa sl := hA
  have hT : cT V t Lb Ct mb kc ap hr ln sa aa sl := hT
  have hst : st ≤ 4 := hI.1.1
  have hbx : bx ≤ 20 := hI.1.2.1
  have hrc : ∀ s, s < st → rch s ≤ 4 := fun s hs => (hI.1.2.2.1 s hs).2
  have hwt : ∀ b, b < bx → wt b < 1000 := fun b hb => by have h9 : wt b ≤ 30 := (hI.1.2.2.2 b hb).2; omega
  have hg : yGood st bx ins Y := hI.2.1.1
  have hht : ∀ s, s < st → (Y s).length ≤ rch s := hI.2.1.2.1
  have hf8 : fC ins bx ≤ 8 := hI.2.1.2.2
  have hu1 : ∀ b, unt b ≤ 1000 := hI.2.2.1.2.1
  have hhl : ∀ b, b < bx → hld b = nI 45 ∨ hld b = nI 112 ∨ hld b = nI 108 := hI.2.2.1.2.2
  have hap : ap ≤ 30 := hI.2.2.2.1.1
  have haa : ∀ a, a < ap → ab a < bx ∧ hr a ≤ 999 ∧ ln a < 3 ∧ (sa a = nI 98 ∨ sa a = nI 99 ∨ sa a = nI 103 ∨ sa a = nI 100 ∨ sa a = nI 109) := hI.2.2.2.1.2.1
  have hnw : nw ≤ 999 := hI.2.2.2.2
  have hY4 : ∀ s, (Y s).length ≤ 4 := hg.1.1
  have hmm : ∀ s, ∀ c ∈ Y s, c < bx := fun s c hc => (hg.2.2 s c hc).1
  refine z_aload_n C 0 rfl dX1_planByTrying_0 rfl ?_
  refine z_iload_n C 1 rfl dX1_planByTrying_1 rfl ?_
  refine z_callV C k_Q hX (As := [.int v1]) (mX1_boxWith hX hY hB hA hT hI) (lw_V q471 q473 qs3 q58 q474) rfl hd_X1_boxWith rfl (Nat.le_of_ble_eq_true rfl) (by omega) (by decide) (by omega) (by omega) rfl dX1_planByTrying_2 (fun E V9 hE9 => ?_) (fun r1 V2 hP3 => ?_)
  · skip
    obtain ⟨rfl, rfl, hf4⟩ := hE9
    exact z_out C hQ (fun _ h => nomatch h) ⟨0, rfl, by rw [oPlanLen_1 hf4], hC0⟩ (by omega) (by omega)
  · skip
    obtain ⟨e9, hq9, e8⟩ := hP3
    rw [e9, e8]
    refine z_st (st' := [.ref (ba (vN v1))]) rfl ?_
    obtain ⟨hbb, hbi⟩ := qIs_t (S := (qS st rch bx wt ins hld unt Y ap ab hr ln sa mv nw lf)) hq9
    have hbb : vN v1 < bx := hbb
    have hbi : ins (vN v1) = true := hbi
    obtain ⟨p0, hb0⟩ := hg.2.1 _ hbb hbi
    have hb : vN v1 ∈ Y (yPl Y (vN v1)) := by rw [yPl_eq hg.1 hst hb0]; exact hb0
    have hpst := hg.1.lt hb
    have hyi := yIn_of hg hst hB.2.2.1 hbx hbb hbi
    obtain ⟨hk, hkl, hab⟩ := yAb_at hg.1 hst hb
    have hl4 := hY4 (yPl Y (vN v1))
    have hnd := hg.1.2.2.2.1 (yPl Y (vN v1))
    refine z_astore_n C [(2, .ref (ba (vN v1))), (0, .ref x), (1, .int v1)] dX1_planByTrying_5 rfl (by decide) rfl ?_
    refine z_aload_n C 1 rfl dX1_planByTrying_6 rfl ?_
    refine z_get C k_Q hX 0 (by decide) rfl q185 dX1_planByTrying_7 ?_
    refine z_aload_n C 0 rfl dX1_planByTrying_10 rfl ?_
    refine z_callV C k_Y hY.1.1 (As := [.ref (ba (vN v1))]) (mX2_above hY.1 hY.2.1 hyi hk hnd) (lw_V q505 q506 q507 q59 q508) rfl hd_X2_above rfl (Nat.le_of_ble_eq_true rfl) (by omega) (by decide) (by omega) (by omega) rfl dX1_planByTrying_11 (fun _ _ h => h.elim) (fun r5 V6 hP7 => ?_)
    rw [hP7.1, hP7.2]
    refine z_st (st' := [.int (nI ((Y (yPl Y (vN v1))).length - 1 - (Y (yPl Y (vN v1))).idxOf (vN v1)))]) rfl ?_
    refine z_top (v := .int (nI (yAb Y (vN v1)))) (congrArg (fun n => Value.int (nI n)) (by omega)) ?_
    refine z_istore_n C [(3, .int (nI (yAb Y (vN v1)))), (2, .ref (ba (vN v1))), (0, .ref x), (1, .int v1)] dX1_planByTrying_14 rfl (by decide) rfl ?_
    refine z_iload_n C 0 rfl dX1_planByTrying_15 rfl ?_
    refine z_istore C [(4, .int (nI (yAb Y (vN v1)))), (3, .int (nI (yAb Y (vN v1)))), (2, .ref (ba (vN v1))), (0, .ref x), (1, .int v1)] dX1_planByTrying_16 (by decide) rfl ?_
    refine z_iload C 0 rfl dX1_planByTrying_18 ?_
    refine z_iload_n C 1 rfl dX1_planByTrying_20 rfl ?_
    refine z_iconst C (v := (nI 1)) dX1_planByTrying_21 rfl ?_
    refine z_iaddN C dX1_planByTrying_22 ?_
    refine z_icmp_gtN C 52 (by omega) (by omega) dX1_planByTrying_23 (by decide) (fun c23 => ?_) (fun c23 => ?_)
    · skip
      exfalso; omega
    · skip
      refine z_aload_n C 3 rfl dX1_planByTrying_26 rfl ?_
      refine z_aload_n C 3 rfl dX1_planByTrying_27 rfl ?_
      refine z_get C k_Q hX 0 (by decide) rfl q185 dX1_planByTrying_28 ?_
      refine z_callV C k_Y hY.1.1 (As := []) (mX2_copy hY.1 (fb_el hY hB)) (lw_V q1067 q1068 q1069 q59 q1070) rfl hd_X2_copy rfl (Nat.le_of_ble_eq_true rfl) (by omega) (by decide) (by omega) (by omega) rfl dX1_planByTrying_31 (fun _ _ h => h.elim) (fun r8 V9 hP10 => ?_)
      obtain ⟨yb0, yh0, fbc0, hyc0, hfe0, hcu0, -, hnb0, hnh0⟩ := hP10
      refine z_st (st' := [.ref r8, .ref x]) rfl ?_
      have hun11 : zUnc V V9 (fun _ => False) := zUnc.tr (zUnc.rf (S := fun _ => False)) hcu0 (fun _ h => h.elim)
      have hnb0v := zUnc.none (zUnc.rf (S := fun _ => False)) (fun h => h) hnb0
      have hnh0v := zUnc.none (zUnc.rf (S := fun _ => False)) (fun h => h) hnh0
      have hrc0 := yRel.cg hY.2.1 hY4 hfe0
      refine z_aload_n C 2 rfl dX1_planByTrying_34 rfl ?_
      refine z_iload C 0 rfl dX1_planByTrying_35 ?_
      refine z_callV C k_Q (hun11.get (fun h => h) hX) (As := [.ref r8, .ref (ba (vN v1)), .int (nI (yAb Y (vN v1)))]) (mX1_canDig hI ⟨zne_new hY.1.2.1 hnb0v, zne_new hY.1.2.2 hnh0v, zne_new hY.2.2.2.1 hnh0v⟩ hbb hbi (yAb Y (vN v1)) (by omega) _ _ _ _ (hun11.get (fun h => h) hX) (hY.mv hun11 no_k) (hB.mv hun11 no_k) (hA.mv hun11 no_k) (hT.mv hun11 no_k) hyc0 hrc0 hg hht) (lw_V q1099 q1101 qs21 q58 q1102) rfl hd_X1_canDig rfl (Nat.le_of_ble_eq_true rfl) (by omega) (by decide) (by omega) (by omega) rfl dX1_planByTrying_37 (fun _ _ h => h.elim) (fun r12 V13 hP14 => ?_)
      obtain ⟨hdg0, -, -, -, -, hcv0⟩ := hP14
      refine z_st (st' := [.int (zb r12)]) rfl ?_
      have hun15 : zUnc V V13 (fun _ => False) := zUnc.tr hun11 hcv0 (fun a h => Or.inr (by rcases h with h | h; rw [h]; exact hnb0v; rw [h]; exact hnh0v))
      refine z_if_eqB C 46 dX1_planByTrying_40 (by decide) (fun c40 => ?_) (fun c40 => ?_)
      · skip
        have hnd0 : ¬ dg (qL (qS st rch bx wt ins hld unt Y ap ab hr ln sa mv nw lf) (vN v1)) (vN v1) (yAb Y (vN v1)) (qY (qS st rch bx wt ins hld unt Y ap ab hr ln sa mv nw lf)) := fun h => by have h9 := hdg0.mpr h; rw [c40] at h9; cases h9
        refine z_iincN C 0 1 [(4, .int (nI ((yAb Y (vN v1)) + 1))), (3, .int (nI (yAb Y (vN v1)))), (2, .ref (ba (vN v1))), (0, .ref x), (1, .int v1)] rfl dX1_planByTrying_46 rfl (by decide) rfl ?_
        refine z_goto C 18 dX1_planByTrying_49 (by decide) ?_
        refine z_iload C 0 rfl dX1_planByTrying_18 ?_
        refine z_iload_n C 1 rfl dX1_planByTrying_20 rfl ?_
        refine z_iconst C (v := (nI 1)) dX1_planByTrying_21 rfl ?_
        refine z_iaddN C dX1_planByTrying_22 ?_
        refine z_icmp_gtN C 52 (by omega) (by omega) dX1_planByTrying_23 (by decide) (fun c23_16 => ?_) (fun c23_16 => ?_)
        · skip
          exfalso; omega
        · skip
          refine z_aload_n C 3 rfl dX1_planByTrying_26 rfl ?_
          refine z_aload_n C 3 rfl dX1_planByTrying_27 rfl ?_
          refine z_get C k_Q (hun15.get (fun h => h) hX) 0 (by decide) rfl q185 dX1_planByTrying_28 ?_
          refine z_callV C k_Y ((hY.mv hun15 no_k).1.1) (As := []) (mX2_copy (hY.mv hun15 no_k).1 (fb_el (hY.mv hun15 no_k) (hB.mv hun15 no_k))) (lw_V q1067 q1068 q1069 q59 q1070) rfl hd_X2_copy rfl (Nat.le_of_ble_eq_true rfl) (by omega) (by decide) (by omega) (by omega) rfl dX1_planByTrying_31 (fun _ _ h => h.elim) (fun r17 V18 hP19 => ?_)
          obtain ⟨yb1, yh1, fbc1, hyc1, hfe1, hcu1, -, hnb1, hnh1⟩ := hP19
          refine z_st (st' := [.ref r17, .ref x]) rfl ?_
          have hun20 : zUnc V V18 (fun _ => False) := zUnc.tr hun15 hcu1 (fun _ h => h.elim)
          have hnb1v := zUnc.none hun15 (fun h => h) hnb1
          have hnh1v := zUnc.none hun15 (fun h => h) hnh1
          have hrc1 := yRel.cg hY.2.1 hY4 hfe1
          refine z_aload_n C 2 rfl dX1_planByTrying_34 rfl ?_
          refine z_iload C 0 rfl dX1_planByTrying_35 ?_
          refine z_callV C k_Q (hun20.get (fun h => h) hX) (As := [.ref r17, .ref (ba (vN v1)), .int (nI ((yAb Y (vN v1)) + 1))]) (mX1_canDig hI ⟨zne_new hY.1.2.1 hnb1v, zne_new hY.1.2.2 hnh1v, zne_new hY.2.2.2.1 hnh1v⟩ hbb hbi ((yAb Y (vN v1)) + 1) (by omega) _ _ _ _ (hun20.get (fun h => h) hX) (hY.mv hun20 no_k) (hB.mv hun20 no_k) (hA.mv hun20 no_k) (hT.mv hun20 no_k) hyc1 hrc1 hg hht) (lw_V q1099 q1101 qs21 q58 q1102) rfl hd_X1_canDig rfl (Nat.le_of_ble_eq_true rfl) (by omega) (by decide) (by omega) (by omega) rfl dX1_planByTrying_37 (fun _ _ h => h.elim) (fun r21 V22 hP23 => ?_)
          obtain ⟨hdg1, -, -, -, -, hcv1⟩ := hP23
          refine z_st (st' := [.int (zb r21)]) rfl ?_
          have hun24 : zUnc V V22 (fun _ => False) := zUnc.tr hun20 hcv1 (fun a h => Or.inr (by rcases h with h | h; rw [h]; exact hnb1v; rw [h]; exact hnh1v))
          refine z_if_eqB C 46 dX1_planByTrying_40 (by decide) (fun c40_25 => ?_) (fun c40_25 => ?_)
          · skip
            have hnd1 : ¬ dg (qL (qS st rch bx wt ins hld unt Y ap ab hr ln sa mv nw lf) (vN v1)) (vN v1) (yAb Y (vN v1) + 1) (qY (qS st rch bx wt ins hld unt Y ap ab hr ln sa mv nw lf)) := fun h => by have h9 := hdg1.mpr h; rw [c40_25] at h9; cases h9
            refine z_iincN C 0 1 [(4, .int (nI (((yAb Y (vN v1)) + 1) + 1))), (3, .int (nI (yAb Y (vN v1)))), (2, .ref (ba (vN v1))), (0, .ref x), (1, .int v1)] rfl dX1_planByTrying_46 rfl (by decide) rfl ?_
            refine z_goto C 18 dX1_planByTrying_49 (by decide) ?_
            refine z_iload C 0 rfl dX1_planByTrying_18 ?_
            refine z_iload_n C 1 rfl dX1_planByTrying_20 rfl ?_
            refine z_iconst C (v := (nI 1)) dX1_planByTrying_21 rfl ?_
            refine z_iaddN C dX1_planByTrying_22 ?_
            refine z_icmp_gtN C 52 (by omega) (by omega) dX1_planByTrying_23 (by decide) (fun c23_26 => ?_) (fun c23_26 => ?_)
            · skip
              have hnone : qPlan (qS st rch bx wt ins hld unt Y ap ab hr ln sa mv nw lf) (vN v1) = none := pl_none (fun m hm hd => by
                have h9 := dg_lb hst hrc hbb hbi m hg hd
                have h8 : m ≤ yAb Y (vN v1) + 1 := hm
                have h7 : m = yAb Y (vN v1) ∨ m = yAb Y (vN v1) + 1 := by omega
                rcases h7 with rfl | rfl
                · exact hnd0 hd
                · exact hnd1 hd)
              exact z_throw C hQ (by decide +kernel) zfit2 q528 q76 th_NSE tk_NSE tg_NSE dX1_planByTrying_52 dX1_planByTrying_55 dX1_planByTrying_56 dX1_planByTrying_59 (fun _ h => nomatch h) (by decide) (by decide) (by decide) (by decide) (by decide) (by decide) ⟨1, rfl, by rw [oPlanLen_2 hq9 hnone], (show cR D _ x (qS st rch bx wt ins hld unt Y ap ab hr ln sa mv nw lf) from ⟨_, _, _, _, _, _, _, _, _, _, _, _, _, _, _, _, _, _, _, _, _, _, _, _, (hun24.get (fun h => h) hX), (hY.mv hun24 no_k), (hB.mv hun24 no_k), (hA.mv hun24 no_k), (hT.mv hun24 no_k)⟩)⟩
            · skip
              exfalso; omega
          · skip
            have hpl : ∃ ms, qPlan (qS st rch bx wt ins hld unt Y ap ab hr ln sa mv nw lf) (vN v1) = some ms ∧ ms.length = yAb Y (vN v1) + 1 := pl_some (hdg1.mp c40_25) (fun m hm hd => by
              have h9 := dg_lb hst hrc hbb hbi m hg hd
              have h7 : m = yAb Y (vN v1) := by omega
              rw [h7] at hd; exact hnd0 hd) (Nat.le_refl _)
            refine z_iload C 0 rfl dX1_planByTrying_43 ?_
            exact z_iret C hQ (nI ((yAb Y (vN v1)) + 1)) rfl ⟨by rw [oPlanLen_0 hq9 hpl], by rw [oPlanLen_0 hq9 hpl], by rw [oPlanLen_0 hq9 hpl]; exact (show cR D _ x (qS st rch bx wt ins hld unt Y ap ab hr ln sa mv nw lf) from ⟨_, _, _, _, _, _, _, _, _, _, _, _, _, _, _, _, _, _, _, _, _, _, _, _, (hun24.get (fun h => h) hX), (hY.mv hun24 no_k), (hB.mv hun24 no_k), (hA.mv hun24 no_k), (hT.mv hun24 no_k)⟩)⟩ (by omega) (by omega) dX1_planByTrying_45
      · skip
        have hpl : ∃ ms, qPlan (qS st rch bx wt ins hld unt Y ap ab hr ln sa mv nw lf) (vN v1) = some ms ∧ ms.length = yAb Y (vN v1) := pl_some (hdg0.mp c40) (fun m hm hd => by
          have h9 := dg_lb hst hrc hbb hbi m hg hd
          omega) (Nat.le_succ _)
        refine z_iload C 0 rfl dX1_planByTrying_43 ?_
        exact z_iret C hQ (nI (yAb Y (vN v1))) rfl ⟨by rw [oPlanLen_0 hq9 hpl], by rw [oPlanLen_0 hq9 hpl], by rw [oPlanLen_0 hq9 hpl]; exact (show cR D _ x (qS st rch bx wt ins hld unt Y ap ab hr ln sa mv nw lf) from ⟨_, _, _, _, _, _, _, _, _, _, _, _, _, _, _, _, _, _, _, _, _, _, _, _, (hun15.get (fun h => h) hX), (hY.mv hun15 no_k), (hB.mv hun15 no_k), (hA.mv hun15 no_k), (hT.mv hun15 no_k)⟩)⟩ (by omega) (by omega) dX1_planByTrying_45
