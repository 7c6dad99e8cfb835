/-! MODEL: boxes, asked -/
set_option maxRecDepth 100000
theorem mE_box {F : Nat → Nat → Int32} {st bx : Nat} {rch wt : Nat → Nat} {ins : Nat → Bool} {hld : Nat → Int32} (h : mE F st bx rch wt ins hld) {F2 : Nat → Nat → Int32} (w : Nat)
    (h0 : F2 0 = F 0) (h1 : F2 1 = va_up (F 1) bx (nI w)) (h2 : F2 2 = va_up (F 2) bx (nI 1)) (h3 : F2 3 = va_up (F 3) bx (nI 45)) : mE F2 st (bx + 1) rch (va_up wt bx w) (va_up ins bx true) (va_up hld bx (nI 45)) := by
  refine ⟨by rw [h0]; exact h.1, fun b hb => ?_, fun b hb => ?_, fun b hb => ?_⟩
  · rw [h1]
    by_cases e : b = bx
    · subst e; rw [zvs, zvs]
    · rw [zvn e, zvn e]; exact h.2.1 b (by omega)
  · rw [h2]
    by_cases e : b = bx
    · subst e; rw [zvs, zvs]; rfl
    · rw [zvn e, zvn e]; exact h.2.2.1 b (by omega)
  · rw [h3]
    by_cases e : b = bx
    · subst e; rw [zvs, zvs]
    · rw [zvn e, zvn e]; exact h.2.2.2 b (by omega)
set_option maxHeartbeats 4000000 in
set_option maxRecDepth 100000 in
theorem mX3_addBox {l : Launch} {D : ZD} {V : ZV} {kk m : Nat} {A : Nat → Nat} {F : Nat → Nat → Int32} {cd : Int32} {st : Nat} {rch : Nat → Nat} {bx : Nat} {wt : Nat → Nat} {ins : Nat → Bool} {hld : Nat → Int32} {unt : Nat → Nat} {Y : YD} {ap : Nat} {ab hr ln : Nat → Nat} {sa : Nat → Int32} {mv : Int32} {nw : Nat} {lf : Int64} (hR : mR D V m A F cd (qS st rch bx wt ins hld unt Y ap ab hr ln sa mv nw lf)) (hI : qI kk (qS st rch bx wt ins hld unt Y ap ab hr ln sa mv nw lf)) {v1 v2 : Int32} : ZM l D yX3_addBox (ws_ yX3_addBox cX3_addBox 3 (some .int)) 4 0 0 eI V [.ref m, .int v1, .int v2] (fun r V' => ∃ F2, mR D V' m A F2 (nI (oAddBox (qS st rch bx wt ins hld unt Y ap ab hr ln sa mv nw lf) (vN v1) (vN v2)).1) (oAddBox (qS st rch bx wt ins hld unt Y ap ab hr ln sa mv nw lf) (vN v1) (vN v2)).2.2 ∧ ((oAddBox (qS st rch bx wt ins hld unt Y ap ab hr ln sa mv nw lf) (vN v1) (vN v2)).1 = 0 → r = (oAddBox (qS st rch bx wt ins hld unt Y ap ab hr ln sa mv nw lf) (vN v1) (vN v2)).2.1)) zno_x := by
  refine z_enter (by decide +kernel) [(0, .ref m), (1, .int v1), (2, .int v2)] rfl (Nat.le_of_ble_eq_true rfl) (zcat_cons rfl (zcat_cons rfl (zcat_cons rfl zcat_nil))) (fun Γ C hQ => ?_)
  have hM : MX D V m A F cd nw st bx mv ap lf := hR.1
  have hE : mE F st bx rch wt ins hld := hR.2.1
  have hU : ∀ b, b < 20 → F 4 b = nI (unt b) := hR.2.2.1
  have hy : mY F 0 Y := hR.2.2.2.1
  have hA : ∀ a, a < ap → F 8 a = nI (ab a) ∧ F 9 a = nI (hr a) ∧ F 10 a = nI (ln a) ∧ F 11 a = sa a := hR.2.2.2.2
  have hst : st ≤ 4 := hI.1.1
  have hbx : bx ≤ 20 := hI.1.2.1
  have hrc : ∀ s, s < st → rch s ≤ 4 := fun s hs => (hI.1.2.2.1 s hs).2
  have hwt : ∀ b, b < bx → wt b < 1000 := fun b hb => by have h9 : wt b ≤ 30 := (hI.1.2.2.2 b hb).2; omega
  have hg : yGood st bx ins Y := hI.2.1.1
  have hht : ∀ s, s < st → (Y s).length ≤ rch s := hI.2.1.2.1
  have hu1 : ∀ b, unt b ≤ 1000 := hI.2.2.1.2.1
  have hhl : ∀ b, b < bx → hld b = nI 45 ∨ hld b = nI 112 ∨ hld b = nI 108 := hI.2.2.1.2.2
  have hap : ap ≤ 30 := hI.2.2.2.1.1
  have haa : ∀ a, a < ap → ab a < bx ∧ hr a ≤ 999 ∧ ln a < 3 ∧ (sa a = nI 98 ∨ sa a = nI 99 ∨ sa a = nI 103 ∨ sa a = nI 100 ∨ sa a = nI 109) := hI.2.2.2.1.2.1
  have hnw : nw ≤ 999 := hI.2.2.2.2
  have hY4 : ∀ s, (Y s).length ≤ 4 := hg.1.1
  have hmm : ∀ s, ∀ c ∈ Y s, c < bx := fun s c hc => (hg.2.2 s c hc).1
  refine z_aload_n C 0 rfl dX3_addBox_0 rfl ?_
  refine z_iconst C (v := (nI 0)) dX3_addBox_1 rfl ?_
  refine z_put C k_M hM.1 0 (by decide) [.int (nI 0), .int (nI nw), .int (nI st), .ref (A 0), .int (nI bx), .ref (A 1), .ref (A 2), .ref (A 3), .ref (A 4), .ref (A 5), .ref (A 6), .ref (A 7), .int mv, .int (nI ap), .ref (A 8), .ref (A 9), .ref (A 10), .ref (A 11), .long lf] rfl (Nat.le_of_ble_eq_true rfl) rfl rfl rfl q1387 dX3_addBox_2 (z_nV (fun V1 hV2 => ?_))
  have hM3 := MX.ob (cd2 := (nI 0)) (nw2 := nw) (st2 := st) (bx2 := bx) (mv2 := mv) (ap2 := ap) (lf2 := lf) hM hV2
  refine z_aload_n C 0 rfl dX3_addBox_5 rfl ?_
  refine z_iload_n C 2 rfl dX3_addBox_6 rfl ?_
  refine z_callV C k_M hM3.1 (As := [.int v2]) (mX3_isStack (show mR D _ m A _ _ (qS st rch bx wt ins hld unt Y ap ab hr ln sa mv nw lf) from ⟨hM3, hE, hU, hy, hA⟩) hI) (lw_V q1466 q1468 qs32 q65 q1469) rfl hd_X3_isStack rfl (Nat.le_of_ble_eq_true rfl) (by decide) (by decide) (by decide) (by decide) rfl dX3_addBox_7 (fun _ _ h => h.elim) (fun r4 V5 hP6 => ?_)
  rw [hP6.1, hP6.2]
  refine z_st (st' := [.int (zb (decide (vN v2 < st)))]) rfl ?_
  refine z_if_neB C 19 dX3_addBox_10 (by decide) (fun c10 => ?_) (fun c10 => ?_)
  · skip
    have hs : vN v2 < st := by have := c10; simpa using this
    have hv7 := vN_of (v := v2) hs (by omega)
    have e8 : (.int v2 : Value) = .int (nI (vN v2)) := (congrArg Value.int hv7)
    refine z_lv (lv' := [(0, .ref m), (1, .int v1), (2, .int (nI (vN v2)))]) (by rw [e8]) ?_
    refine z_iload_n C 1 rfl dX3_addBox_19 rfl ?_
    refine z_iconst C (v := (nI 1)) dX3_addBox_20 rfl ?_
    refine z_bipush C (v := (nI 30)) dX3_addBox_21 rfl ?_
    refine z_callS C (As := [.int v1, .int (nI 1), .int (nI 30)]) (mX3_in) (lw_S q1455 q1456 q65 q1457) hd_X3_in rfl (Nat.le_of_ble_eq_true rfl) (by decide) (by decide) (by decide) (by decide) rfl dX3_addBox_23 (fun _ _ h => h.elim) (fun r9 V10 hP11 => ?_)
    have hq12 : r9 = decide (1 ≤ vN v1 ∧ vN v1 ≤ 30) := hP11.2.trans (in_le (by omega) (by omega))
    rw [hP11.1, hq12]
    refine z_st (st' := [.int (zb (decide (1 ≤ vN v1 ∧ vN v1 ≤ 30)))]) rfl ?_
    refine z_if_neB C 35 dX3_addBox_26 (by decide) (fun c26 => ?_) (fun c26 => ?_)
    · skip
      have hw : 1 ≤ vN v1 ∧ vN v1 ≤ 30 := by have := c26; simpa using this
      have hv13 := vN_of (v := v1) (show vN v1 < 31 by omega) (by omega)
      have e14 : (.int v1 : Value) = .int (nI (vN v1)) := (congrArg Value.int hv13)
      refine z_lv (lv' := [(0, .ref m), (1, .int (nI (vN v1))), (2, .int (nI (vN v2)))]) (by rw [e14]) ?_
      have hrs := hrc _ hs
      refine z_aload_n C 0 rfl dX3_addBox_35 rfl ?_
      refine z_iconst C (v := (nI 0)) dX3_addBox_36 rfl ?_
      refine z_iload_n C 2 rfl dX3_addBox_37 rfl ?_
      refine z_iload_n C 1 rfl dX3_addBox_38 rfl ?_
      refine z_callV C k_M hM3.1 (As := [.int (nI 0), .int (nI (vN v2)), .int (nI (vN v1))]) (mX3_takes hM3 hst hbx hy (by omega) hg.1 hE hrc hwt (s := vN v2) (w := vN v1) (by omega) (hmm _) (by omega)) (lw_V q1470 q1472 qs33 q65 q1473) rfl hd_X3_takes rfl (Nat.le_of_ble_eq_true rfl) (by decide) (by decide) (by decide) (by decide) rfl dX3_addBox_39 (fun _ _ h => h.elim) (fun r15 V16 hP17 => ?_)
      rw [hP17.1, hP17.2]
      refine z_st (st' := [.int (zb (yTk wt Y (vN v2) (rch (vN v2)) (vN v1)))]) rfl ?_
      refine z_if_neB C 51 dX3_addBox_42 (by decide) (fun c42 => ?_) (fun c42 => ?_)
      · skip
        have ht : yTk wt Y (vN v2) (rch (vN v2)) (vN v1) = true := by simpa using c42
        have htl : (Y (vN v2)).length < rch (vN v2) := by unfold yTk at ht; simp only [Bool.and_eq_true, decide_eq_true_eq] at ht; exact ht.1
        have h8 := fC_le ins bx
        refine z_aload_n C 0 rfl dX3_addBox_51 rfl ?_
        refine z_callV C k_M hM3.1 (As := []) (mX3_insideNow (show mR D _ m A _ _ (qS st rch bx wt ins hld unt Y ap ab hr ln sa mv nw lf) from ⟨hM3, hE, hU, hy, hA⟩) hI) (lw_V q1478 q1480 qs35 q65 q1481) rfl hd_X3_insideNow rfl (Nat.le_of_ble_eq_true rfl) (by decide) (by decide) (by decide) (by decide) rfl dX3_addBox_52 (fun _ _ h => h.elim) (fun r18 V19 hP20 => ?_)
        rw [hP20.1, hP20.2]
        refine z_st (st' := [.int (nI (fC ins bx))]) rfl ?_
        refine z_bipush C (v := (nI 8)) dX3_addBox_55 rfl ?_
        refine z_icmp_eqN C 69 (by omega) (by omega) dX3_addBox_57 (by decide) (fun c57 => ?_) (fun c57 => ?_)
        · skip
          have e1 : oAddBox (qS st rch bx wt ins hld unt Y ap ab hr ln sa mv nw lf) (vN v1) (vN v2) = (4, 0, (qS st rch bx wt ins hld unt Y ap ab hr ln sa mv nw lf)) := (if_neg (not_not_intro hs)).trans ((if_neg (not_not_intro hw)).trans ((if_neg (by rw [show yTk (qwt (qS st rch bx wt ins hld unt Y ap ab hr ln sa mv nw lf)) (qY (qS st rch bx wt ins hld unt Y ap ab hr ln sa mv nw lf)) (vN v2) (qrch (qS st rch bx wt ins hld unt Y ap ab hr ln sa mv nw lf) (vN v2)) (vN v1) = true from ht]; decide)).trans  (if_pos (Or.inl c57))))
          refine z_aload_n C 0 rfl dX3_addBox_69 rfl ?_
          refine z_iconst C (v := (nI 4)) dX3_addBox_70 rfl ?_
          refine z_callV C k_M hM3.1 (As := [.int (nI 4)]) (mX3_fails hM3 hst hbx) (lw_V q1458 q1460 qs31 q65 q1461) rfl hd_X3_fails rfl (Nat.le_of_ble_eq_true rfl) (by decide) (by decide) (by decide) (by decide) rfl dX3_addBox_71 (fun _ _ h => h.elim) (fun r21 V22 hP23 => ?_)
          obtain ⟨hM24, rfl⟩ := hP23
          refine z_st (st' := [.int 0]) rfl ?_
          exact z_iret C hQ 0 rfl ⟨F, by rw [e1]; exact (show mR D _ m A _ _ (qS st rch bx wt ins hld unt Y ap ab hr ln sa mv nw lf) from ⟨hM24, hE, hU, hy, hA⟩), fun _ => oRes e1⟩ (by decide) (by decide) dX3_addBox_74
        · skip
          refine z_aload_n C 0 rfl dX3_addBox_60 rfl ?_
          refine z_get C k_M hM3.1 4 (by decide) rfl q1391 dX3_addBox_61 ?_
          refine z_bipush C (v := (nI 20)) dX3_addBox_64 rfl ?_
          refine z_icmp_neN C 75 (by omega) (by omega) dX3_addBox_66 (by decide) (fun c66 => ?_) (fun c66 => ?_)
          · skip
            have hb20 : bx < 20 := by omega
            have e1 : oAddBox (qS st rch bx wt ins hld unt Y ap ab hr ln sa mv nw lf) (vN v1) (vN v2) = (0, nI bx, qS st rch (bx + 1) (va_up wt bx (vN v1)) (va_up ins bx true) (va_up hld bx (nI 45)) unt (va_up Y (vN v2) (Y (vN v2) ++ [bx])) ap ab hr ln sa mv nw lf) := (if_neg (not_not_intro hs)).trans ((if_neg (not_not_intro hw)).trans ((if_neg (by rw [show yTk (qwt (qS st rch bx wt ins hld unt Y ap ab hr ln sa mv nw lf)) (qY (qS st rch bx wt ins hld unt Y ap ab hr ln sa mv nw lf)) (vN v2) (qrch (qS st rch bx wt ins hld unt Y ap ab hr ln sa mv nw lf) (vN v2)) (vN v1) = true from ht]; decide)).trans  (if_neg (fun h => h.elim c57 c66))))
            refine z_aload_n C 0 rfl dX3_addBox_75 rfl ?_
            refine z_get C k_M hM3.1 5 (by decide) rfl q1392 dX3_addBox_76 ?_
            refine z_aload_n C 0 rfl dX3_addBox_79 rfl ?_
            refine z_get C k_M hM3.1 4 (by decide) rfl q1391 dX3_addBox_80 ?_
            refine z_iload_n C 1 rfl dX3_addBox_83 rfl ?_
            have ga25 : V1 (A 1) = some (.inl (D.arr 0, 20, .inl (F 1))) := hM3.2.1 1 (by decide)
            refine z_iast C ga25 (by omega) (by omega) dX3_addBox_84 (z_nV (fun V26 hV27 => ?_))
            have hM28 := MX.st hM3 1 (by decide) (f := va_up (F 1) bx (nI (vN v1))) hV27
            refine z_aload_n C 0 rfl dX3_addBox_85 rfl ?_
            refine z_get C k_M hM28.1 6 (by decide) rfl q1393 dX3_addBox_86 ?_
            refine z_aload_n C 0 rfl dX3_addBox_89 rfl ?_
            refine z_get C k_M hM28.1 4 (by decide) rfl q1391 dX3_addBox_90 ?_
            refine z_iconst C (v := (nI 1)) dX3_addBox_93 rfl ?_
            have ga29 : V26 (A 2) = some (.inl (D.arr 3, 20, .inl (F 2))) := hM28.2.1 2 (by decide)
            refine z_zast C ga29 (by omega) (by omega) (by decide) dX3_addBox_94 (z_nV (fun V30 hV31 => ?_))
            have hM32 := MX.st hM28 2 (by decide) (f := va_up (F 2) bx (nI 1)) hV31
            refine z_aload_n C 0 rfl dX3_addBox_95 rfl ?_
            refine z_get C k_M hM32.1 7 (by decide) rfl q1394 dX3_addBox_96 ?_
            refine z_aload_n C 0 rfl dX3_addBox_99 rfl ?_
            refine z_get C k_M hM32.1 4 (by decide) rfl q1391 dX3_addBox_100 ?_
            refine z_bipush C (v := (nI 45)) dX3_addBox_103 rfl ?_
            have ga33 : V30 (A 3) = some (.inl (D.arr 4, 20, .inl (F 3))) := hM32.2.1 3 (by decide)
            refine z_cast C ga33 (by omega) (by omega) (by decide) dX3_addBox_105 (z_nV (fun V34 hV35 => ?_))
            have hM36 := MX.st hM32 3 (by decide) (f := va_up (F 3) bx (nI 45)) hV35
            refine z_aload_n C 0 rfl dX3_addBox_106 rfl ?_
            refine z_iconst C (v := (nI 0)) dX3_addBox_107 rfl ?_
            refine z_iload_n C 2 rfl dX3_addBox_108 rfl ?_
            refine z_aload_n C 0 rfl dX3_addBox_109 rfl ?_
            refine z_get C k_M hM36.1 4 (by decide) rfl q1391 dX3_addBox_110 ?_
            refine z_callV C k_M hM36.1 (As := [.int (nI 0), .int (nI (vN v2)), .int (nI bx)]) (mX3_lays hM36 hst hbx (y := 0) (hy.cong (F2 := (va_up (va_up (va_up F 1 (va_up (F 1) bx (nI (vN v1)))) 2 (va_up (F 2) bx (nI 1))) 3 (va_up (F 3) bx (nI 45)))) rfl rfl) (by omega) (b := bx) hY4 (s := vN v2) (by omega) (by omega)) (lw_V q1482 q1484 qs36 q65 q1485) rfl hd_X3_lays rfl (Nat.le_of_ble_eq_true rfl) (by decide) (by decide) (by decide) (by decide) rfl dX3_addBox_113 (fun _ _ h => h.elim) (fun r37 V38 hP39 => ?_)
            obtain ⟨F40, hM41, hr42⟩ := hP39
            refine z_st (st' := []) rfl ?_
            refine z_aload_n C 0 rfl dX3_addBox_116 rfl ?_
            refine z_dup C dX3_addBox_117 rfl ?_
            refine z_get C k_M hM41.1 4 (by decide) rfl q1391 dX3_addBox_118 ?_
            refine z_iconst C (v := (nI 1)) dX3_addBox_121 rfl ?_
            refine z_iaddN C dX3_addBox_122 ?_
            refine z_put C k_M hM41.1 4 (by decide) [.int (nI 0), .int (nI nw), .int (nI st), .ref (A 0), .int (nI (bx + 1)), .ref (A 1), .ref (A 2), .ref (A 3), .ref (A 4), .ref (A 5), .ref (A 6), .ref (A 7), .int mv, .int (nI ap), .ref (A 8), .ref (A 9), .ref (A 10), .ref (A 11), .long lf] rfl (Nat.le_of_ble_eq_true rfl) rfl rfl rfl q1391 dX3_addBox_123 (z_nV (fun V43 hV44 => ?_))
            have hM45 := MX.ob (cd2 := (nI 0)) (nw2 := nw) (st2 := st) (bx2 := (bx + 1)) (mv2 := mv) (ap2 := ap) (lf2 := lf) hM41 hV44
            refine z_aload_n C 0 rfl dX3_addBox_126 rfl ?_
            refine z_get C k_M hM45.1 4 (by decide) rfl q1391 dX3_addBox_127 ?_
            refine z_iconst C (v := (nI 1)) dX3_addBox_130 rfl ?_
            refine z_isub C dX3_addBox_131 ?_
            exact z_iret C hQ ((nI (bx + 1)) - (nI 1)) rfl ⟨_, by rw [e1]; exact ⟨hM45, mE_box hE (vN v1) (hr42.2.1 0 (by decide) (by decide)) (hr42.2.1 1 (by decide) (by decide)) (hr42.2.1 2 (by decide) (by decide)) (hr42.2.1 3 (by decide) (by decide)), fun b hb => by rw [hr42.2.1 4 (by decide) (by decide)]; exact hU b hb, hr42.1, fun a ha => by rw [hr42.2.1 8 (by decide) (by decide), hr42.2.1 9 (by decide) (by decide), hr42.2.1 10 (by decide) (by decide), hr42.2.1 11 (by decide) (by decide)]; exact hA a ha⟩, fun _ => by rw [e1]; exact nI_m1n _⟩ (by decide) (by decide) dX3_addBox_132
          · skip
            have e1 : oAddBox (qS st rch bx wt ins hld unt Y ap ab hr ln sa mv nw lf) (vN v1) (vN v2) = (4, 0, (qS st rch bx wt ins hld unt Y ap ab hr ln sa mv nw lf)) := (if_neg (not_not_intro hs)).trans ((if_neg (not_not_intro hw)).trans ((if_neg (by rw [show yTk (qwt (qS st rch bx wt ins hld unt Y ap ab hr ln sa mv nw lf)) (qY (qS st rch bx wt ins hld unt Y ap ab hr ln sa mv nw lf)) (vN v2) (qrch (qS st rch bx wt ins hld unt Y ap ab hr ln sa mv nw lf) (vN v2)) (vN v1) = true from ht]; decide)).trans  (if_pos (Or.inr c66))))
            refine z_aload_n C 0 rfl dX3_addBox_69 rfl ?_
            refine z_iconst C (v := (nI 4)) dX3_addBox_70 rfl ?_
            refine z_callV C k_M hM3.1 (As := [.int (nI 4)]) (mX3_fails hM3 hst hbx) (lw_V q1458 q1460 qs31 q65 q1461) rfl hd_X3_fails rfl (Nat.le_of_ble_eq_true rfl) (by decide) (by decide) (by decide) (by decide) rfl dX3_addBox_71 (fun _ _ h => h.elim) (fun r46 V47 hP48 => ?_)
            obtain ⟨hM49, rfl⟩ := hP48
            refine z_st (st' := [.int 0]) rfl ?_
            exact z_iret C hQ 0 rfl ⟨F, by rw [e1]; exact (show mR D _ m A _ _ (qS st rch bx wt ins hld unt Y ap ab hr ln sa mv nw lf) from ⟨hM49, hE, hU, hy, hA⟩), fun _ => oRes e1⟩ (by decide) (by decide) dX3_addBox_74
      · skip
        have ht : yTk wt Y (vN v2) (rch (vN v2)) (vN v1) = false := by simpa using c42
        have e1 : oAddBox (qS st rch bx wt ins hld unt Y ap ab hr ln sa mv nw lf) (vN v1) (vN v2) = (3, 0, (qS st rch bx wt ins hld unt Y ap ab hr ln sa mv nw lf)) := (if_neg (not_not_intro hs)).trans ((if_neg (not_not_intro hw)).trans  (if_pos ht))
        refine z_aload_n C 0 rfl dX3_addBox_45 rfl ?_
        refine z_iconst C (v := (nI 3)) dX3_addBox_46 rfl ?_
        refine z_callV C k_M hM3.1 (As := [.int (nI 3)]) (mX3_fails hM3 hst hbx) (lw_V q1458 q1460 qs31 q65 q1461) rfl hd_X3_fails rfl (Nat.le_of_ble_eq_true rfl) (by decide) (by decide) (by decide) (by decide) rfl dX3_addBox_47 (fun _ _ h => h.elim) (fun r50 V51 hP52 => ?_)
        obtain ⟨hM53, rfl⟩ := hP52
        refine z_st (st' := [.int 0]) rfl ?_
        exact z_iret C hQ 0 rfl ⟨F, by rw [e1]; exact (show mR D _ m A _ _ (qS st rch bx wt ins hld unt Y ap ab hr ln sa mv nw lf) from ⟨hM53, hE, hU, hy, hA⟩), fun _ => oRes e1⟩ (by decide) (by decide) dX3_addBox_50
    · skip
      have e1 : oAddBox (qS st rch bx wt ins hld unt Y ap ab hr ln sa mv nw lf) (vN v1) (vN v2) = (2, 0, (qS st rch bx wt ins hld unt Y ap ab hr ln sa mv nw lf)) := (if_neg (not_not_intro hs)).trans (if_pos (by have := c26; simp at this; omega))
      refine z_aload_n C 0 rfl dX3_addBox_29 rfl ?_
      refine z_iconst C (v := (nI 2)) dX3_addBox_30 rfl ?_
      refine z_callV C k_M hM3.1 (As := [.int (nI 2)]) (mX3_fails hM3 hst hbx) (lw_V q1458 q1460 qs31 q65 q1461) rfl hd_X3_fails rfl (Nat.le_of_ble_eq_true rfl) (by decide) (by decide) (by decide) (by decide) rfl dX3_addBox_31 (fun _ _ h => h.elim) (fun r54 V55 hP56 => ?_)
      obtain ⟨hM57, rfl⟩ := hP56
      refine z_st (st' := [.int 0]) rfl ?_
      exact z_iret C hQ 0 rfl ⟨F, by rw [e1]; exact (show mR D _ m A _ _ (qS st rch bx wt ins hld unt Y ap ab hr ln sa mv nw lf) from ⟨hM57, hE, hU, hy, hA⟩), fun _ => oRes e1⟩ (by decide) (by decide) dX3_addBox_34
  · skip
    have e1 : oAddBox (qS st rch bx wt ins hld unt Y ap ab hr ln sa mv nw lf) (vN v1) (vN v2) = (1, 0, (qS st rch bx wt ins hld unt Y ap ab hr ln sa mv nw lf)) := if_pos (by have := c10; simp at this; exact Nat.not_lt.mpr this)
    refine z_aload_n C 0 rfl dX3_addBox_13 rfl ?_
    refine z_iconst C (v := (nI 1)) dX3_addBox_14 rfl ?_
    refine z_callV C k_M hM3.1 (As := [.int (nI 1)]) (mX3_fails hM3 hst hbx) (lw_V q1458 q1460 qs31 q65 q1461) rfl hd_X3_fails rfl (Nat.le_of_ble_eq_true rfl) (by decide) (by decide) (by decide) (by decide) rfl dX3_addBox_15 (fun _ _ h => h.elim) (fun r58 V59 hP60 => ?_)
    obtain ⟨hM61, rfl⟩ := hP60
    refine z_st (st' := [.int 0]) rfl ?_
    exact z_iret C hQ 0 rfl ⟨F, by rw [e1]; exact (show mR D _ m A _ _ (qS st rch bx wt ins hld unt Y ap ab hr ln sa mv nw lf) from ⟨hM61, hE, hU, hy, hA⟩), fun _ => oRes e1⟩ (by decide) (by decide) dX3_addBox_18
set_option maxHeartbeats 4000000 in
set_option maxRecDepth 100000 in
theorem mX3_boxes {l : Launch} {D : ZD} {V : ZV} {kk m : Nat} {A : Nat → Nat} {F : Nat → Nat → Int32} {cd : Int32} {st : Nat} {rch : Nat → Nat} {bx : Nat} {wt : Nat → Nat} {ins : Nat → Bool} {hld : Nat → Int32} {unt : Nat → Nat} {Y : YD} {ap : Nat} {ab hr ln : Nat → Nat} {sa : Nat → Int32} {mv : Int32} {nw : Nat} {lf : Int64} (hR : mR D V m A F cd (qS st rch bx wt ins hld unt Y ap ab hr ln sa mv nw lf)) (hI : qI kk (qS st rch bx wt ins hld unt Y ap ab hr ln sa mv nw lf))  : ZM l D yX3_boxes (ws_ yX3_boxes cX3_boxes 1 (some .int)) 2 0 0 eI V [.ref m] (fun r V' => ∃ F2, mR D V' m A F2 0 (qS st rch bx wt ins hld unt Y ap ab hr ln sa mv nw lf) ∧ r = nI (fC ins bx)) zno_x := by
  refine z_enter (by decide +kernel) [(0, .ref m)] rfl (Nat.le_of_ble_eq_true rfl) (zcat_cons rfl zcat_nil) (fun Γ C hQ => ?_)
  have hM : MX D V m A F cd nw st bx mv ap lf := hR.1
  have hE : mE F st bx rch wt ins hld := hR.2.1
  have hU : ∀ b, b < 20 → F 4 b = nI (unt b) := hR.2.2.1
  have hy : mY F 0 Y := hR.2.2.2.1
  have hA : ∀ a, a < ap → F 8 a = nI (ab a) ∧ F 9 a = nI (hr a) ∧ F 10 a = nI (ln a) ∧ F 11 a = sa a := hR.2.2.2.2
  have hst : st ≤ 4 := hI.1.1
  have hbx : bx ≤ 20 := hI.1.2.1
  have hrc : ∀ s, s < st → rch s ≤ 4 := fun s hs => (hI.1.2.2.1 s hs).2
  have hwt : ∀ b, b < bx → wt b < 1000 := fun b hb => by have h9 : wt b ≤ 30 := (hI.1.2.2.2 b hb).2; omega
  have hg : yGood st bx ins Y := hI.2.1.1
  have hht : ∀ s, s < st → (Y s).length ≤ rch s := hI.2.1.2.1
  have hu1 : ∀ b, unt b ≤ 1000 := hI.2.2.1.2.1
  have hhl : ∀ b, b < bx → hld b = nI 45 ∨ hld b = nI 112 ∨ hld b = nI 108 := hI.2.2.1.2.2
  have hap : ap ≤ 30 := hI.2.2.2.1.1
  have haa : ∀ a, a < ap → ab a < bx ∧ hr a ≤ 999 ∧ ln a < 3 ∧ (sa a = nI 98 ∨ sa a = nI 99 ∨ sa a = nI 103 ∨ sa a = nI 100 ∨ sa a = nI 109) := hI.2.2.2.1.2.1
  have hnw : nw ≤ 999 := hI.2.2.2.2
  have hY4 : ∀ s, (Y s).length ≤ 4 := hg.1.1
  have hmm : ∀ s, ∀ c ∈ Y s, c < bx := fun s c hc => (hg.2.2 s c hc).1
  refine z_aload_n C 0 rfl dX3_boxes_0 rfl ?_
  refine z_iconst C (v := (nI 0)) dX3_boxes_1 rfl ?_
  refine z_put C k_M hM.1 0 (by decide) [.int (nI 0), .int (nI nw), .int (nI st), .ref (A 0), .int (nI bx), .ref (A 1), .ref (A 2), .ref (A 3), .ref (A 4), .ref (A 5), .ref (A 6), .ref (A 7), .int mv, .int (nI ap), .ref (A 8), .ref (A 9), .ref (A 10), .ref (A 11), .long lf] rfl (Nat.le_of_ble_eq_true rfl) rfl rfl rfl q1387 dX3_boxes_2 (z_nV (fun V1 hV2 => ?_))
  have hM3 := MX.ob (cd2 := (nI 0)) (nw2 := nw) (st2 := st) (bx2 := bx) (mv2 := mv) (ap2 := ap) (lf2 := lf) hM hV2
  refine z_aload_n C 0 rfl dX3_boxes_5 rfl ?_
  refine z_callV C k_M hM3.1 (As := []) (mX3_insideNow (show mR D _ m A _ _ (qS st rch bx wt ins hld unt Y ap ab hr ln sa mv nw lf) from ⟨hM3, hE, hU, hy, hA⟩) hI) (lw_V q1478 q1480 qs35 q65 q1481) rfl hd_X3_insideNow rfl (Nat.le_of_ble_eq_true rfl) (by decide) (by decide) (by decide) (by decide) rfl dX3_boxes_6 (fun _ _ h => h.elim) (fun r4 V5 hP6 => ?_)
  rw [hP6.1, hP6.2]
  refine z_st (st' := [.int (nI (fC ins bx))]) rfl ?_
  exact z_iret C hQ (nI (fC ins bx)) rfl ⟨F, (show mR D _ m A _ _ (qS st rch bx wt ins hld unt Y ap ab hr ln sa mv nw lf) from ⟨hM3, hE, hU, hy, hA⟩), rfl⟩ (by decide) (by decide) dX3_boxes_9
set_option maxHeartbeats 4000000 in
set_option maxRecDepth 100000 in
theorem mX3_isInYard {l : Launch} {D : ZD} {V : ZV} {kk m : Nat} {A : Nat → Nat} {F : Nat → Nat → Int32} {cd : Int32} {st : Nat} {rch : Nat → Nat} {bx : Nat} {wt : Nat → Nat} {ins : Nat → Bool} {hld : Nat → Int32} {unt : Nat → Nat} {Y : YD} {ap : Nat} {ab hr ln : Nat → Nat} {sa : Nat → Int32} {mv : Int32} {nw : Nat} {lf : Int64} (hR : mR D V m A F cd (qS st rch bx wt ins hld unt Y ap ab hr ln sa mv nw lf)) (hI : qI kk (qS st rch bx wt ins hld unt Y ap ab hr ln sa mv nw lf)) {v1 : Int32} : ZM l D yX3_isInYard (ws_ yX3_isInYard cX3_isInYard 2 (some .boolean)) 3 0 0 eB V [.ref m, .int v1] (fun r V' => ∃ F2, mR D V' m A F2 0 (qS st rch bx wt ins hld unt Y ap ab hr ln sa mv nw lf) ∧ r = qIs (qS st rch bx wt ins hld unt Y ap ab hr ln sa mv nw lf) (vN v1)) zno_x := by
  refine z_enter (by decide +kernel) [(0, .ref m), (1, .int v1)] rfl (Nat.le_of_ble_eq_true rfl) (zcat_cons rfl (zcat_cons rfl zcat_nil)) (fun Γ C hQ => ?_)
  have hM : MX D V m A F cd nw st bx mv ap lf := hR.1
  have hE : mE F st bx rch wt ins hld := hR.2.1
  have hU : ∀ b, b < 20 → F 4 b = nI (unt b) := hR.2.2.1
  have hy : mY F 0 Y := hR.2.2.2.1
  have hA : ∀ a, a < ap → F 8 a = nI (ab a) ∧ F 9 a = nI (hr a) ∧ F 10 a = nI (ln a) ∧ F 11 a = sa a := hR.2.2.2.2
  have hst : st ≤ 4 := hI.1.1
  have hbx : bx ≤ 20 := hI.1.2.1
  have hrc : ∀ s, s < st → rch s ≤ 4 := fun s hs => (hI.1.2.2.1 s hs).2
  have hwt : ∀ b, b < bx → wt b < 1000 := fun b hb => by have h9 : wt b ≤ 30 := (hI.1.2.2.2 b hb).2; omega
  have hg : yGood st bx ins Y := hI.2.1.1
  have hht : ∀ s, s < st → (Y s).length ≤ rch s := hI.2.1.2.1
  have hu1 : ∀ b, unt b ≤ 1000 := hI.2.2.1.2.1
  have hhl : ∀ b, b < bx → hld b = nI 45 ∨ hld b = nI 112 ∨ hld b = nI 108 := hI.2.2.1.2.2
  have hap : ap ≤ 30 := hI.2.2.2.1.1
  have haa : ∀ a, a < ap → ab a < bx ∧ hr a ≤ 999 ∧ ln a < 3 ∧ (sa a = nI 98 ∨ sa a = nI 99 ∨ sa a = nI 103 ∨ sa a = nI 100 ∨ sa a = nI 109) := hI.2.2.2.1.2.1
  have hnw : nw ≤ 999 := hI.2.2.2.2
  have hY4 : ∀ s, (Y s).length ≤ 4 := hg.1.1
  have hmm : ∀ s, ∀ c ∈ Y s, c < bx := fun s c hc => (hg.2.2 s c hc).1
  refine z_aload_n C 0 rfl dX3_isInYard_0 rfl ?_
  refine z_iconst C (v := (nI 0)) dX3_isInYard_1 rfl ?_
  refine z_put C k_M hM.1 0 (by decide) [.int (nI 0), .int (nI nw), .int (nI st), .ref (A 0), .int (nI bx), .ref (A 1), .ref (A 2), .ref (A 3), .ref (A 4), .ref (A 5), .ref (A 6), .ref (A 7), .int mv, .int (nI ap), .ref (A 8), .ref (A 9), .ref (A 10), .ref (A 11), .long lf] rfl (Nat.le_of_ble_eq_true rfl) rfl rfl rfl q1387 dX3_isInYard_2 (z_nV (fun V1 hV2 => ?_))
  have hM3 := MX.ob (cd2 := (nI 0)) (nw2 := nw) (st2 := st) (bx2 := bx) (mv2 := mv) (ap2 := ap) (lf2 := lf) hM hV2
  refine z_aload_n C 0 rfl dX3_isInYard_5 rfl ?_
  refine z_iload_n C 1 rfl dX3_isInYard_6 rfl ?_
  refine z_callV C k_M hM3.1 (As := [.int v1]) (mX3_isBox (show mR D _ m A _ _ (qS st rch bx wt ins hld unt Y ap ab hr ln sa mv nw lf) from ⟨hM3, hE, hU, hy, hA⟩) hI) (lw_V q1494 q1496 qs37 q65 q1497) rfl hd_X3_isBox rfl (Nat.le_of_ble_eq_true rfl) (by decide) (by decide) (by decide) (by decide) rfl dX3_isInYard_7 (fun _ _ h => h.elim) (fun r4 V5 hP6 => ?_)
  rw [hP6.1, hP6.2]
  refine z_st (st' := [.int (zb (qIs (qS st rch bx wt ins hld unt Y ap ab hr ln sa mv nw lf) (vN v1)))]) rfl ?_
  exact z_zret C hQ (qIs (qS st rch bx wt ins hld unt Y ap ab hr ln sa mv nw lf) (vN v1)) rfl (zb_nar _) ⟨F, (show mR D _ m A _ _ (qS st rch bx wt ins hld unt Y ap ab hr ln sa mv nw lf) from ⟨hM3, hE, hU, hy, hA⟩), rfl⟩ (by decide) (by decide) dX3_isInYard_10
set_option maxHeartbeats 4000000 in
set_option maxRecDepth 100000 in
theorem mX3_weight {l : Launch} {D : ZD} {V : ZV} {kk m : Nat} {A : Nat → Nat} {F : Nat → Nat → Int32} {cd : Int32} {st : Nat} {rch : Nat → Nat} {bx : Nat} {wt : Nat → Nat} {ins : Nat → Bool} {hld : Nat → Int32} {unt : Nat → Nat} {Y : YD} {ap : Nat} {ab hr ln : Nat → Nat} {sa : Nat → Int32} {mv : Int32} {nw : Nat} {lf : Int64} (hR : mR D V m A F cd (qS st rch bx wt ins hld unt Y ap ab hr ln sa mv nw lf)) (hI : qI kk (qS st rch bx wt ins hld unt Y ap ab hr ln sa mv nw lf)) {v1 : Int32} : ZM l D yX3_weight (ws_ yX3_weight cX3_weight 2 (some .int)) 3 0 0 eI V [.ref m, .int v1] (fun r V' => ∃ F2, mR D V' m A F2 (nI (oWeight (qS st rch bx wt ins hld unt Y ap ab hr ln sa mv nw lf) (vN v1)).1) (oWeight (qS st rch bx wt ins hld unt Y ap ab hr ln sa mv nw lf) (vN v1)).2.2 ∧ ((oWeight (qS st rch bx wt ins hld unt Y ap ab hr ln sa mv nw lf) (vN v1)).1 = 0 → r = (oWeight (qS st rch bx wt ins hld unt Y ap ab hr ln sa mv nw lf) (vN v1)).2.1)) zno_x := by
  refine z_enter (by decide +kernel) [(0, .ref m), (1, .int v1)] rfl (Nat.le_of_ble_eq_true rfl) (zcat_cons rfl (zcat_cons rfl zcat_nil)) (fun Γ C hQ => ?_)
  have hM : MX D V m A F cd nw st bx mv ap lf := hR.1
  have hE : mE F st bx rch wt ins hld := hR.2.1
  have hU : ∀ b, b < 20 → F 4 b = nI (unt b) := hR.2.2.1
  have hy : mY F 0 Y := hR.2.2.2.1
  have hA : ∀ a, a < ap → F 8 a = nI (ab a) ∧ F 9 a = nI (hr a) ∧ F 10 a = nI (ln a) ∧ F 11 a = sa a := hR.2.2.2.2
  have hst : st ≤ 4 := hI.1.1
  have hbx : bx ≤ 20 := hI.1.2.1
  have hrc : ∀ s, s < st → rch s ≤ 4 := fun s hs => (hI.1.2.2.1 s hs).2
  have hwt : ∀ b, b < bx → wt b < 1000 := fun b hb => by have h9 : wt b ≤ 30 := (hI.1.2.2.2 b hb).2; omega
  have hg : yGood st bx ins Y := hI.2.1.1
  have hht : ∀ s, s < st → (Y s).length ≤ rch s := hI.2.1.2.1
  have hu1 : ∀ b, unt b ≤ 1000 := hI.2.2.1.2.1
  have hhl : ∀ b, b < bx → hld b = nI 45 ∨ hld b = nI 112 ∨ hld b = nI 108 := hI.2.2.1.2.2
  have hap : ap ≤ 30 := hI.2.2.2.1.1
  have haa : ∀ a, a < ap → ab a < bx ∧ hr a ≤ 999 ∧ ln a < 3 ∧ (sa a = nI 98 ∨ sa a = nI 99 ∨ sa a = nI 103 ∨ sa a = nI 100 ∨ sa a = nI 109) := hI.2.2.2.1.2.1
  have hnw : nw ≤ 999 := hI.2.2.2.2
  have hY4 : ∀ s, (Y s).length ≤ 4 := hg.1.1
  have hmm : ∀ s, ∀ c ∈ Y s, c < bx := fun s c hc => (hg.2.2 s c hc).1
  refine z_aload_n C 0 rfl dX3_weight_0 rfl ?_
  refine z_iconst C (v := (nI 0)) dX3_weight_1 rfl ?_
  refine z_put C k_M hM.1 0 (by decide) [.int (nI 0), .int (nI nw), .int (nI st), .ref (A 0), .int (nI bx), .ref (A 1), .ref (A 2), .ref (A 3), .ref (A 4), .ref (A 5), .ref (A 6), .ref (A 7), .int mv, .int (nI ap), .ref (A 8), .ref (A 9), .ref (A 10), .ref (A 11), .long lf] rfl (Nat.le_of_ble_eq_true rfl) rfl rfl rfl q1387 dX3_weight_2 (z_nV (fun V1 hV2 => ?_))
  have hM3 := MX.ob (cd2 := (nI 0)) (nw2 := nw) (st2 := st) (bx2 := bx) (mv2 := mv) (ap2 := ap) (lf2 := lf) hM hV2
  refine z_aload_n C 0 rfl dX3_weight_5 rfl ?_
  refine z_iload_n C 1 rfl dX3_weight_6 rfl ?_
  refine z_callV C k_M hM3.1 (As := [.int v1]) (mX3_isBox (show mR D _ m A _ _ (qS st rch bx wt ins hld unt Y ap ab hr ln sa mv nw lf) from ⟨hM3, hE, hU, hy, hA⟩) hI) (lw_V q1494 q1496 qs37 q65 q1497) rfl hd_X3_isBox rfl (Nat.le_of_ble_eq_true rfl) (by decide) (by decide) (by decide) (by decide) rfl dX3_weight_7 (fun _ _ h => h.elim) (fun r4 V5 hP6 => ?_)
  rw [hP6.1, hP6.2]
  refine z_st (st' := [.int (zb (qIs (qS st rch bx wt ins hld unt Y ap ab hr ln sa mv nw lf) (vN v1)))]) rfl ?_
  refine z_if_eqB C 22 dX3_weight_10 (by decide) (fun c10 => ?_) (fun c10 => ?_)
  · skip
    have hq : qIs (qS st rch bx wt ins hld unt Y ap ab hr ln sa mv nw lf) (vN v1) = false := by simpa using c10
    have e1 : oWeight (qS st rch bx wt ins hld unt Y ap ab hr ln sa mv nw lf) (vN v1) = (1, 0, (qS st rch bx wt ins hld unt Y ap ab hr ln sa mv nw lf)) := if_neg (by rw [hq]; decide)
    refine z_aload_n C 0 rfl dX3_weight_22 rfl ?_
    refine z_iconst C (v := (nI 1)) dX3_weight_23 rfl ?_
    refine z_callV C k_M hM3.1 (As := [.int (nI 1)]) (mX3_fails hM3 hst hbx) (lw_V q1458 q1460 qs31 q65 q1461) rfl hd_X3_fails rfl (Nat.le_of_ble_eq_true rfl) (by decide) (by decide) (by decide) (by decide) rfl dX3_weight_24 (fun _ _ h => h.elim) (fun r7 V8 hP9 => ?_)
    obtain ⟨hM10, rfl⟩ := hP9
    refine z_st (st' := [.int 0]) rfl ?_
    exact z_iret C hQ 0 rfl ⟨F, by rw [e1]; exact (show mR D _ m A _ _ (qS st rch bx wt ins hld unt Y ap ab hr ln sa mv nw lf) from ⟨hM10, hE, hU, hy, hA⟩), fun _ => oRes e1⟩ (by decide) (by decide) dX3_weight_27
  · skip
    have hq : qIs (qS st rch bx wt ins hld unt Y ap ab hr ln sa mv nw lf) (vN v1) = true := by simpa using c10
    obtain ⟨hbb, hbi⟩ := qIs_t (S := (qS st rch bx wt ins hld unt Y ap ab hr ln sa mv nw lf)) (by simpa using c10)
    have hbb : vN v1 < bx := hbb
    have hbi : ins (vN v1) = true := hbi
    have hv11 := vN_of (v := v1) hbb (by omega)
    have e12 : (.int v1 : Value) = .int (nI (vN v1)) := (congrArg Value.int hv11)
    refine z_lv (lv' := [(0, .ref m), (1, .int (nI (vN v1)))]) (by rw [e12]) ?_
    obtain ⟨p0, hb0⟩ := hg.2.1 _ hbb hbi
    have hb : vN v1 ∈ Y (yPl Y (vN v1)) := by rw [yPl_eq hg.1 hst hb0]; exact hb0
    have hpst := hg.1.lt hb
    have e1 : oWeight (qS st rch bx wt ins hld unt Y ap ab hr ln sa mv nw lf) (vN v1) = (0, _, (qS st rch bx wt ins hld unt Y ap ab hr ln sa mv nw lf)) := if_pos hq
    refine z_aload_n C 0 rfl dX3_weight_13 rfl ?_
    refine z_get C k_M hM3.1 5 (by decide) rfl q1392 dX3_weight_14 ?_
    refine z_iload_n C 1 rfl dX3_weight_17 rfl ?_
    have ga13 : V1 (A 1) = some (.inl (D.arr 0, 20, .inl (F 1))) := hM3.2.1 1 (by decide)
    refine z_iald C ga13 (by omega) (by omega) (v := (nI (wt (vN v1)))) (hE.2.1 (vN v1) (by omega)) dX3_weight_18 ?_
    refine z_goto C 27 dX3_weight_19 (by decide) ?_
    exact z_iret C hQ (nI (wt (vN v1))) rfl ⟨F, by rw [e1]; exact (show mR D _ m A _ _ (qS st rch bx wt ins hld unt Y ap ab hr ln sa mv nw lf) from ⟨hM3, hE, hU, hy, hA⟩), fun _ => oRes e1⟩ (by decide) (by decide) dX3_weight_27
set_option maxHeartbeats 4000000 in
set_option maxRecDepth 100000 in
theorem mX3_stackOf {l : Launch} {D : ZD} {V : ZV} {kk m : Nat} {A : Nat → Nat} {F : Nat → Nat → Int32} {cd : Int32} {st : Nat} {rch : Nat → Nat} {bx : Nat} {wt : Nat → Nat} {ins : Nat → Bool} {hld : Nat → Int32} {unt : Nat → Nat} {Y : YD} {ap : Nat} {ab hr ln : Nat → Nat} {sa : Nat → Int32} {mv : Int32} {nw : Nat} {lf : Int64} (hR : mR D V m A F cd (qS st rch bx wt ins hld unt Y ap ab hr ln sa mv nw lf)) (hI : qI kk (qS st rch bx wt ins hld unt Y ap ab hr ln sa mv nw lf)) {v1 : Int32} : ZM l D yX3_stackOf (ws_ yX3_stackOf cX3_stackOf 2 (some .int)) 3 0 0 eI V [.ref m, .int v1] (fun r V' => ∃ F2, mR D V' m A F2 (nI (oStackOf (qS st rch bx wt ins hld unt Y ap ab hr ln sa mv nw lf) (vN v1)).1) (oStackOf (qS st rch bx wt ins hld unt Y ap ab hr ln sa mv nw lf) (vN v1)).2.2 ∧ ((oStackOf (qS st rch bx wt ins hld unt Y ap ab hr ln sa mv nw lf) (vN v1)).1 = 0 → r = (oStackOf (qS st rch bx wt ins hld unt Y ap ab hr ln sa mv nw lf) (vN v1)).2.1)) zno_x := by
  refine z_enter (by decide +kernel) [(0, .ref m), (1, .int v1)] rfl (Nat.le_of_ble_eq_true rfl) (zcat_cons rfl (zcat_cons rfl zcat_nil)) (fun Γ C hQ => ?_)
  have hM : MX D V m A F cd nw st bx mv ap lf := hR.1
  have hE : mE F st bx rch wt ins hld := hR.2.1
  have hU : ∀ b, b < 20 → F 4 b = nI (unt b) := hR.2.2.1
  have hy : mY F 0 Y := hR.2.2.2.1
  have hA : ∀ a, a < ap → F 8 a = nI (ab a) ∧ F 9 a = nI (hr a) ∧ F 10 a = nI (ln a) ∧ F 11 a = sa a := hR.2.2.2.2
  have hst : st ≤ 4 := hI.1.1
  have hbx : bx ≤ 20 := hI.1.2.1
  have hrc : ∀ s, s < st → rch s ≤ 4 := fun s hs => (hI.1.2.2.1 s hs).2
  have hwt : ∀ b, b < bx → wt b < 1000 := fun b hb => by have h9 : wt b ≤ 30 := (hI.1.2.2.2 b hb).2; omega
  have hg : yGood st bx ins Y := hI.2.1.1
  have hht : ∀ s, s < st → (Y s).length ≤ rch s := hI.2.1.2.1
  have hu1 : ∀ b, unt b ≤ 1000 := hI.2.2.1.2.1
  have hhl : ∀ b, b < bx → hld b = nI 45 ∨ hld b = nI 112 ∨ hld b = nI 108 := hI.2.2.1.2.2
  have hap : ap ≤ 30 := hI.2.2.2.1.1
  have haa : ∀ a, a < ap → ab a < bx ∧ hr a ≤ 999 ∧ ln a < 3 ∧ (sa a = nI 98 ∨ sa a = nI 99 ∨ sa a = nI 103 ∨ sa a = nI 100 ∨ sa a = nI 109) := hI.2.2.2.1.2.1
  have hnw : nw ≤ 999 := hI.2.2.2.2
  have hY4 : ∀ s, (Y s).length ≤ 4 := hg.1.1
  have hmm : ∀ s, ∀ c ∈ Y s, c < bx := fun s c hc => (hg.2.2 s c hc).1
  refine z_aload_n C 0 rfl dX3_stackOf_0 rfl ?_
  refine z_iconst C (v := (nI 0)) dX3_stackOf_1 rfl ?_
  refine z_put C k_M hM.1 0 (by decide) [.int (nI 0), .int (nI nw), .int (nI st), .ref (A 0), .int (nI bx), .ref (A 1), .ref (A 2), .ref (A 3), .ref (A 4), .ref (A 5), .ref (A 6), .ref (A 7), .int mv, .int (nI ap), .ref (A 8), .ref (A 9), .ref (A 10), .ref (A 11), .long lf] rfl (Nat.le_of_ble_eq_true rfl) rfl rfl rfl q1387 dX3_stackOf_2 (z_nV (fun V1 hV2 => ?_))
  have hM3 := MX.ob (cd2 := (nI 0)) (nw2 := nw) (st2 := st) (bx2 := bx) (mv2 := mv) (ap2 := ap) (lf2 := lf) hM hV2
  refine z_aload_n C 0 rfl dX3_stackOf_5 rfl ?_
  refine z_iload_n C 1 rfl dX3_stackOf_6 rfl ?_
  refine z_callV C k_M hM3.1 (As := [.int v1]) (mX3_isBox (show mR D _ m A _ _ (qS st rch bx wt ins hld unt Y ap ab hr ln sa mv nw lf) from ⟨hM3, hE, hU, hy, hA⟩) hI) (lw_V q1494 q1496 qs37 q65 q1497) rfl hd_X3_isBox rfl (Nat.le_of_ble_eq_true rfl) (by decide) (by decide) (by decide) (by decide) rfl dX3_stackOf_7 (fun _ _ h => h.elim) (fun r4 V5 hP6 => ?_)
  rw [hP6.1, hP6.2]
  refine z_st (st' := [.int (zb (qIs (qS st rch bx wt ins hld unt Y ap ab hr ln sa mv nw lf) (vN v1)))]) rfl ?_
  refine z_if_eqB C 22 dX3_stackOf_10 (by decide) (fun c10 => ?_) (fun c10 => ?_)
  · skip
    have hq : qIs (qS st rch bx wt ins hld unt Y ap ab hr ln sa mv nw lf) (vN v1) = false := by simpa using c10
    have e1 : oStackOf (qS st rch bx wt ins hld unt Y ap ab hr ln sa mv nw lf) (vN v1) = (1, 0, (qS st rch bx wt ins hld unt Y ap ab hr ln sa mv nw lf)) := if_neg (by rw [hq]; decide)
    refine z_aload_n C 0 rfl dX3_stackOf_22 rfl ?_
    refine z_iconst C (v := (nI 1)) dX3_stackOf_23 rfl ?_
    refine z_callV C k_M hM3.1 (As := [.int (nI 1)]) (mX3_fails hM3 hst hbx) (lw_V q1458 q1460 qs31 q65 q1461) rfl hd_X3_fails rfl (Nat.le_of_ble_eq_true rfl) (by decide) (by decide) (by decide) (by decide) rfl dX3_stackOf_24 (fun _ _ h => h.elim) (fun r7 V8 hP9 => ?_)
    obtain ⟨hM10, rfl⟩ := hP9
    refine z_st (st' := [.int 0]) rfl ?_
    exact z_iret C hQ 0 rfl ⟨F, by rw [e1]; exact (show mR D _ m A _ _ (qS st rch bx wt ins hld unt Y ap ab hr ln sa mv nw lf) from ⟨hM10, hE, hU, hy, hA⟩), fun _ => oRes e1⟩ (by decide) (by decide) dX3_stackOf_27
  · skip
    have hq : qIs (qS st rch bx wt ins hld unt Y ap ab hr ln sa mv nw lf) (vN v1) = true := by simpa using c10
    obtain ⟨hbb, hbi⟩ := qIs_t (S := (qS st rch bx wt ins hld unt Y ap ab hr ln sa mv nw lf)) (by simpa using c10)
    have hbb : vN v1 < bx := hbb
    have hbi : ins (vN v1) = true := hbi
    have hv11 := vN_of (v := v1) hbb (by omega)
    have e12 : (.int v1 : Value) = .int (nI (vN v1)) := (congrArg Value.int hv11)
    refine z_lv (lv' := [(0, .ref m), (1, .int (nI (vN v1)))]) (by rw [e12]) ?_
    obtain ⟨p0, hb0⟩ := hg.2.1 _ hbb hbi
    have hb : vN v1 ∈ Y (yPl Y (vN v1)) := by rw [yPl_eq hg.1 hst hb0]; exact hb0
    have hpst := hg.1.lt hb
    have e1 : oStackOf (qS st rch bx wt ins hld unt Y ap ab hr ln sa mv nw lf) (vN v1) = (0, _, (qS st rch bx wt ins hld unt Y ap ab hr ln sa mv nw lf)) := if_pos hq
    refine z_aload_n C 0 rfl dX3_stackOf_13 rfl ?_
    refine z_iconst C (v := (nI 0)) dX3_stackOf_14 rfl ?_
    refine z_iload_n C 1 rfl dX3_stackOf_15 rfl ?_
    refine z_callV C k_M hM3.1 (As := [.int (nI 0), .int (nI (vN v1))]) (mX3_placeOf hM3 hst hbx hy (by omega) hg.1 hb) (lw_V q1506 q1508 qs38 q65 q1509) rfl hd_X3_placeOf rfl (Nat.le_of_ble_eq_true rfl) (by decide) (by decide) (by decide) (by decide) rfl dX3_stackOf_16 (fun _ _ h => h.elim) (fun r13 V14 hP15 => ?_)
    rw [hP15.1, hP15.2]
    refine z_st (st' := [.int (nI (yPl Y (vN v1)))]) rfl ?_
    refine z_goto C 27 dX3_stackOf_19 (by decide) ?_
    exact z_iret C hQ (nI (yPl Y (vN v1))) rfl ⟨F, by rw [e1]; exact (show mR D _ m A _ _ (qS st rch bx wt ins hld unt Y ap ab hr ln sa mv nw lf) from ⟨hM3, hE, hU, hy, hA⟩), fun _ => oRes e1⟩ (by decide) (by decide) dX3_stackOf_27
set_option maxHeartbeats 4000000 in
set_option maxRecDepth 100000 in
theorem mX3_level {l : Launch} {D : ZD} {V : ZV} {kk m : Nat} {A : Nat → Nat} {F : Nat → Nat → Int32} {cd : Int32} {st : Nat} {rch : Nat → Nat} {bx : Nat} {wt : Nat → Nat} {ins : Nat → Bool} {hld : Nat → Int32} {unt : Nat → Nat} {Y : YD} {ap : Nat} {ab hr ln : Nat → Nat} {sa : Nat → Int32} {mv : Int32} {nw : Nat} {lf : Int64} (hR : mR D V m A F cd (qS st rch bx wt ins hld unt Y ap ab hr ln sa mv nw lf)) (hI : qI kk (qS st rch bx wt ins hld unt Y ap ab hr ln sa mv nw lf)) {v1 : Int32} : ZM l D yX3_level (ws_ yX3_level cX3_level 2 (some .int)) 3 0 0 eI V [.ref m, .int v1] (fun r V' => ∃ F2, mR D V' m A F2 (nI (oLevel (qS st rch bx wt ins hld unt Y ap ab hr ln sa mv nw lf) (vN v1)).1) (oLevel (qS st rch bx wt ins hld unt Y ap ab hr ln sa mv nw lf) (vN v1)).2.2 ∧ ((oLevel (qS st rch bx wt ins hld unt Y ap ab hr ln sa mv nw lf) (vN v1)).1 = 0 → r = (oLevel (qS st rch bx wt ins hld unt Y ap ab hr ln sa mv nw lf) (vN v1)).2.1)) zno_x := by
  refine z_enter (by decide +kernel) [(0, .ref m), (1, .int v1)] rfl (Nat.le_of_ble_eq_true rfl) (zcat_cons rfl (zcat_cons rfl zcat_nil)) (fun Γ C hQ => ?_)
  have hM : MX D V m A F cd nw st bx mv ap lf := hR.1
  have hE : mE F st bx rch wt ins hld := hR.2.1
  have hU : ∀ b, b < 20 → F 4 b = nI (unt b) := hR.2.2.1
  have hy : mY F 0 Y := hR.2.2.2.1
  have hA : ∀ a, a < ap → F 8 a = nI (ab a) ∧ F 9 a = nI (hr a) ∧ F 10 a = nI (ln a) ∧ F 11 a = sa a := hR.2.2.2.2
  have hst : st ≤ 4 := hI.1.1
  have hbx : bx ≤ 20 := hI.1.2.1
  have hrc : ∀ s, s < st → rch s ≤ 4 := fun s hs => (hI.1.2.2.1 s hs).2
  have hwt : ∀ b, b < bx → wt b < 1000 := fun b hb => by have h9 : wt b ≤ 30 := (hI.1.2.2.2 b hb).2; omega
  have hg : yGood st bx ins Y := hI.2.1.1
  have hht : ∀ s, s < st → (Y s).length ≤ rch s := hI.2.1.2.1
  have hu1 : ∀ b, unt b ≤ 1000 := hI.2.2.1.2.1
  have hhl : ∀ b, b < bx → hld b = nI 45 ∨ hld b = nI 112 ∨ hld b = nI 108 := hI.2.2.1.2.2
  have hap : ap ≤ 30 := hI.2.2.2.1.1
  have haa : ∀ a, a < ap → ab a < bx ∧ hr a ≤ 999 ∧ ln a < 3 ∧ (sa a = nI 98 ∨ sa a = nI 99 ∨ sa a = nI 103 ∨ sa a = nI 100 ∨ sa a = nI 109) := hI.2.2.2.1.2.1
  have hnw : nw ≤ 999 := hI.2.2.2.2
  have hY4 : ∀ s, (Y s).length ≤ 4 := hg.1.1
  have hmm : ∀ s, ∀ c ∈ Y s, c < bx := fun s c hc => (hg.2.2 s c hc).1
  refine z_aload_n C 0 rfl dX3_level_0 rfl ?_
  refine z_iconst C (v := (nI 0)) dX3_level_1 rfl ?_
  refine z_put C k_M hM.1 0 (by decide) [.int (nI 0), .int (nI nw), .int (nI st), .ref (A 0), .int (nI bx), .ref (A 1), .ref (A 2), .ref (A 3), .ref (A 4), .ref (A 5), .ref (A 6), .ref (A 7), .int mv, .int (nI ap), .ref (A 8), .ref (A 9), .ref (A 10), .ref (A 11), .long lf] rfl (Nat.le_of_ble_eq_true rfl) rfl rfl rfl q1387 dX3_level_2 (z_nV (fun V1 hV2 => ?_))
  have hM3 := MX.ob (cd2 := (nI 0)) (nw2 := nw) (st2 := st) (bx2 := bx) (mv2 := mv) (ap2 := ap) (lf2 := lf) hM hV2
  refine z_aload_n C 0 rfl dX3_level_5 rfl ?_
  refine z_iload_n C 1 rfl dX3_level_6 rfl ?_
  refine z_callV C k_M hM3.1 (As := [.int v1]) (mX3_isBox (show mR D _ m A _ _ (qS st rch bx wt ins hld unt Y ap ab hr ln sa mv nw lf) from ⟨hM3, hE, hU, hy, hA⟩) hI) (lw_V q1494 q1496 qs37 q65 q1497) rfl hd_X3_isBox rfl (Nat.le_of_ble_eq_true rfl) (by decide) (by decide) (by decide) (by decide) rfl dX3_level_7 (fun _ _ h => h.elim) (fun r4 V5 hP6 => ?_)
  rw [hP6.1, hP6.2]
  refine z_st (st' := [.int (zb (qIs (qS st rch bx wt ins hld unt Y ap ab hr ln sa mv nw lf) (vN v1)))]) rfl ?_
  refine z_if_eqB C 22 dX3_level_10 (by decide) (fun c10 => ?_) (fun c10 => ?_)
  · skip
    have hq : qIs (qS st rch bx wt ins hld unt Y ap ab hr ln sa mv nw lf) (vN v1) = false := by simpa using c10
    have e1 : oLevel (qS st rch bx wt ins hld unt Y ap ab hr ln sa mv nw lf) (vN v1) = (1, 0, (qS st rch bx wt ins hld unt Y ap ab hr ln sa mv nw lf)) := if_neg (by rw [hq]; decide)
    refine z_aload_n C 0 rfl dX3_level_22 rfl ?_
    refine z_iconst C (v := (nI 1)) dX3_level_23 rfl ?_
    refine z_callV C k_M hM3.1 (As := [.int (nI 1)]) (mX3_fails hM3 hst hbx) (lw_V q1458 q1460 qs31 q65 q1461) rfl hd_X3_fails rfl (Nat.le_of_ble_eq_true rfl) (by decide) (by decide) (by decide) (by decide) rfl dX3_level_24 (fun _ _ h => h.elim) (fun r7 V8 hP9 => ?_)
    obtain ⟨hM10, rfl⟩ := hP9
    refine z_st (st' := [.int 0]) rfl ?_
    exact z_iret C hQ 0 rfl ⟨F, by rw [e1]; exact (show mR D _ m A _ _ (qS st rch bx wt ins hld unt Y ap ab hr ln sa mv nw lf) from ⟨hM10, hE, hU, hy, hA⟩), fun _ => oRes e1⟩ (by decide) (by decide) dX3_level_27
  · skip
    have hq : qIs (qS st rch bx wt ins hld unt Y ap ab hr ln sa mv nw lf) (vN v1) = true := by simpa using c10
    obtain ⟨hbb, hbi⟩ := qIs_t (S := (qS st rch bx wt ins hld unt Y ap ab hr ln sa mv nw lf)) (by simpa using c10)
    have hbb : vN v1 < bx := hbb
    have hbi : ins (vN v1) = true := hbi
    have hv11 := vN_of (v := v1) hbb (by omega)
    have e12 : (.int v1 : Value) = .int (nI (vN v1)) := (congrArg Value.int hv11)
    refine z_lv (lv' := [(0, .ref m), (1, .int (nI (vN v1)))]) (by rw [e12]) ?_
    obtain ⟨p0, hb0⟩ := hg.2.1 _ hbb hbi
    have hb : vN v1 ∈ Y (yPl Y (vN v1)) := by rw [yPl_eq hg.1 hst hb0]; exact hb0
    have hpst := hg.1.lt hb
    have e1 : oLevel (qS st rch bx wt ins hld unt Y ap ab hr ln sa mv nw lf) (vN v1) = (0, _, (qS st rch bx wt ins hld unt Y ap ab hr ln sa mv nw lf)) := if_pos hq
    obtain ⟨hk, hkl, hab⟩ := yAb_at hg.1 hst hb
    refine z_aload_n C 0 rfl dX3_level_13 rfl ?_
    refine z_iconst C (v := (nI 0)) dX3_level_14 rfl ?_
    refine z_iload_n C 1 rfl dX3_level_15 rfl ?_
    refine z_callV C k_M hM3.1 (As := [.int (nI 0), .int (nI (vN v1))]) (mX3_levelOf hM3 hst hbx hy (by omega) hg.1 hb hk) (lw_V q1514 q1516 qs39 q65 q1517) rfl hd_X3_levelOf rfl (Nat.le_of_ble_eq_true rfl) (by decide) (by decide) (by decide) (by decide) rfl dX3_level_16 (fun _ _ h => h.elim) (fun r13 V14 hP15 => ?_)
    rw [hP15.1, hP15.2]
    refine z_st (st' := [.int (nI ((Y (yPl Y (vN v1))).idxOf (vN v1)))]) rfl ?_
    refine z_goto C 27 dX3_level_19 (by decide) ?_
    exact z_iret C hQ (nI ((Y (yPl Y (vN v1))).idxOf (vN v1))) rfl ⟨F, by rw [e1]; exact (show mR D _ m A _ _ (qS st rch bx wt ins hld unt Y ap ab hr ln sa mv nw lf) from ⟨hM3, hE, hU, hy, hA⟩), fun _ => oRes e1⟩ (by decide) (by decide) dX3_level_27
set_option maxHeartbeats 4000000 in
set_option maxRecDepth 100000 in
theorem mX3_above {l : Launch} {D : ZD} {V : ZV} {kk m : Nat} {A : Nat → Nat} {F : Nat → Nat → Int32} {cd : Int32} {st : Nat} {rch : Nat → Nat} {bx : Nat} {wt : Nat → Nat} {ins : Nat → Bool} {hld : Nat → Int32} {unt : Nat → Nat} {Y : YD} {ap : Nat} {ab hr ln : Nat → Nat} {sa : Nat → Int32} {mv : Int32} {nw : Nat} {lf : Int64} (hR : mR D V m A F cd (qS st rch bx wt ins hld unt Y ap ab hr ln sa mv nw lf)) (hI : qI kk (qS st rch bx wt ins hld unt Y ap ab hr ln sa mv nw lf)) {v1 : Int32} : ZM l D yX3_above (ws_ yX3_above cX3_above 2 (some .int)) 4 0 0 eI V [.ref m, .int v1] (fun r V' => ∃ F2, mR D V' m A F2 (nI (oAbove (qS st rch bx wt ins hld unt Y ap ab hr ln sa mv nw lf) (vN v1)).1) (oAbove (qS st rch bx wt ins hld unt Y ap ab hr ln sa mv nw lf) (vN v1)).2.2 ∧ ((oAbove (qS st rch bx wt ins hld unt Y ap ab hr ln sa mv nw lf) (vN v1)).1 = 0 → r = (oAbove (qS st rch bx wt ins hld unt Y ap ab hr ln sa mv nw lf) (vN v1)).2.1)) zno_x := by
  refine z_enter (by decide +kernel) [(0, .ref m), (1, .int v1)] rfl (Nat.le_of_ble_eq_true rfl) (zcat_cons rfl (zcat_cons rfl zcat_nil)) (fun Γ C hQ => ?_)
  have hM : MX D V m A F cd nw st bx mv ap lf := hR.1
  have hE : mE F st bx rch wt ins hld := hR.2.1
  have hU : ∀ b, b < 20 → F 4 b = nI (unt b) := hR.2.2.1
  have hy : mY F 0 Y := hR.2.2.2.1
  have hA : ∀ a, a < ap → F 8 a = nI (ab a) ∧ F 9 a = nI (hr a) ∧ F 10 a = nI (ln a) ∧ F 11 a = sa a := hR.2.2.2.2
  have hst : st ≤ 4 := hI.1.1
  have hbx : bx ≤ 20 := hI.1.2.1
  have hrc : ∀ s, s < st → rch s ≤ 4 := fun s hs => (hI.1.2.2.1 s hs).2
  have hwt : ∀ b, b < bx → wt b < 1000 := fun b hb => by have h9 : wt b ≤ 30 := (hI.1.2.2.2 b hb).2; omega
  have hg : yGood st bx ins Y := hI.2.1.1
  have hht : ∀ s, s < st → (Y s).length ≤ rch s := hI.2.1.2.1
  have hu1 : ∀ b, unt b ≤ 1000 := hI.2.2.1.2.1
  have hhl : ∀ b, b < bx → hld b = nI 45 ∨ hld b = nI 112 ∨ hld b = nI 108 := hI.2.2.1.2.2
  have hap : ap ≤ 30 := hI.2.2.2.1.1
  have haa : ∀ a, a < ap → ab a < bx ∧ hr a ≤ 999 ∧ ln a < 3 ∧ (sa a = nI 98 ∨ sa a = nI 99 ∨ sa a = nI 103 ∨ sa a = nI 100 ∨ sa a = nI 109) := hI.2.2.2.1.2.1
  have hnw : nw ≤ 999 := hI.2.2.2.2
  have hY4 : ∀ s, (Y s).length ≤ 4 := hg.1.1
  have hmm : ∀ s, ∀ c ∈ Y s, c < bx := fun s c hc => (hg.2.2 s c hc).1
  refine z_aload_n C 0 rfl dX3_above_0 rfl ?_
  refine z_iconst C (v := (nI 0)) dX3_above_1 rfl ?_
  refine z_put C k_M hM.1 0 (by decide) [.int (nI 0), .int (nI nw), .int (nI st), .ref (A 0), .int (nI bx), .ref (A 1), .ref (A 2), .ref (A 3), .ref (A 4), .ref (A 5), .ref (A 6), .ref (A 7), .int mv, .int (nI ap), .ref (A 8), .ref (A 9), .ref (A 10), .ref (A 11), .long lf] rfl (Nat.le_of_ble_eq_true rfl) rfl rfl rfl q1387 dX3_above_2 (z_nV (fun V1 hV2 => ?_))
  have hM3 := MX.ob (cd2 := (nI 0)) (nw2 := nw) (st2 := st) (bx2 := bx) (mv2 := mv) (ap2 := ap) (lf2 := lf) hM hV2
  refine z_aload_n C 0 rfl dX3_above_5 rfl ?_
  refine z_iload_n C 1 rfl dX3_above_6 rfl ?_
  refine z_callV C k_M hM3.1 (As := [.int v1]) (mX3_isBox (show mR D _ m A _ _ (qS st rch bx wt ins hld unt Y ap ab hr ln sa mv nw lf) from ⟨hM3, hE, hU, hy, hA⟩) hI) (lw_V q1494 q1496 qs37 q65 q1497) rfl hd_X3_isBox rfl (Nat.le_of_ble_eq_true rfl) (by decide) (by decide) (by decide) (by decide) rfl dX3_above_7 (fun _ _ h => h.elim) (fun r4 V5 hP6 => ?_)
  rw [hP6.1, hP6.2]
  refine z_st (st' := [.int (zb (qIs (qS st rch bx wt ins hld unt Y ap ab hr ln sa mv nw lf) (vN v1)))]) rfl ?_
  refine z_if_eqB C 21 dX3_above_10 (by decide) (fun c10 => ?_) (fun c10 => ?_)
  · skip
    have hq : qIs (qS st rch bx wt ins hld unt Y ap ab hr ln sa mv nw lf) (vN v1) = false := by simpa using c10
    have e1 : oAbove (qS st rch bx wt ins hld unt Y ap ab hr ln sa mv nw lf) (vN v1) = (1, 0, (qS st rch bx wt ins hld unt Y ap ab hr ln sa mv nw lf)) := if_neg (by rw [hq]; decide)
    refine z_aload_n C 0 rfl dX3_above_21 rfl ?_
    refine z_iconst C (v := (nI 1)) dX3_above_22 rfl ?_
    refine z_callV C k_M hM3.1 (As := [.int (nI 1)]) (mX3_fails hM3 hst hbx) (lw_V q1458 q1460 qs31 q65 q1461) rfl hd_X3_fails rfl (Nat.le_of_ble_eq_true rfl) (by decide) (by decide) (by decide) (by decide) rfl dX3_above_23 (fun _ _ h => h.elim) (fun r7 V8 hP9 => ?_)
    obtain ⟨hM10, rfl⟩ := hP9
    refine z_st (st' := [.int 0]) rfl ?_
    exact z_iret C hQ 0 rfl ⟨F, by rw [e1]; exact (show mR D _ m A _ _ (qS st rch bx wt ins hld unt Y ap ab hr ln sa mv nw lf) from ⟨hM10, hE, hU, hy, hA⟩), fun _ => oRes e1⟩ (by decide) (by decide) dX3_above_26
  · skip
    have hq : qIs (qS st rch bx wt ins hld unt Y ap ab hr ln sa mv nw lf) (vN v1) = true := by simpa using c10
    obtain ⟨hbb, hbi⟩ := qIs_t (S := (qS st rch bx wt ins hld unt Y ap ab hr ln sa mv nw lf)) (by simpa using c10)
    have hbb : vN v1 < bx := hbb
    have hbi : ins (vN v1) = true := hbi
    have hv11 := vN_of (v := v1) hbb (by omega)
    have e12 : (.int v1 : Value) = .int (nI (vN v1)) := (congrArg Value.int hv11)
    refine z_lv (lv' := [(0, .ref m), (1, .int (nI (vN v1)))]) (by rw [e12]) ?_
    obtain ⟨p0, hb0⟩ := hg.2.1 _ hbb hbi
    have hb : vN v1 ∈ Y (yPl Y (vN v1)) := by rw [yPl_eq hg.1 hst hb0]; exact hb0
    have hpst := hg.1.lt hb
    have e1 : oAbove (qS st rch bx wt ins hld unt Y ap ab hr ln sa mv nw lf) (vN v1) = (0, _, (qS st rch bx wt ins hld unt Y ap ab hr ln sa mv nw lf)) := if_pos hq
    refine z_aload_n C 0 rfl dX3_above_13 rfl ?_
    refine z_iload_n C 1 rfl dX3_above_14 rfl ?_
    refine z_callV C k_M hM3.1 (As := [.int (nI (vN v1))]) (mX3_aboveOf hM3 hst hbx hy hg.1 hb) (lw_V q1522 q1524 qs40 q65 q1525) rfl hd_X3_aboveOf rfl (Nat.le_of_ble_eq_true rfl) (by decide) (by decide) (by decide) (by decide) rfl dX3_above_15 (fun _ _ h => h.elim) (fun r13 V14 hP15 => ?_)
    rw [hP15.1, hP15.2]
    refine z_st (st' := [.int (nI (yAb Y (vN v1)))]) rfl ?_
    refine z_goto C 26 dX3_above_18 (by decide) ?_
    exact z_iret C hQ (nI (yAb Y (vN v1))) rfl ⟨F, by rw [e1]; exact (show mR D _ m A _ _ (qS st rch bx wt ins hld unt Y ap ab hr ln sa mv nw lf) from ⟨hM3, hE, hU, hy, hA⟩), fun _ => oRes e1⟩ (by decide) (by decide) dX3_above_26
set_option maxHeartbeats 4000000 in
set_option maxRecDepth 100000 in
theorem mX3_height {l : Launch} {D : ZD} {V : ZV} {kk m : Nat} {A : Nat → Nat} {F : Nat → Nat → Int32} {cd : Int32} {st : Nat} {rch : Nat → Nat} {bx : Nat} {wt : Nat → Nat} {ins : Nat → Bool} {hld : Nat → Int32} {unt : Nat → Nat} {Y : YD} {ap : Nat} {ab hr ln : Nat → Nat} {sa : Nat → Int32} {mv : Int32} {nw : Nat} {lf : Int64} (hR : mR D V m A F cd (qS st rch bx wt ins hld unt Y ap ab hr ln sa mv nw lf)) (hI : qI kk (qS st rch bx wt ins hld unt Y ap ab hr ln sa mv nw lf)) {v1 : Int32} : ZM l D yX3_height (ws_ yX3_height cX3_height 2 (some .int)) 3 0 0 eI V [.ref m, .int v1] (fun r V' => ∃ F2, mR D V' m A F2 (nI (oHeight (qS st rch bx wt ins hld unt Y ap ab hr ln sa mv nw lf) (vN v1)).1) (oHeight (qS st rch bx wt ins hld unt Y ap ab hr ln sa mv nw lf) (vN v1)).2.2 ∧ ((oHeight (qS st rch bx wt ins hld unt Y ap ab hr ln sa mv nw lf) (vN v1)).1 = 0 → r = (oHeight (qS st rch bx wt ins hld unt Y ap ab hr ln sa mv nw lf) (vN v1)).2.1)) zno_x := by
  refine z_enter (by decide +kernel) [(0, .ref m), (1, .int v1)] rfl (Nat.le_of_ble_eq_true rfl) (zcat_cons rfl (zcat_cons rfl zcat_nil)) (fun Γ C hQ => ?_)
  have hM : MX D V m A F cd nw st bx mv ap lf := hR.1
  have hE : mE F st bx rch wt ins hld := hR.2.1
  have hU : ∀ b, b < 20 → F 4 b = nI (unt b) := hR.2.2.1
  have hy : mY F 0 Y := hR.2.2.2.1
  have hA : ∀ a, a < ap → F 8 a = nI (ab a) ∧ F 9 a = nI (hr a) ∧ F 10 a = nI (ln a) ∧ F 11 a = sa a := hR.2.2.2.2
  have hst : st ≤ 4 := hI.1.1
  have hbx : bx ≤ 20 := hI.1.2.1
  have hrc : ∀ s, s < st → rch s ≤ 4 := fun s hs => (hI.1.2.2.1 s hs).2
  have hwt : ∀ b, b < bx → wt b < 1000 := fun b hb => by have h9 : wt b ≤ 30 := (hI.1.2.2.2 b hb).2; omega
  have hg : yGood st bx ins Y := hI.2.1.1
  have hht : ∀ s, s < st → (Y s).length ≤ rch s := hI.2.1.2.1
  have hu1 : ∀ b, unt b ≤ 1000 := hI.2.2.1.2.1
  have hhl : ∀ b, b < bx → hld b = nI 45 ∨ hld b = nI 112 ∨ hld b = nI 108 := hI.2.2.1.2.2
  have hap : ap ≤ 30 := hI.2.2.2.1.1
  have haa : ∀ a, a < ap → ab a < bx ∧ hr a ≤ 999 ∧ ln a < 3 ∧ (sa a = nI 98 ∨ sa a = nI 99 ∨ sa a = nI 103 ∨ sa a = nI 100 ∨ sa a = nI 109) := hI.2.2.2.1.2.1
  have hnw : nw ≤ 999 := hI.2.2.2.2
  have hY4 : ∀ s, (Y s).length ≤ 4 := hg.1.1
  have hmm : ∀ s, ∀ c ∈ Y s, c < bx := fun s c hc => (hg.2.2 s c hc).1
  refine z_aload_n C 0 rfl dX3_height_0 rfl ?_
  refine z_iconst C (v := (nI 0)) dX3_height_1 rfl ?_
  refine z_put C k_M hM.1 0 (by decide) [.int (nI 0), .int (nI nw), .int (nI st), .ref (A 0), .int (nI bx), .ref (A 1), .ref (A 2), .ref (A 3), .ref (A 4), .ref (A 5), .ref (A 6), .ref (A 7), .int mv, .int (nI ap), .ref (A 8), .ref (A 9), .ref (A 10), .ref (A 11), .long lf] rfl (Nat.le_of_ble_eq_true rfl) rfl rfl rfl q1387 dX3_height_2 (z_nV (fun V1 hV2 => ?_))
  have hM3 := MX.ob (cd2 := (nI 0)) (nw2 := nw) (st2 := st) (bx2 := bx) (mv2 := mv) (ap2 := ap) (lf2 := lf) hM hV2
  refine z_aload_n C 0 rfl dX3_height_5 rfl ?_
  refine z_iload_n C 1 rfl dX3_height_6 rfl ?_
  refine z_callV C k_M hM3.1 (As := [.int v1]) (mX3_isStack (show mR D _ m A _ _ (qS st rch bx wt ins hld unt Y ap ab hr ln sa mv nw lf) from ⟨hM3, hE, hU, hy, hA⟩) hI) (lw_V q1466 q1468 qs32 q65 q1469) rfl hd_X3_isStack rfl (Nat.le_of_ble_eq_true rfl) (by decide) (by decide) (by decide) (by decide) rfl dX3_height_7 (fun _ _ h => h.elim) (fun r4 V5 hP6 => ?_)
  rw [hP6.1, hP6.2]
  refine z_st (st' := [.int (zb (decide (vN v1 < st)))]) rfl ?_
  refine z_if_eqB C 22 dX3_height_10 (by decide) (fun c10 => ?_) (fun c10 => ?_)
  · skip
    have e1 : oHeight (qS st rch bx wt ins hld unt Y ap ab hr ln sa mv nw lf) (vN v1) = (1, 0, (qS st rch bx wt ins hld unt Y ap ab hr ln sa mv nw lf)) := if_neg (by have := c10; simp at this; exact Nat.not_lt.mpr this)
    refine z_aload_n C 0 rfl dX3_height_22 rfl ?_
    refine z_iconst C (v := (nI 1)) dX3_height_23 rfl ?_
    refine z_callV C k_M hM3.1 (As := [.int (nI 1)]) (mX3_fails hM3 hst hbx) (lw_V q1458 q1460 qs31 q65 q1461) rfl hd_X3_fails rfl (Nat.le_of_ble_eq_true rfl) (by decide) (by decide) (by decide) (by decide) rfl dX3_height_24 (fun _ _ h => h.elim) (fun r7 V8 hP9 => ?_)
    obtain ⟨hM10, rfl⟩ := hP9
    refine z_st (st' := [.int 0]) rfl ?_
    exact z_iret C hQ 0 rfl ⟨F, by rw [e1]; exact (show mR D _ m A _ _ (qS st rch bx wt ins hld unt Y ap ab hr ln sa mv nw lf) from ⟨hM10, hE, hU, hy, hA⟩), fun _ => oRes e1⟩ (by decide) (by decide) dX3_height_27
  · skip
    have hs : vN v1 < st := by have := c10; simpa using this
    have hv11 := vN_of (v := v1) hs (by omega)
    have e12 : (.int v1 : Value) = .int (nI (vN v1)) := (congrArg Value.int hv11)
    refine z_lv (lv' := [(0, .ref m), (1, .int (nI (vN v1)))]) (by rw [e12]) ?_
    have e1 : oHeight (qS st rch bx wt ins hld unt Y ap ab hr ln sa mv nw lf) (vN v1) = (0, nI (Y (vN v1)).length, (qS st rch bx wt ins hld unt Y ap ab hr ln sa mv nw lf)) := if_pos hs
    refine z_aload_n C 0 rfl dX3_height_13 rfl ?_
    refine z_get C k_M hM3.1 9 (by decide) rfl q1396 dX3_height_14 ?_
    refine z_iload_n C 1 rfl dX3_height_17 rfl ?_
    have ga13 : V1 (A 5) = some (.inl (D.arr 0, 24, .inl (F 5))) := hM3.2.1 5 (by decide)
    refine z_iald C ga13 (by omega) (by omega) (v := (nI ((Y (vN v1)).length))) (mY_len hy (vN v1) (by omega)) dX3_height_18 ?_
    refine z_goto C 27 dX3_height_19 (by decide) ?_
    exact z_iret C hQ (nI ((Y (vN v1)).length)) rfl ⟨F, by rw [e1]; exact (show mR D _ m A _ _ (qS st rch bx wt ins hld unt Y ap ab hr ln sa mv nw lf) from ⟨hM3, hE, hU, hy, hA⟩), fun _ => oRes e1⟩ (by decide) (by decide) dX3_height_27
set_option maxHeartbeats 4000000 in
set_option maxRecDepth 100000 in
theorem mX3_boxAt {l : Launch} {D : ZD} {V : ZV} {kk m : Nat} {A : Nat → Nat} {F : Nat → Nat → Int32} {cd : Int32} {st : Nat} {rch : Nat → Nat} {bx : Nat} {wt : Nat → Nat} {ins : Nat → Bool} {hld : Nat → Int32} {unt : Nat → Nat} {Y : YD} {ap : Nat} {ab hr ln : Nat → Nat} {sa : Nat → Int32} {mv : Int32} {nw : Nat} {lf : Int64} (hR : mR D V m A F cd (qS st rch bx wt ins hld unt Y ap ab hr ln sa mv nw lf)) (hI : qI kk (qS st rch bx wt ins hld unt Y ap ab hr ln sa mv nw lf)) {v1 v2 : Int32} : ZM l D yX3_boxAt (ws_ yX3_boxAt cX3_boxAt 3 (some .int)) 3 0 0 eI V [.ref m, .int v1, .int v2] (fun r V' => ∃ F2, mR D V' m A F2 (nI (oBoxAt (qS st rch bx wt ins hld unt Y ap ab hr ln sa mv nw lf) (vN v1) (vN v2)).1) (oBoxAt (qS st rch bx wt ins hld unt Y ap ab hr ln sa mv nw lf) (vN v1) (vN v2)).2.2 ∧ ((oBoxAt (qS st rch bx wt ins hld unt Y ap ab hr ln sa mv nw lf) (vN v1) (vN v2)).1 = 0 → r = (oBoxAt (qS st rch bx wt ins hld unt Y ap ab hr ln sa mv nw lf) (vN v1) (vN v2)).2.1)) zno_x := by
  refine z_enter (by decide +kernel) [(0, .ref m), (1, .int v1), (2, .int v2)] rfl (Nat.le_of_ble_eq_true rfl) (zcat_cons rfl (zcat_cons rfl (zcat_cons rfl zcat_nil))) (fun Γ C hQ => ?_)
  have hM : MX D V m A F cd nw st bx mv ap lf := hR.1
  have hE : mE F st bx rch wt ins hld := hR.2.1
  have hU : ∀ b, b < 20 → F 4 b = nI (unt b) := hR.2.2.1
  have hy : mY F 0 Y := hR.2.2.2.1
  have hA : ∀ a, a < ap → F 8 a = nI (ab a) ∧ F 9 a = nI (hr a) ∧ F 10 a = nI (ln a) ∧ F 11 a = sa a := hR.2.2.2.2
  have hst : st ≤ 4 := hI.1.1
  have hbx : bx ≤ 20 := hI.1.2.1
  have hrc : ∀ s, s < st → rch s ≤ 4 := fun s hs => (hI.1.2.2.1 s hs).2
  have hwt : ∀ b, b < bx → wt b < 1000 := fun b hb => by have h9 : wt b ≤ 30 := (hI.1.2.2.2 b hb).2; omega
  have hg : yGood st bx ins Y := hI.2.1.1
  have hht : ∀ s, s < st → (Y s).length ≤ rch s := hI.2.1.2.1
  have hu1 : ∀ b, unt b ≤ 1000 := hI.2.2.1.2.1
  have hhl : ∀ b, b < bx → hld b = nI 45 ∨ hld b = nI 112 ∨ hld b = nI 108 := hI.2.2.1.2.2
  have hap : ap ≤ 30 := hI.2.2.2.1.1
  have haa : ∀ a, a < ap → ab a < bx ∧ hr a ≤ 999 ∧ ln a < 3 ∧ (sa a = nI 98 ∨ sa a = nI 99 ∨ sa a = nI 103 ∨ sa a = nI 100 ∨ sa a = nI 109) := hI.2.2.2.1.2.1
  have hnw : nw ≤ 999 := hI.2.2.2.2
  have hY4 : ∀ s, (Y s).length ≤ 4 := hg.1.1
  have hmm : ∀ s, ∀ c ∈ Y s, c < bx := fun s c hc => (hg.2.2 s c hc).1
  refine z_aload_n C 0 rfl dX3_boxAt_0 rfl ?_
  refine z_iconst C (v := (nI 0)) dX3_boxAt_1 rfl ?_
  refine z_put C k_M hM.1 0 (by decide) [.int (nI 0), .int (nI nw), .int (nI st), .ref (A 0), .int (nI bx), .ref (A 1), .ref (A 2), .ref (A 3), .ref (A 4), .ref (A 5), .ref (A 6), .ref (A 7), .int mv, .int (nI ap), .ref (A 8), .ref (A 9), .ref (A 10), .ref (A 11), .long lf] rfl (Nat.le_of_ble_eq_true rfl) rfl rfl rfl q1387 dX3_boxAt_2 (z_nV (fun V1 hV2 => ?_))
  have hM3 := MX.ob (cd2 := (nI 0)) (nw2 := nw) (st2 := st) (bx2 := bx) (mv2 := mv) (ap2 := ap) (lf2 := lf) hM hV2
  refine z_aload_n C 0 rfl dX3_boxAt_5 rfl ?_
  refine z_iload_n C 1 rfl dX3_boxAt_6 rfl ?_
  refine z_callV C k_M hM3.1 (As := [.int v1]) (mX3_isStack (show mR D _ m A _ _ (qS st rch bx wt ins hld unt Y ap ab hr ln sa mv nw lf) from ⟨hM3, hE, hU, hy, hA⟩) hI) (lw_V q1466 q1468 qs32 q65 q1469) rfl hd_X3_isStack rfl (Nat.le_of_ble_eq_true rfl) (by decide) (by decide) (by decide) (by decide) rfl dX3_boxAt_7 (fun _ _ h => h.elim) (fun r4 V5 hP6 => ?_)
  rw [hP6.1, hP6.2]
  refine z_st (st' := [.int (zb (decide (vN v1 < st)))]) rfl ?_
  refine z_if_neB C 19 dX3_boxAt_10 (by decide) (fun c10 => ?_) (fun c10 => ?_)
  · skip
    have hs : vN v1 < st := by have := c10; simpa using this
    have hv7 := vN_of (v := v1) hs (by omega)
    have e8 : (.int v1 : Value) = .int (nI (vN v1)) := (congrArg Value.int hv7)
    refine z_lv (lv' := [(0, .ref m), (1, .int (nI (vN v1))), (2, .int v2)]) (by rw [e8]) ?_
    have hl4 := hY4 (vN v1)
    refine z_iload_n C 2 rfl dX3_boxAt_19 rfl ?_
    refine z_iconst C (v := (nI 0)) dX3_boxAt_20 rfl ?_
    refine z_aload_n C 0 rfl dX3_boxAt_21 rfl ?_
    refine z_get C k_M hM3.1 9 (by decide) rfl q1396 dX3_boxAt_22 ?_
    refine z_iload_n C 1 rfl dX3_boxAt_25 rfl ?_
    have ga9 : V1 (A 5) = some (.inl (D.arr 0, 24, .inl (F 5))) := hM3.2.1 5 (by decide)
    refine z_iald C ga9 (by omega) (by omega) (v := (nI ((Y (vN v1)).length))) (mY_len hy (vN v1) (by omega)) dX3_boxAt_26 ?_
    refine z_iconst C (v := (nI 1)) dX3_boxAt_27 rfl ?_
    refine z_isub C dX3_boxAt_28 ?_
    refine z_callS C (As := [.int v2, .int (nI 0), .int ((nI ((Y (vN v1)).length)) - (nI 1))]) (mX3_in) (lw_S q1455 q1456 q65 q1457) hd_X3_in rfl (Nat.le_of_ble_eq_true rfl) (by decide) (by decide) (by decide) (by decide) rfl dX3_boxAt_29 (fun _ _ h => h.elim) (fun r10 V11 hP12 => ?_)
    have hq13 : r10 = decide (0 ≤ vN v2 ∧ vN v2 < ((Y (vN v1)).length)) := hP12.2.trans (in_lt (by omega) (by omega))
    rw [hP12.1, hq13]
    refine z_st (st' := [.int (zb (decide (0 ≤ vN v2 ∧ vN v2 < ((Y (vN v1)).length))))]) rfl ?_
    refine z_if_eqB C 48 dX3_boxAt_32 (by decide) (fun c32 => ?_) (fun c32 => ?_)
    · skip
      have e1 : oBoxAt (qS st rch bx wt ins hld unt Y ap ab hr ln sa mv nw lf) (vN v1) (vN v2) = (2, 0, (qS st rch bx wt ins hld unt Y ap ab hr ln sa mv nw lf)) := (if_neg (not_not_intro hs)).trans (if_neg (by have := c32; simp at this; exact Nat.not_lt.mpr this))
      refine z_aload_n C 0 rfl dX3_boxAt_48 rfl ?_
      refine z_iconst C (v := (nI 2)) dX3_boxAt_49 rfl ?_
      refine z_callV C k_M hM3.1 (As := [.int (nI 2)]) (mX3_fails hM3 hst hbx) (lw_V q1458 q1460 qs31 q65 q1461) rfl hd_X3_fails rfl (Nat.le_of_ble_eq_true rfl) (by decide) (by decide) (by decide) (by decide) rfl dX3_boxAt_50 (fun _ _ h => h.elim) (fun r14 V15 hP16 => ?_)
      obtain ⟨hM17, rfl⟩ := hP16
      refine z_st (st' := [.int 0]) rfl ?_
      exact z_iret C hQ 0 rfl ⟨F, by rw [e1]; exact (show mR D _ m A _ _ (qS st rch bx wt ins hld unt Y ap ab hr ln sa mv nw lf) from ⟨hM17, hE, hU, hy, hA⟩), fun _ => oRes e1⟩ (by decide) (by decide) dX3_boxAt_53
    · skip
      have hk : vN v2 < (Y (vN v1)).length := by have := c32; simpa using this
      have hv18 := vN_of (v := v2) hk (by omega)
      have e19 : (.int v2 : Value) = .int (nI (vN v2)) := (congrArg Value.int hv18)
      refine z_lv (lv' := [(0, .ref m), (1, .int (nI (vN v1))), (2, .int (nI (vN v2)))]) (by rw [e19]) ?_
      obtain ⟨u, hu⟩ : ∃ u, (Y (vN v1))[vN v2]? = some u := ⟨_, List.getElem?_eq_getElem hk⟩
      have e1 : oBoxAt (qS st rch bx wt ins hld unt Y ap ab hr ln sa mv nw lf) (vN v1) (vN v2) = (0, nI ((Y (vN v1)).getD (vN v2) 0), (qS st rch bx wt ins hld unt Y ap ab hr ln sa mv nw lf)) := (if_neg (not_not_intro hs)).trans (if_pos hk)
      refine z_aload_n C 0 rfl dX3_boxAt_35 rfl ?_
      refine z_get C k_M hM3.1 10 (by decide) rfl q1397 dX3_boxAt_36 ?_
      refine z_iconst C (v := (nI 4)) dX3_boxAt_39 rfl ?_
      refine z_iload_n C 1 rfl dX3_boxAt_40 rfl ?_
      refine z_imulN C dX3_boxAt_41 ?_
      refine z_iload_n C 2 rfl dX3_boxAt_42 rfl ?_
      refine z_iaddN C dX3_boxAt_43 ?_
      have ga20 : V1 (A 6) = some (.inl (D.arr 0, 96, .inl (F 6))) := hM3.2.1 6 (by decide)
      refine z_iald C ga20 (by omega) (by omega) (v := (nI u)) (mY_box hy _ _ _ (by omega) hu) dX3_boxAt_44 ?_
      refine z_goto C 53 dX3_boxAt_45 (by decide) ?_
      exact z_iret C hQ (nI u) rfl ⟨F, by rw [e1]; exact (show mR D _ m A _ _ (qS st rch bx wt ins hld unt Y ap ab hr ln sa mv nw lf) from ⟨hM3, hE, hU, hy, hA⟩), fun _ => Eq.trans (by rw [List.getD_eq_getElem?_getD, hu]; rfl) (oRes e1)⟩ (by decide) (by decide) dX3_boxAt_53
  · skip
    have e1 : oBoxAt (qS st rch bx wt ins hld unt Y ap ab hr ln sa mv nw lf) (vN v1) (vN v2) = (1, 0, (qS st rch bx wt ins hld unt Y ap ab hr ln sa mv nw lf)) := if_pos (by have := c10; simp at this; exact Nat.not_lt.mpr this)
    refine z_aload_n C 0 rfl dX3_boxAt_13 rfl ?_
    refine z_iconst C (v := (nI 1)) dX3_boxAt_14 rfl ?_
    refine z_callV C k_M hM3.1 (As := [.int (nI 1)]) (mX3_fails hM3 hst hbx) (lw_V q1458 q1460 qs31 q65 q1461) rfl hd_X3_fails rfl (Nat.le_of_ble_eq_true rfl) (by decide) (by decide) (by decide) (by decide) rfl dX3_boxAt_15 (fun _ _ h => h.elim) (fun r21 V22 hP23 => ?_)
    obtain ⟨hM24, rfl⟩ := hP23
    refine z_st (st' := [.int 0]) rfl ?_
    exact z_iret C hQ 0 rfl ⟨F, by rw [e1]; exact (show mR D _ m A _ _ (qS st rch bx wt ins hld unt Y ap ab hr ln sa mv nw lf) from ⟨hM24, hE, hU, hy, hA⟩), fun _ => oRes e1⟩ (by decide) (by decide) dX3_boxAt_18
