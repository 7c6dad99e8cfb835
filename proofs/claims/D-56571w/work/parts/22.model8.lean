/-! MODEL: book .. inLane, now, left, share -/
set_option maxRecDepth 100000
theorem mA_new {F F2 : Nat → Nat → Int32} {ap : Nat} {ab hr ln : Nat → Nat} {sa : Nat → Int32} (h : ∀ a, a < ap → F 8 a = nI (ab a) ∧ F 9 a = nI (hr a) ∧ F 10 a = nI (ln a) ∧ F 11 a = sa a) (x y z : Nat) (v : Int32)
    (h8 : F2 8 = va_up (F 8) ap (nI x)) (h9 : F2 9 = va_up (F 9) ap (nI y)) (h10 : F2 10 = va_up (F 10) ap (nI z)) (h11 : F2 11 = va_up (F 11) ap v) : ∀ a, a < ap + 1 → F2 8 a = nI (va_up ab ap x a) ∧ F2 9 a = nI (va_up hr ap y a) ∧ F2 10 a = nI (va_up ln ap z a) ∧ F2 11 a = va_up sa ap v a := fun a ha => by
  rw [h8, h9, h10, h11]
  by_cases e : a = ap
  · subst e; simp only [zvs, and_self]
  · simp only [zvn e]; exact h a (by omega)
set_option maxHeartbeats 4000000 in
set_option maxRecDepth 100000 in
theorem mX3_book {l : Launch} {D : ZD} {V : ZV} {kk m : Nat} {A : Nat → Nat} {F : Nat → Nat → Int32} {cd : Int32} {st : Nat} {rch : Nat → Nat} {bx : Nat} {wt : Nat → Nat} {ins : Nat → Bool} {hld : Nat → Int32} {unt : Nat → Nat} {Y : YD} {ap : Nat} {ab hr ln : Nat → Nat} {sa : Nat → Int32} {mv : Int32} {nw : Nat} {lf : Int64} (hR : mR D V m A F cd (qS st rch bx wt ins hld unt Y ap ab hr ln sa mv nw lf)) (hI : qI kk (qS st rch bx wt ins hld unt Y ap ab hr ln sa mv nw lf)) {v1 v2 v3 : Int32} : ZM l D yX3_book (ws_ yX3_book cX3_book 4 (some .int)) 3 0 0 eI V [.ref m, .int v1, .int v2, .int v3] (fun r V' => ∃ F2, mR D V' m A F2 (nI (oBook (qS st rch bx wt ins hld unt Y ap ab hr ln sa mv nw lf) (vN v1) (vN v2) (vN v3)).1) (oBook (qS st rch bx wt ins hld unt Y ap ab hr ln sa mv nw lf) (vN v1) (vN v2) (vN v3)).2.2 ∧ ((oBook (qS st rch bx wt ins hld unt Y ap ab hr ln sa mv nw lf) (vN v1) (vN v2) (vN v3)).1 = 0 → r = (oBook (qS st rch bx wt ins hld unt Y ap ab hr ln sa mv nw lf) (vN v1) (vN v2) (vN v3)).2.1)) zno_x := by
  refine z_enter (by decide +kernel) [(0, .ref m), (1, .int v1), (2, .int v2), (3, .int v3)] rfl (Nat.le_of_ble_eq_true rfl) (zcat_cons rfl (zcat_cons rfl (zcat_cons rfl (zcat_cons rfl zcat_nil)))) (fun Γ C hQ => ?_)
  have hM : MX D V m A F cd nw st bx mv ap lf := hR.1
  have hE : mE F st bx rch wt ins hld := hR.2.1
  have hU : ∀ b, b < 20 → F 4 b = nI (unt b) := hR.2.2.1
  have hy : mY F 0 Y := hR.2.2.2.1
  have hA : ∀ a, a < ap → F 8 a = nI (ab a) ∧ F 9 a = nI (hr a) ∧ F 10 a = nI (ln a) ∧ F 11 a = sa a := hR.2.2.2.2
  have hst : st ≤ 4 := hI.1.1
  have hbx : bx ≤ 20 := hI.1.2.1
  have hrc : ∀ s, s < st → rch s ≤ 4 := fun s hs => (hI.1.2.2.1 s hs).2
  have hwt : ∀ b, b < bx → wt b < 1000 := fun b hb => by have h9 : wt b ≤ 30 := (hI.1.2.2.2 b hb).2; omega
  have hg : yGood st bx ins Y := hI.2.1.1
  have hht : ∀ s, s < st → (Y s).length ≤ rch s := hI.2.1.2.1
  have hu1 : ∀ b, unt b ≤ 1000 := hI.2.2.1.2.1
  have hhl : ∀ b, b < bx → hld b = nI 45 ∨ hld b = nI 112 ∨ hld b = nI 108 := hI.2.2.1.2.2
  have hap : ap ≤ 30 := hI.2.2.2.1.1
  have haa : ∀ a, a < ap → ab a < bx ∧ hr a ≤ 999 ∧ ln a < 3 ∧ (sa a = nI 98 ∨ sa a = nI 99 ∨ sa a = nI 103 ∨ sa a = nI 100 ∨ sa a = nI 109) := hI.2.2.2.1.2.1
  have hnw : nw ≤ 999 := hI.2.2.2.2
  have hY4 : ∀ s, (Y s).length ≤ 4 := hg.1.1
  have hmm : ∀ s, ∀ c ∈ Y s, c < bx := fun s c hc => (hg.2.2 s c hc).1
  refine z_aload_n C 0 rfl dX3_book_0 rfl ?_
  refine z_iconst C (v := (nI 0)) dX3_book_1 rfl ?_
  refine z_put C k_M hM.1 0 (by decide) [.int (nI 0), .int (nI nw), .int (nI st), .ref (A 0), .int (nI bx), .ref (A 1), .ref (A 2), .ref (A 3), .ref (A 4), .ref (A 5), .ref (A 6), .ref (A 7), .int mv, .int (nI ap), .ref (A 8), .ref (A 9), .ref (A 10), .ref (A 11), .long lf] rfl (Nat.le_of_ble_eq_true rfl) rfl rfl rfl q1387 dX3_book_2 (z_nV (fun V1 hV2 => ?_))
  have hM3 := MX.ob (cd2 := (nI 0)) (nw2 := nw) (st2 := st) (bx2 := bx) (mv2 := mv) (ap2 := ap) (lf2 := lf) hM hV2
  refine z_aload_n C 0 rfl dX3_book_5 rfl ?_
  refine z_iload_n C 1 rfl dX3_book_6 rfl ?_
  refine z_callV C k_M hM3.1 (As := [.int v1]) (mX3_isBox (show mR D _ m A _ _ (qS st rch bx wt ins hld unt Y ap ab hr ln sa mv nw lf) from ⟨hM3, hE, hU, hy, hA⟩) hI) (lw_V q1494 q1496 qs37 q65 q1497) rfl hd_X3_isBox rfl (Nat.le_of_ble_eq_true rfl) (by decide) (by decide) (by decide) (by decide) rfl dX3_book_7 (fun _ _ h => h.elim) (fun r4 V5 hP6 => ?_)
  rw [hP6.1, hP6.2]
  refine z_st (st' := [.int (zb (qIs (qS st rch bx wt ins hld unt Y ap ab hr ln sa mv nw lf) (vN v1)))]) rfl ?_
  refine z_if_eqB C 22 dX3_book_10 (by decide) (fun c10 => ?_) (fun c10 => ?_)
  · skip
    have e1 : oBook (qS st rch bx wt ins hld unt Y ap ab hr ln sa mv nw lf) (vN v1) (vN v2) (vN v3) = (1, 0, (qS st rch bx wt ins hld unt Y ap ab hr ln sa mv nw lf)) := if_pos (fun h => by rw [show qIs (qS st rch bx wt ins hld unt Y ap ab hr ln sa mv nw lf) (vN v1) = false by simpa using c10] at h; exact absurd h.1 (by decide))
    refine z_aload_n C 0 rfl dX3_book_22 rfl ?_
    refine z_iconst C (v := (nI 1)) dX3_book_23 rfl ?_
    refine z_callV C k_M hM3.1 (As := [.int (nI 1)]) (mX3_fails hM3 hst hbx) (lw_V q1458 q1460 qs31 q65 q1461) rfl hd_X3_fails rfl (Nat.le_of_ble_eq_true rfl) (by decide) (by decide) (by decide) (by decide) rfl dX3_book_24 (fun _ _ h => h.elim) (fun r7 V8 hP9 => ?_)
    obtain ⟨hM10, rfl⟩ := hP9
    refine z_st (st' := [.int 0]) rfl ?_
    exact z_iret C hQ 0 rfl ⟨F, by rw [e1]; exact (show mR D _ m A _ _ (qS st rch bx wt ins hld unt Y ap ab hr ln sa mv nw lf) from ⟨hM10, hE, hU, hy, hA⟩), fun _ => oRes e1⟩ (by decide) (by decide) dX3_book_27
  · skip
    have hq : qIs (qS st rch bx wt ins hld unt Y ap ab hr ln sa mv nw lf) (vN v1) = true := by simpa using c10
    obtain ⟨hbb, hbi⟩ := qIs_t (S := (qS st rch bx wt ins hld unt Y ap ab hr ln sa mv nw lf)) (by simpa using c10)
    have hbb : vN v1 < bx := hbb
    have hbi : ins (vN v1) = true := hbi
    have hv11 := vN_of (v := v1) hbb (by omega)
    have e12 : (.int v1 : Value) = .int (nI (vN v1)) := (congrArg Value.int hv11)
    refine z_lv (lv' := [(0, .ref m), (1, .int (nI (vN v1))), (2, .int v2), (3, .int v3)]) (by rw [e12]) ?_
    obtain ⟨p0, hb0⟩ := hg.2.1 _ hbb hbi
    have hb : vN v1 ∈ Y (yPl Y (vN v1)) := by rw [yPl_eq hg.1 hst hb0]; exact hb0
    have hpst := hg.1.lt hb
    have hq0 : ¬ qIs (qS st rch bx wt ins hld unt Y ap ab hr ln sa mv nw lf) (vN v1) = false := by rw [hq]; decide
    refine z_iload_n C 3 rfl dX3_book_13 rfl ?_
    refine z_iconst C (v := (nI 0)) dX3_book_14 rfl ?_
    refine z_iconst C (v := (nI 2)) dX3_book_15 rfl ?_
    refine z_callS C (As := [.int v3, .int (nI 0), .int (nI 2)]) (mX3_in) (lw_S q1455 q1456 q65 q1457) hd_X3_in rfl (Nat.le_of_ble_eq_true rfl) (by decide) (by decide) (by decide) (by decide) rfl dX3_book_16 (fun _ _ h => h.elim) (fun r13 V14 hP15 => ?_)
    have hq16 : r13 = decide (0 ≤ vN v3 ∧ vN v3 ≤ 2) := hP15.2.trans (in_le (by omega) (by omega))
    rw [hP15.1, hq16]
    refine z_st (st' := [.int (zb (decide (0 ≤ vN v3 ∧ vN v3 ≤ 2)))]) rfl ?_
    refine z_if_neB C 28 dX3_book_19 (by decide) (fun c19 => ?_) (fun c19 => ?_)
    · skip
      have hl : vN v3 ≤ 2 := by have := c19; simpa using this
      have hv17 := vN_of (v := v3) (show vN v3 < 3 by omega) (by omega)
      have e18 : (.int v3 : Value) = .int (nI (vN v3)) := (congrArg Value.int hv17)
      refine z_lv (lv' := [(0, .ref m), (1, .int (nI (vN v1))), (2, .int v2), (3, .int (nI (vN v3)))]) (by rw [e18]) ?_
      have n1 : ¬¬(qIs (qS st rch bx wt ins hld unt Y ap ab hr ln sa mv nw lf) (vN v1) = true ∧ vN v3 ≤ 2) := not_not_intro ⟨hq, hl⟩
      refine z_iload_n C 2 rfl dX3_book_28 rfl ?_
      refine z_aload_n C 0 rfl dX3_book_29 rfl ?_
      refine z_get C k_M hM3.1 1 (by decide) rfl q1388 dX3_book_30 ?_
      refine z_iconst C (v := (nI 1)) dX3_book_33 rfl ?_
      refine z_iaddN C dX3_book_34 ?_
      refine z_sipush C (v := (nI 999)) dX3_book_35 rfl ?_
      refine z_callS C (As := [.int v2, .int (nI (nw + 1)), .int (nI 999)]) (mX3_in) (lw_S q1455 q1456 q65 q1457) hd_X3_in rfl (Nat.le_of_ble_eq_true rfl) (by decide) (by decide) (by decide) (by decide) rfl dX3_book_38 (fun _ _ h => h.elim) (fun r19 V20 hP21 => ?_)
      have hq22 : r19 = decide (nw + 1 ≤ vN v2 ∧ vN v2 ≤ 999) := hP21.2.trans (in_le (by omega) (by omega))
      rw [hP21.1, hq22]
      refine z_st (st' := [.int (zb (decide (nw + 1 ≤ vN v2 ∧ vN v2 ≤ 999)))]) rfl ?_
      refine z_if_neB C 50 dX3_book_41 (by decide) (fun c41 => ?_) (fun c41 => ?_)
      · skip
        have hh : nw + 1 ≤ vN v2 ∧ vN v2 ≤ 999 := by have := c41; simpa using this
        have hv23 := vN_of (v := v2) (show vN v2 < 1000 by omega) (by omega)
        have e24 : (.int v2 : Value) = .int (nI (vN v2)) := (congrArg Value.int hv23)
        refine z_lv (lv' := [(0, .ref m), (1, .int (nI (vN v1))), (2, .int (nI (vN v2))), (3, .int (nI (vN v3)))]) (by rw [e24]) ?_
        have n2 : ¬¬(qnw (qS st rch bx wt ins hld unt Y ap ab hr ln sa mv nw lf) + 1 ≤ vN v2 ∧ vN v2 ≤ 999) := not_not_intro hh
        refine z_aload_n C 0 rfl dX3_book_50 rfl ?_
        refine z_iload_n C 1 rfl dX3_book_51 rfl ?_
        refine z_iload_n C 2 rfl dX3_book_52 rfl ?_
        refine z_callV C k_M hM3.1 (As := [.int (nI (vN v1)), .int (nI (vN v2))]) (mX3_isHeldIn (show mR D _ m A _ _ (qS st rch bx wt ins hld unt Y ap ab hr ln sa mv nw lf) from ⟨hM3, hE, hU, hy, hA⟩) hI (x := vN v1) (y := vN v2) (by omega) (by omega)) (lw_V q1638 q1640 qs53 q65 q1641) rfl hd_X3_isHeldIn rfl (Nat.le_of_ble_eq_true rfl) (by decide) (by decide) (by decide) (by decide) rfl dX3_book_53 (fun _ _ h => h.elim) (fun r25 V26 hP27 => ?_)
        rw [hP27.1, hP27.2]
        refine z_st (st' := [.int (zb (qHeld (qS st rch bx wt ins hld unt Y ap ab hr ln sa mv nw lf) (vN v1) (vN v2)))]) rfl ?_
        refine z_if_eqB C 65 dX3_book_56 (by decide) (fun c56 => ?_) (fun c56 => ?_)
        · skip
          have n3 : ¬ qHeld (qS st rch bx wt ins hld unt Y ap ab hr ln sa mv nw lf) (vN v1) (vN v2) = true := by rw [c56]; decide
          refine z_aload_n C 0 rfl dX3_book_65 rfl ?_
          refine z_iload_n C 1 rfl dX3_book_66 rfl ?_
          refine z_callV C k_M hM3.1 (As := [.int (nI (vN v1))]) (mX3_appointmentIn (show mR D _ m A _ _ (qS st rch bx wt ins hld unt Y ap ab hr ln sa mv nw lf) from ⟨hM3, hE, hU, hy, hA⟩) hI (b := vN v1) (by omega)) (lw_V q1538 q1540 qs41 q65 q1541) rfl hd_X3_appointmentIn rfl (Nat.le_of_ble_eq_true rfl) (by decide) (by decide) (by decide) (by decide) rfl dX3_book_67 (fun _ _ h => h.elim) (fun r28 V29 hP30 => ?_)
          rw [hP30.1, hP30.2]
          refine z_st (st' := [.int (oInt (qAin (qS st rch bx wt ins hld unt Y ap ab hr ln sa mv nw lf) (vN v1)))]) rfl ?_
          rcases ho : qAin (qS st rch bx wt ins hld unt Y ap ab hr ln sa mv nw lf) (vN v1) with _ | a0
          · skip
            have e31 : (.int (oInt none) : Value) = .int (-1) := rfl
            refine z_st (st' := [.int (-1)]) (by rw [e31]) ?_
            have n4 : qAin (qS st rch bx wt ins hld unt Y ap ab hr ln sa mv nw lf) (vN v1) = none := ho
            refine z_iconst C (v := (-1)) dX3_book_70 rfl ?_
            refine z_icmp_ne C 93 dX3_book_71 (by decide) (fun c71 => ?_) (fun c71 => ?_)
            · skip
              exfalso; exact absurd rfl c71
            · skip
              refine z_aload_n C 0 rfl dX3_book_74 rfl ?_
              refine z_iload_n C 3 rfl dX3_book_75 rfl ?_
              refine z_iload_n C 2 rfl dX3_book_76 rfl ?_
              refine z_callV C k_M hM3.1 (As := [.int (nI (vN v3)), .int (nI (vN v2))]) (mX3_bookedIn (show mR D _ m A _ _ (qS st rch bx wt ins hld unt Y ap ab hr ln sa mv nw lf) from ⟨hM3, hE, hU, hy, hA⟩) hI (x := vN v3) (y := vN v2) (by omega) (by omega)) (lw_V q1642 q1644 qs54 q65 q1645) rfl hd_X3_bookedIn rfl (Nat.le_of_ble_eq_true rfl) (by decide) (by decide) (by decide) (by decide) rfl dX3_book_77 (fun _ _ h => h.elim) (fun r32 V33 hP34 => ?_)
              rw [hP34.1, hP34.2]
              refine z_st (st' := [.int (oInt (qBin (qS st rch bx wt ins hld unt Y ap ab hr ln sa mv nw lf) (vN v3) (vN v2)))]) rfl ?_
              rcases ho2 : qBin (qS st rch bx wt ins hld unt Y ap ab hr ln sa mv nw lf) (vN v3) (vN v2) with _ | a0
              · skip
                have e35 : (.int (oInt none) : Value) = .int (-1) := rfl
                refine z_st (st' := [.int (-1)]) (by rw [e35]) ?_
                have n5 : qBin (qS st rch bx wt ins hld unt Y ap ab hr ln sa mv nw lf) (vN v3) (vN v2) = none := ho2
                refine z_iconst C (v := (-1)) dX3_book_80 rfl ?_
                refine z_icmp_ne C 93 dX3_book_81 (by decide) (fun c81 => ?_) (fun c81 => ?_)
                · skip
                  exfalso; exact absurd rfl c81
                · skip
                  refine z_aload_n C 0 rfl dX3_book_84 rfl ?_
                  refine z_get C k_M hM3.1 13 (by decide) rfl q1400 dX3_book_85 ?_
                  refine z_bipush C (v := (nI 30)) dX3_book_88 rfl ?_
                  refine z_icmp_neN C 99 (by omega) (by omega) dX3_book_90 (by decide) (fun c90 => ?_) (fun c90 => ?_)
                  · skip
                    have hap2 : ap < 30 := by omega
                    have e1 : oBook (qS st rch bx wt ins hld unt Y ap ab hr ln sa mv nw lf) (vN v1) (vN v2) (vN v3) = (0, nI ap, (qS st rch bx wt ins hld unt Y (ap + 1) (va_up ab ap (vN v1)) (va_up hr ap (vN v2)) (va_up ln ap (vN v3)) (va_up sa ap (nI 98)) mv nw lf)) := (if_neg n1).trans ((if_neg n2).trans ((if_neg n3).trans (if_neg (fun h => by rcases h with h | h | h; exact h n4; exact h n5; exact c90 h))))
                    refine z_aload_n C 0 rfl dX3_book_99 rfl ?_
                    refine z_get C k_M hM3.1 14 (by decide) rfl q1401 dX3_book_100 ?_
                    refine z_aload_n C 0 rfl dX3_book_103 rfl ?_
                    refine z_get C k_M hM3.1 13 (by decide) rfl q1400 dX3_book_104 ?_
                    refine z_iload_n C 1 rfl dX3_book_107 rfl ?_
                    have ga36 : V1 (A 8) = some (.inl (D.arr 0, 30, .inl (F 8))) := hM3.2.1 8 (by decide)
                    refine z_iast C ga36 (by omega) (by omega) dX3_book_108 (z_nV (fun V37 hV38 => ?_))
                    have hM39 := MX.st hM3 8 (by decide) (f := va_up (F 8) ap (nI (vN v1))) hV38
                    refine z_aload_n C 0 rfl dX3_book_109 rfl ?_
                    refine z_get C k_M hM39.1 15 (by decide) rfl q1402 dX3_book_110 ?_
                    refine z_aload_n C 0 rfl dX3_book_113 rfl ?_
                    refine z_get C k_M hM39.1 13 (by decide) rfl q1400 dX3_book_114 ?_
                    refine z_iload_n C 2 rfl dX3_book_117 rfl ?_
                    have ga40 : V37 (A 9) = some (.inl (D.arr 0, 30, .inl (F 9))) := hM39.2.1 9 (by decide)
                    refine z_iast C ga40 (by omega) (by omega) dX3_book_118 (z_nV (fun V41 hV42 => ?_))
                    have hM43 := MX.st hM39 9 (by decide) (f := va_up (F 9) ap (nI (vN v2))) hV42
                    refine z_aload_n C 0 rfl dX3_book_119 rfl ?_
                    refine z_get C k_M hM43.1 16 (by decide) rfl q1403 dX3_book_120 ?_
                    refine z_aload_n C 0 rfl dX3_book_123 rfl ?_
                    refine z_get C k_M hM43.1 13 (by decide) rfl q1400 dX3_book_124 ?_
                    refine z_iload_n C 3 rfl dX3_book_127 rfl ?_
                    have ga44 : V41 (A 10) = some (.inl (D.arr 0, 30, .inl (F 10))) := hM43.2.1 10 (by decide)
                    refine z_iast C ga44 (by omega) (by omega) dX3_book_128 (z_nV (fun V45 hV46 => ?_))
                    have hM47 := MX.st hM43 10 (by decide) (f := va_up (F 10) ap (nI (vN v3))) hV46
                    refine z_aload_n C 0 rfl dX3_book_129 rfl ?_
                    refine z_get C k_M hM47.1 17 (by decide) rfl q1404 dX3_book_130 ?_
                    refine z_aload_n C 0 rfl dX3_book_133 rfl ?_
                    refine z_get C k_M hM47.1 13 (by decide) rfl q1400 dX3_book_134 ?_
                    refine z_bipush C (v := (nI 98)) dX3_book_137 rfl ?_
                    have ga48 : V45 (A 11) = some (.inl (D.arr 4, 30, .inl (F 11))) := hM47.2.1 11 (by decide)
                    refine z_cast C ga48 (by omega) (by omega) (by decide) dX3_book_139 (z_nV (fun V49 hV50 => ?_))
                    have hM51 := MX.st hM47 11 (by decide) (f := va_up (F 11) ap (nI 98)) hV50
                    refine z_aload_n C 0 rfl dX3_book_140 rfl ?_
                    refine z_dup C dX3_book_141 rfl ?_
                    refine z_get C k_M hM51.1 13 (by decide) rfl q1400 dX3_book_142 ?_
                    refine z_iconst C (v := (nI 1)) dX3_book_145 rfl ?_
                    refine z_iaddN C dX3_book_146 ?_
                    refine z_put C k_M hM51.1 13 (by decide) [.int (nI 0), .int (nI nw), .int (nI st), .ref (A 0), .int (nI bx), .ref (A 1), .ref (A 2), .ref (A 3), .ref (A 4), .ref (A 5), .ref (A 6), .ref (A 7), .int mv, .int (nI (ap + 1)), .ref (A 8), .ref (A 9), .ref (A 10), .ref (A 11), .long lf] rfl (Nat.le_of_ble_eq_true rfl) rfl rfl rfl q1400 dX3_book_147 (z_nV (fun V52 hV53 => ?_))
                    have hM54 := MX.ob (cd2 := (nI 0)) (nw2 := nw) (st2 := st) (bx2 := bx) (mv2 := mv) (ap2 := (ap + 1)) (lf2 := lf) hM51 hV53
                    refine z_aload_n C 0 rfl dX3_book_150 rfl ?_
                    refine z_get C k_M hM54.1 13 (by decide) rfl q1400 dX3_book_151 ?_
                    refine z_iconst C (v := (nI 1)) dX3_book_154 rfl ?_
                    refine z_isub C dX3_book_155 ?_
                    exact z_iret C hQ ((nI (ap + 1)) - (nI 1)) rfl ⟨_, by rw [e1]; exact ⟨hM54, hE, hU, hy, mA_new hA (vN v1) (vN v2) (vN v3) (nI 98) rfl rfl rfl rfl⟩, fun _ => Eq.trans (nI_m1n ap) (oRes e1)⟩ (by decide) (by decide) dX3_book_156
                  · skip
                    have e1 : oBook (qS st rch bx wt ins hld unt Y ap ab hr ln sa mv nw lf) (vN v1) (vN v2) (vN v3) = (4, 0, (qS st rch bx wt ins hld unt Y ap ab hr ln sa mv nw lf)) := (if_neg n1).trans ((if_neg n2).trans ((if_neg n3).trans (if_pos (Or.inr (Or.inr c90)))))
                    refine z_aload_n C 0 rfl dX3_book_93 rfl ?_
                    refine z_iconst C (v := (nI 4)) dX3_book_94 rfl ?_
                    refine z_callV C k_M hM3.1 (As := [.int (nI 4)]) (mX3_fails hM3 hst hbx) (lw_V q1458 q1460 qs31 q65 q1461) rfl hd_X3_fails rfl (Nat.le_of_ble_eq_true rfl) (by decide) (by decide) (by decide) (by decide) rfl dX3_book_95 (fun _ _ h => h.elim) (fun r55 V56 hP57 => ?_)
                    obtain ⟨hM58, rfl⟩ := hP57
                    refine z_st (st' := [.int 0]) rfl ?_
                    exact z_iret C hQ 0 rfl ⟨F, by rw [e1]; exact (show mR D _ m A _ _ (qS st rch bx wt ins hld unt Y ap ab hr ln sa mv nw lf) from ⟨hM58, hE, hU, hy, hA⟩), fun _ => oRes e1⟩ (by decide) (by decide) dX3_book_98
              · skip
                have e59 : (.int (oInt (some a0)) : Value) = .int (nI a0) := rfl
                refine z_st (st' := [.int (nI a0)]) (by rw [e59]) ?_
                have ha0 : a0 < ap := (fF_some ho2).1
                have e1 : oBook (qS st rch bx wt ins hld unt Y ap ab hr ln sa mv nw lf) (vN v1) (vN v2) (vN v3) = (4, 0, (qS st rch bx wt ins hld unt Y ap ab hr ln sa mv nw lf)) := (if_neg n1).trans ((if_neg n2).trans ((if_neg n3).trans (if_pos (Or.inr (Or.inl (by rw [show qBin (qS st rch bx wt ins hld unt Y ap ab hr ln sa mv nw lf) (vN v3) (vN v2) = some a0 from ho2]; simp))))))
                refine z_iconst C (v := (-1)) dX3_book_80 rfl ?_
                refine z_icmp_ne C 93 dX3_book_81 (by decide) (fun c81 => ?_) (fun c81 => ?_)
                · skip
                  refine z_aload_n C 0 rfl dX3_book_93 rfl ?_
                  refine z_iconst C (v := (nI 4)) dX3_book_94 rfl ?_
                  refine z_callV C k_M hM3.1 (As := [.int (nI 4)]) (mX3_fails hM3 hst hbx) (lw_V q1458 q1460 qs31 q65 q1461) rfl hd_X3_fails rfl (Nat.le_of_ble_eq_true rfl) (by decide) (by decide) (by decide) (by decide) rfl dX3_book_95 (fun _ _ h => h.elim) (fun r60 V61 hP62 => ?_)
                  obtain ⟨hM63, rfl⟩ := hP62
                  refine z_st (st' := [.int 0]) rfl ?_
                  exact z_iret C hQ 0 rfl ⟨F, by rw [e1]; exact (show mR D _ m A _ _ (qS st rch bx wt ins hld unt Y ap ab hr ln sa mv nw lf) from ⟨hM63, hE, hU, hy, hA⟩), fun _ => oRes e1⟩ (by decide) (by decide) dX3_book_98
                · skip
                  exfalso; exact absurd c81 (nI_nem1 (by omega))
          · skip
            have e64 : (.int (oInt (some a0)) : Value) = .int (nI a0) := rfl
            refine z_st (st' := [.int (nI a0)]) (by rw [e64]) ?_
            have ha0 : a0 < ap := (fF_some ho).1
            have e1 : oBook (qS st rch bx wt ins hld unt Y ap ab hr ln sa mv nw lf) (vN v1) (vN v2) (vN v3) = (4, 0, (qS st rch bx wt ins hld unt Y ap ab hr ln sa mv nw lf)) := (if_neg n1).trans ((if_neg n2).trans ((if_neg n3).trans (if_pos (Or.inl (by rw [show qAin (qS st rch bx wt ins hld unt Y ap ab hr ln sa mv nw lf) (vN v1) = some a0 from ho]; simp)))))
            refine z_iconst C (v := (-1)) dX3_book_70 rfl ?_
            refine z_icmp_ne C 93 dX3_book_71 (by decide) (fun c71 => ?_) (fun c71 => ?_)
            · skip
              refine z_aload_n C 0 rfl dX3_book_93 rfl ?_
              refine z_iconst C (v := (nI 4)) dX3_book_94 rfl ?_
              refine z_callV C k_M hM3.1 (As := [.int (nI 4)]) (mX3_fails hM3 hst hbx) (lw_V q1458 q1460 qs31 q65 q1461) rfl hd_X3_fails rfl (Nat.le_of_ble_eq_true rfl) (by decide) (by decide) (by decide) (by decide) rfl dX3_book_95 (fun _ _ h => h.elim) (fun r65 V66 hP67 => ?_)
              obtain ⟨hM68, rfl⟩ := hP67
              refine z_st (st' := [.int 0]) rfl ?_
              exact z_iret C hQ 0 rfl ⟨F, by rw [e1]; exact (show mR D _ m A _ _ (qS st rch bx wt ins hld unt Y ap ab hr ln sa mv nw lf) from ⟨hM68, hE, hU, hy, hA⟩), fun _ => oRes e1⟩ (by decide) (by decide) dX3_book_98
            · skip
              exfalso; exact absurd c71 (nI_nem1 (by omega))
        · skip
          have e1 : oBook (qS st rch bx wt ins hld unt Y ap ab hr ln sa mv nw lf) (vN v1) (vN v2) (vN v3) = (3, 0, (qS st rch bx wt ins hld unt Y ap ab hr ln sa mv nw lf)) := (if_neg n1).trans ((if_neg n2).trans (if_pos c56))
          refine z_aload_n C 0 rfl dX3_book_59 rfl ?_
          refine z_iconst C (v := (nI 3)) dX3_book_60 rfl ?_
          refine z_callV C k_M hM3.1 (As := [.int (nI 3)]) (mX3_fails hM3 hst hbx) (lw_V q1458 q1460 qs31 q65 q1461) rfl hd_X3_fails rfl (Nat.le_of_ble_eq_true rfl) (by decide) (by decide) (by decide) (by decide) rfl dX3_book_61 (fun _ _ h => h.elim) (fun r69 V70 hP71 => ?_)
          obtain ⟨hM72, rfl⟩ := hP71
          refine z_st (st' := [.int 0]) rfl ?_
          exact z_iret C hQ 0 rfl ⟨F, by rw [e1]; exact (show mR D _ m A _ _ (qS st rch bx wt ins hld unt Y ap ab hr ln sa mv nw lf) from ⟨hM72, hE, hU, hy, hA⟩), fun _ => oRes e1⟩ (by decide) (by decide) dX3_book_64
      · skip
        have e1 : oBook (qS st rch bx wt ins hld unt Y ap ab hr ln sa mv nw lf) (vN v1) (vN v2) (vN v3) = (2, 0, (qS st rch bx wt ins hld unt Y ap ab hr ln sa mv nw lf)) := (if_neg n1).trans (if_pos (fun h => by have h2 := c41; have h3 : nw + 1 ≤ vN v2 ∧ vN v2 ≤ 999 := h; simp at h2; omega))
        refine z_aload_n C 0 rfl dX3_book_44 rfl ?_
        refine z_iconst C (v := (nI 2)) dX3_book_45 rfl ?_
        refine z_callV C k_M hM3.1 (As := [.int (nI 2)]) (mX3_fails hM3 hst hbx) (lw_V q1458 q1460 qs31 q65 q1461) rfl hd_X3_fails rfl (Nat.le_of_ble_eq_true rfl) (by decide) (by decide) (by decide) (by decide) rfl dX3_book_46 (fun _ _ h => h.elim) (fun r73 V74 hP75 => ?_)
        obtain ⟨hM76, rfl⟩ := hP75
        refine z_st (st' := [.int 0]) rfl ?_
        exact z_iret C hQ 0 rfl ⟨F, by rw [e1]; exact (show mR D _ m A _ _ (qS st rch bx wt ins hld unt Y ap ab hr ln sa mv nw lf) from ⟨hM76, hE, hU, hy, hA⟩), fun _ => oRes e1⟩ (by decide) (by decide) dX3_book_49
    · skip
      have e1 : oBook (qS st rch bx wt ins hld unt Y ap ab hr ln sa mv nw lf) (vN v1) (vN v2) (vN v3) = (1, 0, (qS st rch bx wt ins hld unt Y ap ab hr ln sa mv nw lf)) := if_pos (fun h => by have h2 := c19; have h3 : vN v3 ≤ 2 := h.2; simp at h2; omega)
      refine z_aload_n C 0 rfl dX3_book_22 rfl ?_
      refine z_iconst C (v := (nI 1)) dX3_book_23 rfl ?_
      refine z_callV C k_M hM3.1 (As := [.int (nI 1)]) (mX3_fails hM3 hst hbx) (lw_V q1458 q1460 qs31 q65 q1461) rfl hd_X3_fails rfl (Nat.le_of_ble_eq_true rfl) (by decide) (by decide) (by decide) (by decide) rfl dX3_book_24 (fun _ _ h => h.elim) (fun r77 V78 hP79 => ?_)
      obtain ⟨hM80, rfl⟩ := hP79
      refine z_st (st' := [.int 0]) rfl ?_
      exact z_iret C hQ 0 rfl ⟨F, by rw [e1]; exact (show mR D _ m A _ _ (qS st rch bx wt ins hld unt Y ap ab hr ln sa mv nw lf) from ⟨hM80, hE, hU, hy, hA⟩), fun _ => oRes e1⟩ (by decide) (by decide) dX3_book_27
set_option maxHeartbeats 4000000 in
set_option maxRecDepth 100000 in
theorem mX3_cancel {l : Launch} {D : ZD} {V : ZV} {kk m : Nat} {A : Nat → Nat} {F : Nat → Nat → Int32} {cd : Int32} {st : Nat} {rch : Nat → Nat} {bx : Nat} {wt : Nat → Nat} {ins : Nat → Bool} {hld : Nat → Int32} {unt : Nat → Nat} {Y : YD} {ap : Nat} {ab hr ln : Nat → Nat} {sa : Nat → Int32} {mv : Int32} {nw : Nat} {lf : Int64} (hR : mR D V m A F cd (qS st rch bx wt ins hld unt Y ap ab hr ln sa mv nw lf)) (hI : qI kk (qS st rch bx wt ins hld unt Y ap ab hr ln sa mv nw lf)) {v1 : Int32} : ZM l D yX3_cancel (ws_ yX3_cancel cX3_cancel 2 (some .int)) 2 0 0 eI V [.ref m, .int v1] (fun r V' => ∃ F2, mR D V' m A F2 (nI (oCancel (qS st rch bx wt ins hld unt Y ap ab hr ln sa mv nw lf) (vN v1)).1) (oCancel (qS st rch bx wt ins hld unt Y ap ab hr ln sa mv nw lf) (vN v1)).2.2 ∧ ((oCancel (qS st rch bx wt ins hld unt Y ap ab hr ln sa mv nw lf) (vN v1)).1 = 0 → r = (oCancel (qS st rch bx wt ins hld unt Y ap ab hr ln sa mv nw lf) (vN v1)).2.1)) zno_x := by
  refine z_enter (by decide +kernel) [(0, .ref m), (1, .int v1)] rfl (Nat.le_of_ble_eq_true rfl) (zcat_cons rfl (zcat_cons rfl zcat_nil)) (fun Γ C hQ => ?_)
  have hM : MX D V m A F cd nw st bx mv ap lf := hR.1
  have hE : mE F st bx rch wt ins hld := hR.2.1
  have hU : ∀ b, b < 20 → F 4 b = nI (unt b) := hR.2.2.1
  have hy : mY F 0 Y := hR.2.2.2.1
  have hA : ∀ a, a < ap → F 8 a = nI (ab a) ∧ F 9 a = nI (hr a) ∧ F 10 a = nI (ln a) ∧ F 11 a = sa a := hR.2.2.2.2
  have hst : st ≤ 4 := hI.1.1
  have hbx : bx ≤ 20 := hI.1.2.1
  have hrc : ∀ s, s < st → rch s ≤ 4 := fun s hs => (hI.1.2.2.1 s hs).2
  have hwt : ∀ b, b < bx → wt b < 1000 := fun b hb => by have h9 : wt b ≤ 30 := (hI.1.2.2.2 b hb).2; omega
  have hg : yGood st bx ins Y := hI.2.1.1
  have hht : ∀ s, s < st → (Y s).length ≤ rch s := hI.2.1.2.1
  have hu1 : ∀ b, unt b ≤ 1000 := hI.2.2.1.2.1
  have hhl : ∀ b, b < bx → hld b = nI 45 ∨ hld b = nI 112 ∨ hld b = nI 108 := hI.2.2.1.2.2
  have hap : ap ≤ 30 := hI.2.2.2.1.1
  have haa : ∀ a, a < ap → ab a < bx ∧ hr a ≤ 999 ∧ ln a < 3 ∧ (sa a = nI 98 ∨ sa a = nI 99 ∨ sa a = nI 103 ∨ sa a = nI 100 ∨ sa a = nI 109) := hI.2.2.2.1.2.1
  have hnw : nw ≤ 999 := hI.2.2.2.2
  have hY4 : ∀ s, (Y s).length ≤ 4 := hg.1.1
  have hmm : ∀ s, ∀ c ∈ Y s, c < bx := fun s c hc => (hg.2.2 s c hc).1
  refine z_aload_n C 0 rfl dX3_cancel_0 rfl ?_
  refine z_iconst C (v := (nI 0)) dX3_cancel_1 rfl ?_
  refine z_put C k_M hM.1 0 (by decide) [.int (nI 0), .int (nI nw), .int (nI st), .ref (A 0), .int (nI bx), .ref (A 1), .ref (A 2), .ref (A 3), .ref (A 4), .ref (A 5), .ref (A 6), .ref (A 7), .int mv, .int (nI ap), .ref (A 8), .ref (A 9), .ref (A 10), .ref (A 11), .long lf] rfl (Nat.le_of_ble_eq_true rfl) rfl rfl rfl q1387 dX3_cancel_2 (z_nV (fun V1 hV2 => ?_))
  have hM3 := MX.ob (cd2 := (nI 0)) (nw2 := nw) (st2 := st) (bx2 := bx) (mv2 := mv) (ap2 := ap) (lf2 := lf) hM hV2
  refine z_iload_n C 1 rfl dX3_cancel_5 rfl ?_
  refine z_iconst C (v := (nI 0)) dX3_cancel_6 rfl ?_
  refine z_aload_n C 0 rfl dX3_cancel_7 rfl ?_
  refine z_get C k_M hM3.1 13 (by decide) rfl q1400 dX3_cancel_8 ?_
  refine z_iconst C (v := (nI 1)) dX3_cancel_11 rfl ?_
  refine z_isub C dX3_cancel_12 ?_
  refine z_callS C (As := [.int v1, .int (nI 0), .int ((nI ap) - (nI 1))]) (mX3_in) (lw_S q1455 q1456 q65 q1457) hd_X3_in rfl (Nat.le_of_ble_eq_true rfl) (by decide) (by decide) (by decide) (by decide) rfl dX3_cancel_13 (fun _ _ h => h.elim) (fun r4 V5 hP6 => ?_)
  have hq7 : r4 = decide (0 ≤ vN v1 ∧ vN v1 < ap) := hP6.2.trans (in_lt (by omega) (by omega))
  rw [hP6.1, hq7]
  refine z_st (st' := [.int (zb (decide (0 ≤ vN v1 ∧ vN v1 < ap)))]) rfl ?_
  refine z_if_neB C 25 dX3_cancel_16 (by decide) (fun c16 => ?_) (fun c16 => ?_)
  · skip
    have ha : vN v1 < ap := by have := c16; simpa using this
    have hv8 := vN_of (v := v1) ha (by omega)
    have e9 : (.int v1 : Value) = .int (nI (vN v1)) := (congrArg Value.int hv8)
    refine z_lv (lv' := [(0, .ref m), (1, .int (nI (vN v1)))]) (by rw [e9]) ?_
    refine z_aload_n C 0 rfl dX3_cancel_25 rfl ?_
    refine z_get C k_M hM3.1 17 (by decide) rfl q1404 dX3_cancel_26 ?_
    refine z_iload_n C 1 rfl dX3_cancel_29 rfl ?_
    have ga10 : V1 (A 11) = some (.inl (D.arr 4, 30, .inl (F 11))) := hM3.2.1 11 (by decide)
    refine z_cald C ga10 (by omega) (by omega) (v := (sa (vN v1))) (hA (vN v1) (by omega)).2.2.2 dX3_cancel_30 ?_
    refine z_bipush C (v := (nI 98)) dX3_cancel_31 rfl ?_
    refine z_icmp_eq C 42 dX3_cancel_33 (by decide) (fun c33 => ?_) (fun c33 => ?_)
    · skip
      have e1 : oCancel (qS st rch bx wt ins hld unt Y ap ab hr ln sa mv nw lf) (vN v1) = (0, nI (qCnt (qS st rch bx wt ins hld unt Y ap ab hr ln (va_up sa (vN v1) (nI 99)) mv nw lf) (nI 98)), (qS st rch bx wt ins hld unt Y ap ab hr ln (va_up sa (vN v1) (nI 99)) mv nw lf)) := (if_neg (not_not_intro ha)).trans (if_neg (not_not_intro c33))
      refine z_aload_n C 0 rfl dX3_cancel_42 rfl ?_
      refine z_get C k_M hM3.1 17 (by decide) rfl q1404 dX3_cancel_43 ?_
      refine z_iload_n C 1 rfl dX3_cancel_46 rfl ?_
      refine z_bipush C (v := (nI 99)) dX3_cancel_47 rfl ?_
      refine z_cast C ga10 (by omega) (by omega) (by decide) dX3_cancel_49 (z_nV (fun V11 hV12 => ?_))
      have hM13 := MX.st hM3 11 (by decide) (f := va_up (F 11) (vN v1) (nI 99)) hV12
      refine z_aload_n C 0 rfl dX3_cancel_50 rfl ?_
      refine z_bipush C (v := (nI 98)) dX3_cancel_51 rfl ?_
      have hR2 : mR D V11 m A (va_up F 11 (va_up (F 11) (vN v1) (nI 99))) (nI 0) (qS st rch bx wt ins hld unt Y ap ab hr ln (va_up sa (vN v1) (nI 99)) mv nw lf) := ⟨hM13, hE, hU, hy, mA_sa hA (vN v1) (nI 99) rfl rfl rfl rfl⟩
      have hI2 : qI kk (qS st rch bx wt ins hld unt Y ap ab hr ln (va_up sa (vN v1) (nI 99)) mv nw lf) := qI_sa hI (Or.inl rfl)
      refine z_callV C k_M hM13.1 (As := [.int (nI 98)]) (mX3_counted hR2 hI2 (c := nI 98)) (lw_V q1650 q1652 qs55 q65 q1653) rfl hd_X3_counted rfl (Nat.le_of_ble_eq_true rfl) (by decide) (by decide) (by decide) (by decide) rfl dX3_cancel_53 (fun _ _ h => h.elim) (fun r14 V15 hP16 => ?_)
      rw [hP16.1, hP16.2]
      refine z_st (st' := [.int (nI (qCnt (qS st rch bx wt ins hld unt Y ap ab hr ln (va_up sa (vN v1) (nI 99)) mv nw lf) (nI 98)))]) rfl ?_
      exact z_iret C hQ (nI (qCnt (qS st rch bx wt ins hld unt Y ap ab hr ln (va_up sa (vN v1) (nI 99)) mv nw lf) (nI 98))) rfl ⟨_, by rw [e1]; exact hR2, fun _ => oRes e1⟩ (by decide) (by decide) dX3_cancel_56
    · skip
      have e1 : oCancel (qS st rch bx wt ins hld unt Y ap ab hr ln sa mv nw lf) (vN v1) = (2, 0, (qS st rch bx wt ins hld unt Y ap ab hr ln sa mv nw lf)) := (if_neg (not_not_intro ha)).trans (if_pos c33)
      refine z_aload_n C 0 rfl dX3_cancel_36 rfl ?_
      refine z_iconst C (v := (nI 2)) dX3_cancel_37 rfl ?_
      refine z_callV C k_M hM3.1 (As := [.int (nI 2)]) (mX3_fails hM3 hst hbx) (lw_V q1458 q1460 qs31 q65 q1461) rfl hd_X3_fails rfl (Nat.le_of_ble_eq_true rfl) (by decide) (by decide) (by decide) (by decide) rfl dX3_cancel_38 (fun _ _ h => h.elim) (fun r17 V18 hP19 => ?_)
      obtain ⟨hM20, rfl⟩ := hP19
      refine z_st (st' := [.int 0]) rfl ?_
      exact z_iret C hQ 0 rfl ⟨F, by rw [e1]; exact (show mR D _ m A _ _ (qS st rch bx wt ins hld unt Y ap ab hr ln sa mv nw lf) from ⟨hM20, hE, hU, hy, hA⟩), fun _ => oRes e1⟩ (by decide) (by decide) dX3_cancel_41
  · skip
    have e1 : oCancel (qS st rch bx wt ins hld unt Y ap ab hr ln sa mv nw lf) (vN v1) = (1, 0, (qS st rch bx wt ins hld unt Y ap ab hr ln sa mv nw lf)) := if_pos (fun h => by have h2 := c16; have h3 : vN v1 < ap := h; simp at h2; omega)
    refine z_aload_n C 0 rfl dX3_cancel_19 rfl ?_
    refine z_iconst C (v := (nI 1)) dX3_cancel_20 rfl ?_
    refine z_callV C k_M hM3.1 (As := [.int (nI 1)]) (mX3_fails hM3 hst hbx) (lw_V q1458 q1460 qs31 q65 q1461) rfl hd_X3_fails rfl (Nat.le_of_ble_eq_true rfl) (by decide) (by decide) (by decide) (by decide) rfl dX3_cancel_21 (fun _ _ h => h.elim) (fun r21 V22 hP23 => ?_)
    obtain ⟨hM24, rfl⟩ := hP23
    refine z_st (st' := [.int 0]) rfl ?_
    exact z_iret C hQ 0 rfl ⟨F, by rw [e1]; exact (show mR D _ m A _ _ (qS st rch bx wt ins hld unt Y ap ab hr ln sa mv nw lf) from ⟨hM24, hE, hU, hy, hA⟩), fun _ => oRes e1⟩ (by decide) (by decide) dX3_cancel_24
set_option maxHeartbeats 4000000 in
set_option maxRecDepth 100000 in
theorem mX3_stateOf {l : Launch} {D : ZD} {V : ZV} {kk m : Nat} {A : Nat → Nat} {F : Nat → Nat → Int32} {cd : Int32} {st : Nat} {rch : Nat → Nat} {bx : Nat} {wt : Nat → Nat} {ins : Nat → Bool} {hld : Nat → Int32} {unt : Nat → Nat} {Y : YD} {ap : Nat} {ab hr ln : Nat → Nat} {sa : Nat → Int32} {mv : Int32} {nw : Nat} {lf : Int64} (hR : mR D V m A F cd (qS st rch bx wt ins hld unt Y ap ab hr ln sa mv nw lf)) (hI : qI kk (qS st rch bx wt ins hld unt Y ap ab hr ln sa mv nw lf)) {v1 : Int32} : ZM l D yX3_stateOf (ws_ yX3_stateOf cX3_stateOf 2 (some .char)) 2 0 0 eI V [.ref m, .int v1] (fun r V' => ∃ F2, mR D V' m A F2 (nI (oStateOf (qS st rch bx wt ins hld unt Y ap ab hr ln sa mv nw lf) (vN v1)).1) (oStateOf (qS st rch bx wt ins hld unt Y ap ab hr ln sa mv nw lf) (vN v1)).2.2 ∧ ((oStateOf (qS st rch bx wt ins hld unt Y ap ab hr ln sa mv nw lf) (vN v1)).1 = 0 → r = (oStateOf (qS st rch bx wt ins hld unt Y ap ab hr ln sa mv nw lf) (vN v1)).2.1)) zno_x := by
  refine z_enter (by decide +kernel) [(0, .ref m), (1, .int v1)] rfl (Nat.le_of_ble_eq_true rfl) (zcat_cons rfl (zcat_cons rfl zcat_nil)) (fun Γ C hQ => ?_)
  have hM : MX D V m A F cd nw st bx mv ap lf := hR.1
  have hE : mE F st bx rch wt ins hld := hR.2.1
  have hU : ∀ b, b < 20 → F 4 b = nI (unt b) := hR.2.2.1
  have hy : mY F 0 Y := hR.2.2.2.1
  have hA : ∀ a, a < ap → F 8 a = nI (ab a) ∧ F 9 a = nI (hr a) ∧ F 10 a = nI (ln a) ∧ F 11 a = sa a := hR.2.2.2.2
  have hst : st ≤ 4 := hI.1.1
  have hbx : bx ≤ 20 := hI.1.2.1
  have hrc : ∀ s, s < st → rch s ≤ 4 := fun s hs => (hI.1.2.2.1 s hs).2
  have hwt : ∀ b, b < bx → wt b < 1000 := fun b hb => by have h9 : wt b ≤ 30 := (hI.1.2.2.2 b hb).2; omega
  have hg : yGood st bx ins Y := hI.2.1.1
  have hht : ∀ s, s < st → (Y s).length ≤ rch s := hI.2.1.2.1
  have hu1 : ∀ b, unt b ≤ 1000 := hI.2.2.1.2.1
  have hhl : ∀ b, b < bx → hld b = nI 45 ∨ hld b = nI 112 ∨ hld b = nI 108 := hI.2.2.1.2.2
  have hap : ap ≤ 30 := hI.2.2.2.1.1
  have haa : ∀ a, a < ap → ab a < bx ∧ hr a ≤ 999 ∧ ln a < 3 ∧ (sa a = nI 98 ∨ sa a = nI 99 ∨ sa a = nI 103 ∨ sa a = nI 100 ∨ sa a = nI 109) := hI.2.2.2.1.2.1
  have hnw : nw ≤ 999 := hI.2.2.2.2
  have hY4 : ∀ s, (Y s).length ≤ 4 := hg.1.1
  have hmm : ∀ s, ∀ c ∈ Y s, c < bx := fun s c hc => (hg.2.2 s c hc).1
  refine z_aload_n C 0 rfl dX3_stateOf_0 rfl ?_
  refine z_iload_n C 1 rfl dX3_stateOf_1 rfl ?_
  refine z_iconst C (v := (nI 0)) dX3_stateOf_2 rfl ?_
  refine z_aload_n C 0 rfl dX3_stateOf_3 rfl ?_
  refine z_get C k_M hM.1 13 (by decide) rfl q1400 dX3_stateOf_4 ?_
  refine z_iconst C (v := (nI 1)) dX3_stateOf_7 rfl ?_
  refine z_isub C dX3_stateOf_8 ?_
  refine z_callS C (As := [.int v1, .int (nI 0), .int ((nI ap) - (nI 1))]) (mX3_in) (lw_S q1455 q1456 q65 q1457) hd_X3_in rfl (Nat.le_of_ble_eq_true rfl) (by decide) (by decide) (by decide) (by decide) rfl dX3_stateOf_9 (fun _ _ h => h.elim) (fun r1 V2 hP3 => ?_)
  have hq4 : r1 = decide (0 ≤ vN v1 ∧ vN v1 < ap) := hP3.2.trans (in_lt (by omega) (by omega))
  rw [hP3.1, hq4]
  refine z_st (st' := [.int (zb (decide (0 ≤ vN v1 ∧ vN v1 < ap))), .ref m]) rfl ?_
  refine z_if_eqB C 19 dX3_stateOf_12 (by decide) (fun c12 => ?_) (fun c12 => ?_)
  · skip
    have e1 : oStateOf (qS st rch bx wt ins hld unt Y ap ab hr ln sa mv nw lf) (vN v1) = (1, 0, (qS st rch bx wt ins hld unt Y ap ab hr ln sa mv nw lf)) := if_neg (fun h => by have h2 := c12; have h3 : vN v1 < ap := h; simp at h2; omega)
    refine z_iconst C (v := (nI 1)) dX3_stateOf_19 rfl ?_
    refine z_put C k_M hM.1 0 (by decide) [.int (nI 1), .int (nI nw), .int (nI st), .ref (A 0), .int (nI bx), .ref (A 1), .ref (A 2), .ref (A 3), .ref (A 4), .ref (A 5), .ref (A 6), .ref (A 7), .int mv, .int (nI ap), .ref (A 8), .ref (A 9), .ref (A 10), .ref (A 11), .long lf] rfl (Nat.le_of_ble_eq_true rfl) rfl rfl rfl q1387 dX3_stateOf_20 (z_nV (fun V5 hV6 => ?_))
    have hM7 := MX.ob (cd2 := (nI 1)) (nw2 := nw) (st2 := st) (bx2 := bx) (mv2 := mv) (ap2 := ap) (lf2 := lf) hM hV6
    refine z_aload_n C 0 rfl dX3_stateOf_23 rfl ?_
    refine z_get C k_M hM7.1 0 (by decide) rfl q1387 dX3_stateOf_24 ?_
    refine z_if_leN C 34 (by omega) dX3_stateOf_27 (by decide) (fun c27 => ?_) (fun c27 => ?_)
    · skip
      exfalso; omega
    · skip
      refine z_iconst C (v := (nI 0)) dX3_stateOf_30 rfl ?_
      refine z_goto C 40 dX3_stateOf_31 (by decide) ?_
      exact z_zret C hQ (nI 0) rfl rfl ⟨F, by rw [e1]; exact (show mR D _ m A _ _ (qS st rch bx wt ins hld unt Y ap ab hr ln sa mv nw lf) from ⟨hM7, hE, hU, hy, hA⟩), fun _ => oRes e1⟩ (by decide) (by decide) dX3_stateOf_40
  · skip
    have ha : vN v1 < ap := by have := c12; simpa using this
    have hv8 := vN_of (v := v1) ha (by omega)
    have e9 : (.int v1 : Value) = .int (nI (vN v1)) := (congrArg Value.int hv8)
    refine z_lv (lv' := [(0, .ref m), (1, .int (nI (vN v1)))]) (by rw [e9]) ?_
    have e1 : oStateOf (qS st rch bx wt ins hld unt Y ap ab hr ln sa mv nw lf) (vN v1) = (0, sa (vN v1), (qS st rch bx wt ins hld unt Y ap ab hr ln sa mv nw lf)) := if_pos ha
    refine z_iconst C (v := (nI 0)) dX3_stateOf_15 rfl ?_
    refine z_goto C 20 dX3_stateOf_16 (by decide) ?_
    refine z_put C k_M hM.1 0 (by decide) [.int (nI 0), .int (nI nw), .int (nI st), .ref (A 0), .int (nI bx), .ref (A 1), .ref (A 2), .ref (A 3), .ref (A 4), .ref (A 5), .ref (A 6), .ref (A 7), .int mv, .int (nI ap), .ref (A 8), .ref (A 9), .ref (A 10), .ref (A 11), .long lf] rfl (Nat.le_of_ble_eq_true rfl) rfl rfl rfl q1387 dX3_stateOf_20 (z_nV (fun V10 hV11 => ?_))
    have hM12 := MX.ob (cd2 := (nI 0)) (nw2 := nw) (st2 := st) (bx2 := bx) (mv2 := mv) (ap2 := ap) (lf2 := lf) hM hV11
    refine z_aload_n C 0 rfl dX3_stateOf_23 rfl ?_
    refine z_get C k_M hM12.1 0 (by decide) rfl q1387 dX3_stateOf_24 ?_
    refine z_if_leN C 34 (by omega) dX3_stateOf_27 (by decide) (fun c27 => ?_) (fun c27 => ?_)
    · skip
      refine z_aload_n C 0 rfl dX3_stateOf_34 rfl ?_
      refine z_get C k_M hM12.1 17 (by decide) rfl q1404 dX3_stateOf_35 ?_
      refine z_iload_n C 1 rfl dX3_stateOf_38 rfl ?_
      have ga13 : V10 (A 11) = some (.inl (D.arr 4, 30, .inl (F 11))) := hM12.2.1 11 (by decide)
      refine z_cald C ga13 (by omega) (by omega) (v := (sa (vN v1))) (hA (vN v1) (by omega)).2.2.2 dX3_stateOf_39 ?_
      exact z_zret C hQ (sa (vN v1)) rfl (by rcases (haa (vN v1) ha).2.2.2 with e | e | e | e | e <;> rw [e] <;> rfl) ⟨F, by rw [e1]; exact (show mR D _ m A _ _ (qS st rch bx wt ins hld unt Y ap ab hr ln sa mv nw lf) from ⟨hM12, hE, hU, hy, hA⟩), fun _ => oRes e1⟩ (by decide) (by decide) dX3_stateOf_40
    · skip
      exfalso; omega
set_option maxHeartbeats 4000000 in
set_option maxRecDepth 100000 in
theorem mX3_appointmentOf {l : Launch} {D : ZD} {V : ZV} {kk m : Nat} {A : Nat → Nat} {F : Nat → Nat → Int32} {cd : Int32} {st : Nat} {rch : Nat → Nat} {bx : Nat} {wt : Nat → Nat} {ins : Nat → Bool} {hld : Nat → Int32} {unt : Nat → Nat} {Y : YD} {ap : Nat} {ab hr ln : Nat → Nat} {sa : Nat → Int32} {mv : Int32} {nw : Nat} {lf : Int64} (hR : mR D V m A F cd (qS st rch bx wt ins hld unt Y ap ab hr ln sa mv nw lf)) (hI : qI kk (qS st rch bx wt ins hld unt Y ap ab hr ln sa mv nw lf)) {v1 : Int32} : ZM l D yX3_appointmentOf (ws_ yX3_appointmentOf cX3_appointmentOf 3 (some .int)) 3 0 0 eI V [.ref m, .int v1] (fun r V' => ∃ F2, mR D V' m A F2 (nI (oAppOf (qS st rch bx wt ins hld unt Y ap ab hr ln sa mv nw lf) (vN v1)).1) (oAppOf (qS st rch bx wt ins hld unt Y ap ab hr ln sa mv nw lf) (vN v1)).2.2 ∧ ((oAppOf (qS st rch bx wt ins hld unt Y ap ab hr ln sa mv nw lf) (vN v1)).1 = 0 → r = (oAppOf (qS st rch bx wt ins hld unt Y ap ab hr ln sa mv nw lf) (vN v1)).2.1)) zno_x := by
  refine z_enter (by decide +kernel) [(0, .ref m), (1, .int v1)] rfl (Nat.le_of_ble_eq_true rfl) (zcat_cons rfl (zcat_cons rfl zcat_nil)) (fun Γ C hQ => ?_)
  have hM : MX D V m A F cd nw st bx mv ap lf := hR.1
  have hE : mE F st bx rch wt ins hld := hR.2.1
  have hU : ∀ b, b < 20 → F 4 b = nI (unt b) := hR.2.2.1
  have hy : mY F 0 Y := hR.2.2.2.1
  have hA : ∀ a, a < ap → F 8 a = nI (ab a) ∧ F 9 a = nI (hr a) ∧ F 10 a = nI (ln a) ∧ F 11 a = sa a := hR.2.2.2.2
  have hst : st ≤ 4 := hI.1.1
  have hbx : bx ≤ 20 := hI.1.2.1
  have hrc : ∀ s, s < st → rch s ≤ 4 := fun s hs => (hI.1.2.2.1 s hs).2
  have hwt : ∀ b, b < bx → wt b < 1000 := fun b hb => by have h9 : wt b ≤ 30 := (hI.1.2.2.2 b hb).2; omega
  have hg : yGood st bx ins Y := hI.2.1.1
  have hht : ∀ s, s < st → (Y s).length ≤ rch s := hI.2.1.2.1
  have hu1 : ∀ b, unt b ≤ 1000 := hI.2.2.1.2.1
  have hhl : ∀ b, b < bx → hld b = nI 45 ∨ hld b = nI 112 ∨ hld b = nI 108 := hI.2.2.1.2.2
  have hap : ap ≤ 30 := hI.2.2.2.1.1
  have haa : ∀ a, a < ap → ab a < bx ∧ hr a ≤ 999 ∧ ln a < 3 ∧ (sa a = nI 98 ∨ sa a = nI 99 ∨ sa a = nI 103 ∨ sa a = nI 100 ∨ sa a = nI 109) := hI.2.2.2.1.2.1
  have hnw : nw ≤ 999 := hI.2.2.2.2
  have hY4 : ∀ s, (Y s).length ≤ 4 := hg.1.1
  have hmm : ∀ s, ∀ c ∈ Y s, c < bx := fun s c hc => (hg.2.2 s c hc).1
  refine z_aload_n C 0 rfl dX3_appointmentOf_0 rfl ?_
  refine z_iconst C (v := (nI 0)) dX3_appointmentOf_1 rfl ?_
  refine z_put C k_M hM.1 0 (by decide) [.int (nI 0), .int (nI nw), .int (nI st), .ref (A 0), .int (nI bx), .ref (A 1), .ref (A 2), .ref (A 3), .ref (A 4), .ref (A 5), .ref (A 6), .ref (A 7), .int mv, .int (nI ap), .ref (A 8), .ref (A 9), .ref (A 10), .ref (A 11), .long lf] rfl (Nat.le_of_ble_eq_true rfl) rfl rfl rfl q1387 dX3_appointmentOf_2 (z_nV (fun V1 hV2 => ?_))
  have hM3 := MX.ob (cd2 := (nI 0)) (nw2 := nw) (st2 := st) (bx2 := bx) (mv2 := mv) (ap2 := ap) (lf2 := lf) hM hV2
  refine z_aload_n C 0 rfl dX3_appointmentOf_5 rfl ?_
  refine z_iload_n C 1 rfl dX3_appointmentOf_6 rfl ?_
  refine z_callV C k_M hM3.1 (As := [.int v1]) (mX3_isBox (show mR D _ m A _ _ (qS st rch bx wt ins hld unt Y ap ab hr ln sa mv nw lf) from ⟨hM3, hE, hU, hy, hA⟩) hI) (lw_V q1494 q1496 qs37 q65 q1497) rfl hd_X3_isBox rfl (Nat.le_of_ble_eq_true rfl) (by decide) (by decide) (by decide) (by decide) rfl dX3_appointmentOf_7 (fun _ _ h => h.elim) (fun r4 V5 hP6 => ?_)
  rw [hP6.1, hP6.2]
  refine z_st (st' := [.int (zb (qIs (qS st rch bx wt ins hld unt Y ap ab hr ln sa mv nw lf) (vN v1)))]) rfl ?_
  refine z_if_neB C 19 dX3_appointmentOf_10 (by decide) (fun c10 => ?_) (fun c10 => ?_)
  · skip
    have hq : qIs (qS st rch bx wt ins hld unt Y ap ab hr ln sa mv nw lf) (vN v1) = true := by simpa using c10
    obtain ⟨hbb, hbi⟩ := qIs_t (S := (qS st rch bx wt ins hld unt Y ap ab hr ln sa mv nw lf)) (by simpa using c10)
    have hbb : vN v1 < bx := hbb
    have hbi : ins (vN v1) = true := hbi
    have hv7 := vN_of (v := v1) hbb (by omega)
    have e8 : (.int v1 : Value) = .int (nI (vN v1)) := (congrArg Value.int hv7)
    refine z_lv (lv' := [(0, .ref m), (1, .int (nI (vN v1)))]) (by rw [e8]) ?_
    obtain ⟨p0, hb0⟩ := hg.2.1 _ hbb hbi
    have hb : vN v1 ∈ Y (yPl Y (vN v1)) := by rw [yPl_eq hg.1 hst hb0]; exact hb0
    have hpst := hg.1.lt hb
    have hq0 : ¬ qIs (qS st rch bx wt ins hld unt Y ap ab hr ln sa mv nw lf) (vN v1) = false := by rw [hq]; decide
    refine z_aload_n C 0 rfl dX3_appointmentOf_19 rfl ?_
    refine z_iload_n C 1 rfl dX3_appointmentOf_20 rfl ?_
    refine z_callV C k_M hM3.1 (As := [.int (nI (vN v1))]) (mX3_appointmentIn (show mR D _ m A _ _ (qS st rch bx wt ins hld unt Y ap ab hr ln sa mv nw lf) from ⟨hM3, hE, hU, hy, hA⟩) hI (b := vN v1) (by omega)) (lw_V q1538 q1540 qs41 q65 q1541) rfl hd_X3_appointmentIn rfl (Nat.le_of_ble_eq_true rfl) (by decide) (by decide) (by decide) (by decide) rfl dX3_appointmentOf_21 (fun _ _ h => h.elim) (fun r9 V10 hP11 => ?_)
    rw [hP11.1, hP11.2]
    refine z_st (st' := [.int (oInt (qAin (qS st rch bx wt ins hld unt Y ap ab hr ln sa mv nw lf) (vN v1)))]) rfl ?_
    rcases ho : qAin (qS st rch bx wt ins hld unt Y ap ab hr ln sa mv nw lf) (vN v1) with _ | a0
    · skip
      have e12 : (.int (oInt none) : Value) = .int (-1) := rfl
      refine z_st (st' := [.int (-1)]) (by rw [e12]) ?_
      have e1 : oAppOf (qS st rch bx wt ins hld unt Y ap ab hr ln sa mv nw lf) (vN v1) = (2, 0, (qS st rch bx wt ins hld unt Y ap ab hr ln sa mv nw lf)) := (if_neg hq0).trans (by rw [show qAin (qS st rch bx wt ins hld unt Y ap ab hr ln sa mv nw lf) (vN v1) = none from ho])
      refine z_istore_n C [(2, .int (-1)), (0, .ref m), (1, .int (nI (vN v1)))] dX3_appointmentOf_24 rfl (by decide) rfl ?_
      refine z_iload_n C 0 rfl dX3_appointmentOf_25 rfl ?_
      refine z_iconst C (v := (-1)) dX3_appointmentOf_26 rfl ?_
      refine z_icmp_ne C 38 dX3_appointmentOf_27 (by decide) (fun c27 => ?_) (fun c27 => ?_)
      · skip
        exfalso; exact absurd rfl c27
      · skip
        refine z_aload_n C 1 rfl dX3_appointmentOf_30 rfl ?_
        refine z_iconst C (v := (nI 2)) dX3_appointmentOf_31 rfl ?_
        refine z_callV C k_M hM3.1 (As := [.int (nI 2)]) (mX3_fails hM3 hst hbx) (lw_V q1458 q1460 qs31 q65 q1461) rfl hd_X3_fails rfl (Nat.le_of_ble_eq_true rfl) (by decide) (by decide) (by decide) (by decide) rfl dX3_appointmentOf_32 (fun _ _ h => h.elim) (fun r13 V14 hP15 => ?_)
        obtain ⟨hM16, rfl⟩ := hP15
        refine z_st (st' := [.int 0]) rfl ?_
        refine z_goto C 39 dX3_appointmentOf_35 (by decide) ?_
        exact z_iret C hQ 0 rfl ⟨F, by rw [e1]; exact (show mR D _ m A _ _ (qS st rch bx wt ins hld unt Y ap ab hr ln sa mv nw lf) from ⟨hM16, hE, hU, hy, hA⟩), fun _ => oRes e1⟩ (by decide) (by decide) dX3_appointmentOf_39
    · skip
      have e17 : (.int (oInt (some a0)) : Value) = .int (nI a0) := rfl
      refine z_st (st' := [.int (nI a0)]) (by rw [e17]) ?_
      have ha0 : a0 < ap := (fF_some ho).1
      have e1 : oAppOf (qS st rch bx wt ins hld unt Y ap ab hr ln sa mv nw lf) (vN v1) = (0, nI a0, (qS st rch bx wt ins hld unt Y ap ab hr ln sa mv nw lf)) := (if_neg hq0).trans (by rw [show qAin (qS st rch bx wt ins hld unt Y ap ab hr ln sa mv nw lf) (vN v1) = some a0 from ho])
      refine z_istore_n C [(2, .int (nI a0)), (0, .ref m), (1, .int (nI (vN v1)))] dX3_appointmentOf_24 rfl (by decide) rfl ?_
      refine z_iload_n C 0 rfl dX3_appointmentOf_25 rfl ?_
      refine z_iconst C (v := (-1)) dX3_appointmentOf_26 rfl ?_
      refine z_icmp_ne C 38 dX3_appointmentOf_27 (by decide) (fun c27 => ?_) (fun c27 => ?_)
      · skip
        refine z_iload_n C 0 rfl dX3_appointmentOf_38 rfl ?_
        exact z_iret C hQ (nI a0) rfl ⟨F, by rw [e1]; exact (show mR D _ m A _ _ (qS st rch bx wt ins hld unt Y ap ab hr ln sa mv nw lf) from ⟨hM3, hE, hU, hy, hA⟩), fun _ => oRes e1⟩ (by decide) (by decide) dX3_appointmentOf_39
      · skip
        exfalso; exact absurd c27 (nI_nem1 (by omega))
  · skip
    have hq : qIs (qS st rch bx wt ins hld unt Y ap ab hr ln sa mv nw lf) (vN v1) = false := by simpa using c10
    have e1 : oAppOf (qS st rch bx wt ins hld unt Y ap ab hr ln sa mv nw lf) (vN v1) = (1, 0, (qS st rch bx wt ins hld unt Y ap ab hr ln sa mv nw lf)) := if_pos hq
    refine z_aload_n C 0 rfl dX3_appointmentOf_13 rfl ?_
    refine z_iconst C (v := (nI 1)) dX3_appointmentOf_14 rfl ?_
    refine z_callV C k_M hM3.1 (As := [.int (nI 1)]) (mX3_fails hM3 hst hbx) (lw_V q1458 q1460 qs31 q65 q1461) rfl hd_X3_fails rfl (Nat.le_of_ble_eq_true rfl) (by decide) (by decide) (by decide) (by decide) rfl dX3_appointmentOf_15 (fun _ _ h => h.elim) (fun r18 V19 hP20 => ?_)
    obtain ⟨hM21, rfl⟩ := hP20
    refine z_st (st' := [.int 0]) rfl ?_
    exact z_iret C hQ 0 rfl ⟨F, by rw [e1]; exact (show mR D _ m A _ _ (qS st rch bx wt ins hld unt Y ap ab hr ln sa mv nw lf) from ⟨hM21, hE, hU, hy, hA⟩), fun _ => oRes e1⟩ (by decide) (by decide) dX3_appointmentOf_18
set_option maxHeartbeats 4000000 in
set_option maxRecDepth 100000 in
theorem mX3_inLane {l : Launch} {D : ZD} {V : ZV} {kk m : Nat} {A : Nat → Nat} {F : Nat → Nat → Int32} {cd : Int32} {st : Nat} {rch : Nat → Nat} {bx : Nat} {wt : Nat → Nat} {ins : Nat → Bool} {hld : Nat → Int32} {unt : Nat → Nat} {Y : YD} {ap : Nat} {ab hr ln : Nat → Nat} {sa : Nat → Int32} {mv : Int32} {nw : Nat} {lf : Int64} (hR : mR D V m A F cd (qS st rch bx wt ins hld unt Y ap ab hr ln sa mv nw lf)) (hI : qI kk (qS st rch bx wt ins hld unt Y ap ab hr ln sa mv nw lf)) {v1 v2 : Int32} : ZM l D yX3_inLane (ws_ yX3_inLane cX3_inLane 3 (some .int)) 3 0 0 eI V [.ref m, .int v1, .int v2] (fun r V' => ∃ F2, mR D V' m A F2 (nI (oInLane (qS st rch bx wt ins hld unt Y ap ab hr ln sa mv nw lf) (vN v1) (vN v2)).1) (oInLane (qS st rch bx wt ins hld unt Y ap ab hr ln sa mv nw lf) (vN v1) (vN v2)).2.2 ∧ ((oInLane (qS st rch bx wt ins hld unt Y ap ab hr ln sa mv nw lf) (vN v1) (vN v2)).1 = 0 → r = (oInLane (qS st rch bx wt ins hld unt Y ap ab hr ln sa mv nw lf) (vN v1) (vN v2)).2.1)) zno_x := by
  refine z_enter (by decide +kernel) [(0, .ref m), (1, .int v1), (2, .int v2)] rfl (Nat.le_of_ble_eq_true rfl) (zcat_cons rfl (zcat_cons rfl (zcat_cons rfl zcat_nil))) (fun Γ C hQ => ?_)
  have hM : MX D V m A F cd nw st bx mv ap lf := hR.1
  have hE : mE F st bx rch wt ins hld := hR.2.1
  have hU : ∀ b, b < 20 → F 4 b = nI (unt b) := hR.2.2.1
  have hy : mY F 0 Y := hR.2.2.2.1
  have hA : ∀ a, a < ap → F 8 a = nI (ab a) ∧ F 9 a = nI (hr a) ∧ F 10 a = nI (ln a) ∧ F 11 a = sa a := hR.2.2.2.2
  have hst : st ≤ 4 := hI.1.1
  have hbx : bx ≤ 20 := hI.1.2.1
  have hrc : ∀ s, s < st → rch s ≤ 4 := fun s hs => (hI.1.2.2.1 s hs).2
  have hwt : ∀ b, b < bx → wt b < 1000 := fun b hb => by have h9 : wt b ≤ 30 := (hI.1.2.2.2 b hb).2; omega
  have hg : yGood st bx ins Y := hI.2.1.1
  have hht : ∀ s, s < st → (Y s).length ≤ rch s := hI.2.1.2.1
  have hu1 : ∀ b, unt b ≤ 1000 := hI.2.2.1.2.1
  have hhl : ∀ b, b < bx → hld b = nI 45 ∨ hld b = nI 112 ∨ hld b = nI 108 := hI.2.2.1.2.2
  have hap : ap ≤ 30 := hI.2.2.2.1.1
  have haa : ∀ a, a < ap → ab a < bx ∧ hr a ≤ 999 ∧ ln a < 3 ∧ (sa a = nI 98 ∨ sa a = nI 99 ∨ sa a = nI 103 ∨ sa a = nI 100 ∨ sa a = nI 109) := hI.2.2.2.1.2.1
  have hnw : nw ≤ 999 := hI.2.2.2.2
  have hY4 : ∀ s, (Y s).length ≤ 4 := hg.1.1
  have hmm : ∀ s, ∀ c ∈ Y s, c < bx := fun s c hc => (hg.2.2 s c hc).1
  refine z_aload_n C 0 rfl dX3_inLane_0 rfl ?_
  refine z_iconst C (v := (nI 0)) dX3_inLane_1 rfl ?_
  refine z_put C k_M hM.1 0 (by decide) [.int (nI 0), .int (nI nw), .int (nI st), .ref (A 0), .int (nI bx), .ref (A 1), .ref (A 2), .ref (A 3), .ref (A 4), .ref (A 5), .ref (A 6), .ref (A 7), .int mv, .int (nI ap), .ref (A 8), .ref (A 9), .ref (A 10), .ref (A 11), .long lf] rfl (Nat.le_of_ble_eq_true rfl) rfl rfl rfl q1387 dX3_inLane_2 (z_nV (fun V1 hV2 => ?_))
  have hM3 := MX.ob (cd2 := (nI 0)) (nw2 := nw) (st2 := st) (bx2 := bx) (mv2 := mv) (ap2 := ap) (lf2 := lf) hM hV2
  refine z_iload_n C 1 rfl dX3_inLane_5 rfl ?_
  refine z_iconst C (v := (nI 0)) dX3_inLane_6 rfl ?_
  refine z_iconst C (v := (nI 2)) dX3_inLane_7 rfl ?_
  refine z_callS C (As := [.int v1, .int (nI 0), .int (nI 2)]) (mX3_in) (lw_S q1455 q1456 q65 q1457) hd_X3_in rfl (Nat.le_of_ble_eq_true rfl) (by decide) (by decide) (by decide) (by decide) rfl dX3_inLane_8 (fun _ _ h => h.elim) (fun r4 V5 hP6 => ?_)
  have hq7 : r4 = decide (0 ≤ vN v1 ∧ vN v1 ≤ 2) := hP6.2.trans (in_le (by omega) (by omega))
  rw [hP6.1, hq7]
  refine z_st (st' := [.int (zb (decide (0 ≤ vN v1 ∧ vN v1 ≤ 2)))]) rfl ?_
  refine z_if_neB C 20 dX3_inLane_11 (by decide) (fun c11 => ?_) (fun c11 => ?_)
  · skip
    have hl : vN v1 ≤ 2 := by have := c11; simpa using this
    have hv8 := vN_of (v := v1) (show vN v1 < 3 by omega) (by omega)
    have e9 : (.int v1 : Value) = .int (nI (vN v1)) := (congrArg Value.int hv8)
    refine z_lv (lv' := [(0, .ref m), (1, .int (nI (vN v1))), (2, .int v2)]) (by rw [e9]) ?_
    refine z_iload_n C 2 rfl dX3_inLane_20 rfl ?_
    refine z_iconst C (v := (nI 0)) dX3_inLane_21 rfl ?_
    refine z_sipush C (v := (nI 999)) dX3_inLane_22 rfl ?_
    refine z_callS C (As := [.int v2, .int (nI 0), .int (nI 999)]) (mX3_in) (lw_S q1455 q1456 q65 q1457) hd_X3_in rfl (Nat.le_of_ble_eq_true rfl) (by decide) (by decide) (by decide) (by decide) rfl dX3_inLane_25 (fun _ _ h => h.elim) (fun r10 V11 hP12 => ?_)
    have hq13 : r10 = decide (0 ≤ vN v2 ∧ vN v2 ≤ 999) := hP12.2.trans (in_le (by omega) (by omega))
    rw [hP12.1, hq13]
    refine z_st (st' := [.int (zb (decide (0 ≤ vN v2 ∧ vN v2 ≤ 999)))]) rfl ?_
    refine z_if_eqB C 40 dX3_inLane_28 (by decide) (fun c28 => ?_) (fun c28 => ?_)
    · skip
      have e1 : oInLane (qS st rch bx wt ins hld unt Y ap ab hr ln sa mv nw lf) (vN v1) (vN v2) = (2, 0, (qS st rch bx wt ins hld unt Y ap ab hr ln sa mv nw lf)) := (if_neg (not_not_intro hl)).trans (if_neg (by have := c28; simp at this; omega))
      refine z_aload_n C 0 rfl dX3_inLane_40 rfl ?_
      refine z_iconst C (v := (nI 2)) dX3_inLane_41 rfl ?_
      refine z_callV C k_M hM3.1 (As := [.int (nI 2)]) (mX3_fails hM3 hst hbx) (lw_V q1458 q1460 qs31 q65 q1461) rfl hd_X3_fails rfl (Nat.le_of_ble_eq_true rfl) (by decide) (by decide) (by decide) (by decide) rfl dX3_inLane_42 (fun _ _ h => h.elim) (fun r14 V15 hP16 => ?_)
      obtain ⟨hM17, rfl⟩ := hP16
      refine z_st (st' := [.int 0]) rfl ?_
      exact z_iret C hQ 0 rfl ⟨F, by rw [e1]; exact (show mR D _ m A _ _ (qS st rch bx wt ins hld unt Y ap ab hr ln sa mv nw lf) from ⟨hM17, hE, hU, hy, hA⟩), fun _ => oRes e1⟩ (by decide) (by decide) dX3_inLane_45
    · skip
      have hh : vN v2 ≤ 999 := by have := c28; simpa using this
      have hv18 := vN_of (v := v2) (show vN v2 < 1000 by omega) (by omega)
      have e19 : (.int v2 : Value) = .int (nI (vN v2)) := (congrArg Value.int hv18)
      refine z_lv (lv' := [(0, .ref m), (1, .int (nI (vN v1))), (2, .int (nI (vN v2)))]) (by rw [e19]) ?_
      have e1 : oInLane (qS st rch bx wt ins hld unt Y ap ab hr ln sa mv nw lf) (vN v1) (vN v2) = (0, oInt (qBin (qS st rch bx wt ins hld unt Y ap ab hr ln sa mv nw lf) (vN v1) (vN v2)), (qS st rch bx wt ins hld unt Y ap ab hr ln sa mv nw lf)) := (if_neg (not_not_intro hl)).trans (if_pos hh)
      refine z_aload_n C 0 rfl dX3_inLane_31 rfl ?_
      refine z_iload_n C 1 rfl dX3_inLane_32 rfl ?_
      refine z_iload_n C 2 rfl dX3_inLane_33 rfl ?_
      refine z_callV C k_M hM3.1 (As := [.int (nI (vN v1)), .int (nI (vN v2))]) (mX3_bookedIn (show mR D _ m A _ _ (qS st rch bx wt ins hld unt Y ap ab hr ln sa mv nw lf) from ⟨hM3, hE, hU, hy, hA⟩) hI (x := vN v1) (y := vN v2) (by omega) (by omega)) (lw_V q1642 q1644 qs54 q65 q1645) rfl hd_X3_bookedIn rfl (Nat.le_of_ble_eq_true rfl) (by decide) (by decide) (by decide) (by decide) rfl dX3_inLane_34 (fun _ _ h => h.elim) (fun r20 V21 hP22 => ?_)
      rw [hP22.1, hP22.2]
      refine z_st (st' := [.int (oInt (qBin (qS st rch bx wt ins hld unt Y ap ab hr ln sa mv nw lf) (vN v1) (vN v2)))]) rfl ?_
      refine z_goto C 45 dX3_inLane_37 (by decide) ?_
      exact z_iret C hQ (oInt (qBin (qS st rch bx wt ins hld unt Y ap ab hr ln sa mv nw lf) (vN v1) (vN v2))) rfl ⟨F, by rw [e1]; exact (show mR D _ m A _ _ (qS st rch bx wt ins hld unt Y ap ab hr ln sa mv nw lf) from ⟨hM3, hE, hU, hy, hA⟩), fun _ => oRes e1⟩ (by decide) (by decide) dX3_inLane_45
  · skip
    have e1 : oInLane (qS st rch bx wt ins hld unt Y ap ab hr ln sa mv nw lf) (vN v1) (vN v2) = (1, 0, (qS st rch bx wt ins hld unt Y ap ab hr ln sa mv nw lf)) := if_pos (by have := c11; simp at this; omega)
    refine z_aload_n C 0 rfl dX3_inLane_14 rfl ?_
    refine z_iconst C (v := (nI 1)) dX3_inLane_15 rfl ?_
    refine z_callV C k_M hM3.1 (As := [.int (nI 1)]) (mX3_fails hM3 hst hbx) (lw_V q1458 q1460 qs31 q65 q1461) rfl hd_X3_fails rfl (Nat.le_of_ble_eq_true rfl) (by decide) (by decide) (by decide) (by decide) rfl dX3_inLane_16 (fun _ _ h => h.elim) (fun r23 V24 hP25 => ?_)
    obtain ⟨hM26, rfl⟩ := hP25
    refine z_st (st' := [.int 0]) rfl ?_
    exact z_iret C hQ 0 rfl ⟨F, by rw [e1]; exact (show mR D _ m A _ _ (qS st rch bx wt ins hld unt Y ap ab hr ln sa mv nw lf) from ⟨hM26, hE, hU, hy, hA⟩), fun _ => oRes e1⟩ (by decide) (by decide) dX3_inLane_19
set_option maxHeartbeats 4000000 in
set_option maxRecDepth 100000 in
theorem mX3_firstHour {l : Launch} {D : ZD} {V : ZV} {kk m : Nat} {A : Nat → Nat} {F : Nat → Nat → Int32} {cd : Int32} {st : Nat} {rch : Nat → Nat} {bx : Nat} {wt : Nat → Nat} {ins : Nat → Bool} {hld : Nat → Int32} {unt : Nat → Nat} {Y : YD} {ap : Nat} {ab hr ln : Nat → Nat} {sa : Nat → Int32} {mv : Int32} {nw : Nat} {lf : Int64} (hR : mR D V m A F cd (qS st rch bx wt ins hld unt Y ap ab hr ln sa mv nw lf)) (hI : qI kk (qS st rch bx wt ins hld unt Y ap ab hr ln sa mv nw lf)) {v1 : Int32} : ZM l D yX3_firstHour (ws_ yX3_firstHour cX3_firstHour 4 (some .int)) 3 0 0 eI V [.ref m, .int v1] (fun r V' => ∃ F2, mR D V' m A F2 (nI (oFirst (qS st rch bx wt ins hld unt Y ap ab hr ln sa mv nw lf) (vN v1)).1) (oFirst (qS st rch bx wt ins hld unt Y ap ab hr ln sa mv nw lf) (vN v1)).2.2 ∧ ((oFirst (qS st rch bx wt ins hld unt Y ap ab hr ln sa mv nw lf) (vN v1)).1 = 0 → r = (oFirst (qS st rch bx wt ins hld unt Y ap ab hr ln sa mv nw lf) (vN v1)).2.1)) zno_x := by
  refine z_enter (by decide +kernel) [(0, .ref m), (1, .int v1)] rfl (Nat.le_of_ble_eq_true rfl) (zcat_cons rfl (zcat_cons rfl zcat_nil)) (fun Γ C hQ => ?_)
  have hM : MX D V m A F cd nw st bx mv ap lf := hR.1
  have hE : mE F st bx rch wt ins hld := hR.2.1
  have hU : ∀ b, b < 20 → F 4 b = nI (unt b) := hR.2.2.1
  have hy : mY F 0 Y := hR.2.2.2.1
  have hA : ∀ a, a < ap → F 8 a = nI (ab a) ∧ F 9 a = nI (hr a) ∧ F 10 a = nI (ln a) ∧ F 11 a = sa a := hR.2.2.2.2
  have hst : st ≤ 4 := hI.1.1
  have hbx : bx ≤ 20 := hI.1.2.1
  have hrc : ∀ s, s < st → rch s ≤ 4 := fun s hs => (hI.1.2.2.1 s hs).2
  have hwt : ∀ b, b < bx → wt b < 1000 := fun b hb => by have h9 : wt b ≤ 30 := (hI.1.2.2.2 b hb).2; omega
  have hg : yGood st bx ins Y := hI.2.1.1
  have hht : ∀ s, s < st → (Y s).length ≤ rch s := hI.2.1.2.1
  have hu1 : ∀ b, unt b ≤ 1000 := hI.2.2.1.2.1
  have hhl : ∀ b, b < bx → hld b = nI 45 ∨ hld b = nI 112 ∨ hld b = nI 108 := hI.2.2.1.2.2
  have hap : ap ≤ 30 := hI.2.2.2.1.1
  have haa : ∀ a, a < ap → ab a < bx ∧ hr a ≤ 999 ∧ ln a < 3 ∧ (sa a = nI 98 ∨ sa a = nI 99 ∨ sa a = nI 103 ∨ sa a = nI 100 ∨ sa a = nI 109) := hI.2.2.2.1.2.1
  have hnw : nw ≤ 999 := hI.2.2.2.2
  have hY4 : ∀ s, (Y s).length ≤ 4 := hg.1.1
  have hmm : ∀ s, ∀ c ∈ Y s, c < bx := fun s c hc => (hg.2.2 s c hc).1
  refine z_aload_n C 0 rfl dX3_firstHour_0 rfl ?_
  refine z_iconst C (v := (nI 0)) dX3_firstHour_1 rfl ?_
  refine z_put C k_M hM.1 0 (by decide) [.int (nI 0), .int (nI nw), .int (nI st), .ref (A 0), .int (nI bx), .ref (A 1), .ref (A 2), .ref (A 3), .ref (A 4), .ref (A 5), .ref (A 6), .ref (A 7), .int mv, .int (nI ap), .ref (A 8), .ref (A 9), .ref (A 10), .ref (A 11), .long lf] rfl (Nat.le_of_ble_eq_true rfl) rfl rfl rfl q1387 dX3_firstHour_2 (z_nV (fun V1 hV2 => ?_))
  have hM3 := MX.ob (cd2 := (nI 0)) (nw2 := nw) (st2 := st) (bx2 := bx) (mv2 := mv) (ap2 := ap) (lf2 := lf) hM hV2
  refine z_aload_n C 0 rfl dX3_firstHour_5 rfl ?_
  refine z_iload_n C 1 rfl dX3_firstHour_6 rfl ?_
  refine z_callV C k_M hM3.1 (As := [.int v1]) (mX3_isBox (show mR D _ m A _ _ (qS st rch bx wt ins hld unt Y ap ab hr ln sa mv nw lf) from ⟨hM3, hE, hU, hy, hA⟩) hI) (lw_V q1494 q1496 qs37 q65 q1497) rfl hd_X3_isBox rfl (Nat.le_of_ble_eq_true rfl) (by decide) (by decide) (by decide) (by decide) rfl dX3_firstHour_7 (fun _ _ h => h.elim) (fun r4 V5 hP6 => ?_)
  rw [hP6.1, hP6.2]
  refine z_st (st' := [.int (zb (qIs (qS st rch bx wt ins hld unt Y ap ab hr ln sa mv nw lf) (vN v1)))]) rfl ?_
  refine z_if_neB C 19 dX3_firstHour_10 (by decide) (fun c10 => ?_) (fun c10 => ?_)
  · skip
    have hq : qIs (qS st rch bx wt ins hld unt Y ap ab hr ln sa mv nw lf) (vN v1) = true := by simpa using c10
    obtain ⟨hbb, hbi⟩ := qIs_t (S := (qS st rch bx wt ins hld unt Y ap ab hr ln sa mv nw lf)) (by simpa using c10)
    have hbb : vN v1 < bx := hbb
    have hbi : ins (vN v1) = true := hbi
    have hv7 := vN_of (v := v1) hbb (by omega)
    have e8 : (.int v1 : Value) = .int (nI (vN v1)) := (congrArg Value.int hv7)
    refine z_lv (lv' := [(0, .ref m), (1, .int (nI (vN v1)))]) (by rw [e8]) ?_
    obtain ⟨p0, hb0⟩ := hg.2.1 _ hbb hbi
    have hb : vN v1 ∈ Y (yPl Y (vN v1)) := by rw [yPl_eq hg.1 hst hb0]; exact hb0
    have hpst := hg.1.lt hb
    have hq0 : ¬ qIs (qS st rch bx wt ins hld unt Y ap ab hr ln sa mv nw lf) (vN v1) = false := by rw [hq]; decide
    refine z_aload_n C 0 rfl dX3_firstHour_19 rfl ?_
    refine z_get C k_M hM3.1 1 (by decide) rfl q1388 dX3_firstHour_20 ?_
    refine z_iconst C (v := (nI 1)) dX3_firstHour_23 rfl ?_
    refine z_iaddN C dX3_firstHour_24 ?_
    refine z_istore_n C [(2, .int (nI (nw + 1))), (0, .ref m), (1, .int (nI (vN v1)))] dX3_firstHour_25 rfl (by decide) rfl ?_
    have loop9 : ∀ (n_loop9 : Nat) (k : Nat), nw + 1 ≤ k → k ≤ 1000 → (∀ j, j < k → (decide (nw < j) && (qFree (qS st rch bx wt ins hld unt Y ap ab hr ln sa mv nw lf) j && !qHeld (qS st rch bx wt ins hld unt Y ap ab hr ln sa mv nw lf) (vN v1) j)) = false) → 1000 - k < n_loop9 → ZW l D Γ (zr 3 0 0) 26 [(2, .int (nI k)), (0, .ref m), (1, .int (nI (vN v1)))] [] V1 (0 + 0) (0 + 0) := by
      intro n_loop9
      induction n_loop9 with
      | zero => intro k _ _ _ hm; exact absurd hm (Nat.not_lt_zero _)
      | succ n_loop9 ih_loop9 =>
        intro k hloop9_0 hloop9_1 hloop9_2 hm
        refine z_iload_n C 0 rfl dX3_firstHour_26 rfl ?_
        refine z_sipush C (v := (nI 999)) dX3_firstHour_27 rfl ?_
        refine z_icmp_gtN C 90 (by omega) (by omega) dX3_firstHour_30 (by decide) (fun c30 => ?_) (fun c30 => ?_)
        · skip
          obtain rfl : k = 1000 := by omega
          have hF : qFirst (qS st rch bx wt ins hld unt Y ap ab hr ln sa mv nw lf) (vN v1) = none := fF_no hloop9_2
          have e1 : oFirst (qS st rch bx wt ins hld unt Y ap ab hr ln sa mv nw lf) (vN v1) = (2, 0, (qS st rch bx wt ins hld unt Y ap ab hr ln sa mv nw lf)) := (if_neg hq0).trans (by rw [hF])
          refine z_aload_n C 1 rfl dX3_firstHour_90 rfl ?_
          refine z_iconst C (v := (nI 2)) dX3_firstHour_91 rfl ?_
          refine z_callV C k_M hM3.1 (As := [.int (nI 2)]) (mX3_fails hM3 hst hbx) (lw_V q1458 q1460 qs31 q65 q1461) rfl hd_X3_fails rfl (Nat.le_of_ble_eq_true rfl) (by decide) (by decide) (by decide) (by decide) rfl dX3_firstHour_92 (fun _ _ h => h.elim) (fun r10 V11 hP12 => ?_)
          obtain ⟨hM13, rfl⟩ := hP12
          refine z_st (st' := [.int 0]) rfl ?_
          exact z_iret C hQ 0 rfl ⟨F, by rw [e1]; exact (show mR D _ m A _ _ (qS st rch bx wt ins hld unt Y ap ab hr ln sa mv nw lf) from ⟨hM13, hE, hU, hy, hA⟩), fun _ => oRes e1⟩ (by decide) (by decide) dX3_firstHour_95
        · skip
          refine z_aload_n C 1 rfl dX3_firstHour_33 rfl ?_
          refine z_iconst C (v := (nI 0)) dX3_firstHour_34 rfl ?_
          refine z_iload_n C 0 rfl dX3_firstHour_35 rfl ?_
          refine z_callV C k_M hM3.1 (As := [.int (nI 0), .int (nI k)]) (mX3_bookedIn (show mR D _ m A _ _ (qS st rch bx wt ins hld unt Y ap ab hr ln sa mv nw lf) from ⟨hM3, hE, hU, hy, hA⟩) hI (x := 0) (y := k) (by omega) (by omega)) (lw_V q1642 q1644 qs54 q65 q1645) rfl hd_X3_bookedIn rfl (Nat.le_of_ble_eq_true rfl) (by decide) (by decide) (by decide) (by decide) rfl dX3_firstHour_36 (fun _ _ h => h.elim) (fun r14 V15 hP16 => ?_)
          rw [hP16.1, hP16.2]
          refine z_st (st' := [.int (oInt (qBin (qS st rch bx wt ins hld unt Y ap ab hr ln sa mv nw lf) 0 k))]) rfl ?_
          rcases ho0 : qBin (qS st rch bx wt ins hld unt Y ap ab hr ln sa mv nw lf) 0 k with _ | a0
          · skip
            have e17 : (.int (oInt none) : Value) = .int (-1) := rfl
            refine z_st (st' := [.int (-1)]) (by rw [e17]) ?_
            have hf : qFree (qS st rch bx wt ins hld unt Y ap ab hr ln sa mv nw lf) k = true := by unfold qFree; rw [show qBin (qS st rch bx wt ins hld unt Y ap ab hr ln sa mv nw lf) 0 k = none from ho0]; simp
            refine z_iconst C (v := (-1)) dX3_firstHour_39 rfl ?_
            refine z_icmp_eq C 63 dX3_firstHour_40 (by decide) (fun c40 => ?_) (fun c40 => ?_)
            · skip
              refine z_iconst C (v := (nI 1)) dX3_firstHour_63 rfl ?_
              refine z_goto C 68 dX3_firstHour_64 (by decide) ?_
              refine z_istore_n C [(3, .int (nI 1)), (2, .int (nI k)), (0, .ref m), (1, .int (nI (vN v1)))] dX3_firstHour_68 rfl (by decide) rfl ?_
              refine z_iload_n C 0 rfl dX3_firstHour_69 rfl ?_
              refine z_if_eqN C 84 (by omega) dX3_firstHour_70 (by decide) (fun c70 => ?_) (fun c70 => ?_)
              · skip
                exfalso; omega
              · skip
                refine z_aload_n C 2 rfl dX3_firstHour_73 rfl ?_
                refine z_iload_n C 3 rfl dX3_firstHour_74 rfl ?_
                refine z_iload_n C 1 rfl dX3_firstHour_75 rfl ?_
                refine z_callV C k_M hM3.1 (As := [.int (nI (vN v1)), .int (nI k)]) (mX3_isHeldIn (show mR D _ m A _ _ (qS st rch bx wt ins hld unt Y ap ab hr ln sa mv nw lf) from ⟨hM3, hE, hU, hy, hA⟩) hI (x := vN v1) (y := k) (by omega) (by omega)) (lw_V q1638 q1640 qs53 q65 q1641) rfl hd_X3_isHeldIn rfl (Nat.le_of_ble_eq_true rfl) (by decide) (by decide) (by decide) (by decide) rfl dX3_firstHour_76 (fun _ _ h => h.elim) (fun r18 V19 hP20 => ?_)
                rw [hP20.1, hP20.2]
                refine z_st (st' := [.int (zb (qHeld (qS st rch bx wt ins hld unt Y ap ab hr ln sa mv nw lf) (vN v1) k))]) rfl ?_
                refine z_if_neB C 84 dX3_firstHour_79 (by decide) (fun c79 => ?_) (fun c79 => ?_)
                · skip
                  have hk : (decide (nw < k) && (qFree (qS st rch bx wt ins hld unt Y ap ab hr ln sa mv nw lf) k && !qHeld (qS st rch bx wt ins hld unt Y ap ab hr ln sa mv nw lf) (vN v1) k)) = false := by rw [c79]; simp
                  refine z_iincN C 1 1 [(2, .int (nI (k + 1))), (3, .int (nI 1)), (0, .ref m), (1, .int (nI (vN v1)))] rfl dX3_firstHour_84 rfl (by decide) rfl ?_
                  refine z_goto C 26 dX3_firstHour_87 (by decide) ?_
                  refine z_pick [(2, .int (nI (k + 1))), (0, .ref m), (1, .int (nI (vN v1)))] [0, 2, 3] rfl ?_
                  have hnext : ∀ j, j < k + 1 → (decide (nw < j) && (qFree (qS st rch bx wt ins hld unt Y ap ab hr ln sa mv nw lf) j && !qHeld (qS st rch bx wt ins hld unt Y ap ab hr ln sa mv nw lf) (vN v1) j)) = false := by
                    intro j hj
                    rcases Nat.lt_or_ge j k with q | q
                    · exact hloop9_2 j q
                    · obtain rfl : j = k := by omega
                      exact hk
                  exact ih_loop9 (k + 1) (by omega) (by omega) hnext (by omega)
                · skip
                  have hk : (decide (nw < k) && (qFree (qS st rch bx wt ins hld unt Y ap ab hr ln sa mv nw lf) k && !qHeld (qS st rch bx wt ins hld unt Y ap ab hr ln sa mv nw lf) (vN v1) k)) = true := by rw [c79, hf]; simp; omega
                  have hF : qFirst (qS st rch bx wt ins hld unt Y ap ab hr ln sa mv nw lf) (vN v1) = some k := fF_at hk hloop9_2 (by omega)
                  have e1 : oFirst (qS st rch bx wt ins hld unt Y ap ab hr ln sa mv nw lf) (vN v1) = (0, nI k, (qS st rch bx wt ins hld unt Y ap ab hr ln sa mv nw lf)) := (if_neg hq0).trans (by rw [hF])
                  refine z_iload_n C 1 rfl dX3_firstHour_82 rfl ?_
                  exact z_iret C hQ (nI k) rfl ⟨F, by rw [e1]; exact (show mR D _ m A _ _ (qS st rch bx wt ins hld unt Y ap ab hr ln sa mv nw lf) from ⟨hM3, hE, hU, hy, hA⟩), fun _ => oRes e1⟩ (by decide) (by decide) dX3_firstHour_83
            · skip
              exfalso; exact absurd rfl c40
          · skip
            have e21 : (.int (oInt (some a0)) : Value) = .int (nI a0) := rfl
            refine z_st (st' := [.int (nI a0)]) (by rw [e21]) ?_
            have ha0 : a0 < ap := (fF_some ho0).1
            refine z_iconst C (v := (-1)) dX3_firstHour_39 rfl ?_
            refine z_icmp_eq C 63 dX3_firstHour_40 (by decide) (fun c40 => ?_) (fun c40 => ?_)
            · skip
              exfalso; exact absurd c40 (nI_nem1 (by omega))
            · skip
              refine z_aload_n C 1 rfl dX3_firstHour_43 rfl ?_
              refine z_iconst C (v := (nI 1)) dX3_firstHour_44 rfl ?_
              refine z_iload_n C 0 rfl dX3_firstHour_45 rfl ?_
              refine z_callV C k_M hM3.1 (As := [.int (nI 1), .int (nI k)]) (mX3_bookedIn (show mR D _ m A _ _ (qS st rch bx wt ins hld unt Y ap ab hr ln sa mv nw lf) from ⟨hM3, hE, hU, hy, hA⟩) hI (x := 1) (y := k) (by omega) (by omega)) (lw_V q1642 q1644 qs54 q65 q1645) rfl hd_X3_bookedIn rfl (Nat.le_of_ble_eq_true rfl) (by decide) (by decide) (by decide) (by decide) rfl dX3_firstHour_46 (fun _ _ h => h.elim) (fun r22 V23 hP24 => ?_)
              rw [hP24.1, hP24.2]
              refine z_st (st' := [.int (oInt (qBin (qS st rch bx wt ins hld unt Y ap ab hr ln sa mv nw lf) 1 k))]) rfl ?_
              rcases ho1 : qBin (qS st rch bx wt ins hld unt Y ap ab hr ln sa mv nw lf) 1 k with _ | a1
              · skip
                have e25 : (.int (oInt none) : Value) = .int (-1) := rfl
                refine z_st (st' := [.int (-1)]) (by rw [e25]) ?_
                have hf : qFree (qS st rch bx wt ins hld unt Y ap ab hr ln sa mv nw lf) k = true := by unfold qFree; rw [show qBin (qS st rch bx wt ins hld unt Y ap ab hr ln sa mv nw lf) 1 k = none from ho1]; simp
                refine z_iconst C (v := (-1)) dX3_firstHour_49 rfl ?_
                refine z_icmp_eq C 63 dX3_firstHour_50 (by decide) (fun c50 => ?_) (fun c50 => ?_)
                · skip
                  refine z_iconst C (v := (nI 1)) dX3_firstHour_63 rfl ?_
                  refine z_goto C 68 dX3_firstHour_64 (by decide) ?_
                  refine z_istore_n C [(3, .int (nI 1)), (2, .int (nI k)), (0, .ref m), (1, .int (nI (vN v1)))] dX3_firstHour_68 rfl (by decide) rfl ?_
                  refine z_iload_n C 0 rfl dX3_firstHour_69 rfl ?_
                  refine z_if_eqN C 84 (by omega) dX3_firstHour_70 (by decide) (fun c70 => ?_) (fun c70 => ?_)
                  · skip
                    exfalso; omega
                  · skip
                    refine z_aload_n C 2 rfl dX3_firstHour_73 rfl ?_
                    refine z_iload_n C 3 rfl dX3_firstHour_74 rfl ?_
                    refine z_iload_n C 1 rfl dX3_firstHour_75 rfl ?_
                    refine z_callV C k_M hM3.1 (As := [.int (nI (vN v1)), .int (nI k)]) (mX3_isHeldIn (show mR D _ m A _ _ (qS st rch bx wt ins hld unt Y ap ab hr ln sa mv nw lf) from ⟨hM3, hE, hU, hy, hA⟩) hI (x := vN v1) (y := k) (by omega) (by omega)) (lw_V q1638 q1640 qs53 q65 q1641) rfl hd_X3_isHeldIn rfl (Nat.le_of_ble_eq_true rfl) (by decide) (by decide) (by decide) (by decide) rfl dX3_firstHour_76 (fun _ _ h => h.elim) (fun r26 V27 hP28 => ?_)
                    rw [hP28.1, hP28.2]
                    refine z_st (st' := [.int (zb (qHeld (qS st rch bx wt ins hld unt Y ap ab hr ln sa mv nw lf) (vN v1) k))]) rfl ?_
                    refine z_if_neB C 84 dX3_firstHour_79 (by decide) (fun c79 => ?_) (fun c79 => ?_)
                    · skip
                      have hk : (decide (nw < k) && (qFree (qS st rch bx wt ins hld unt Y ap ab hr ln sa mv nw lf) k && !qHeld (qS st rch bx wt ins hld unt Y ap ab hr ln sa mv nw lf) (vN v1) k)) = false := by rw [c79]; simp
                      refine z_iincN C 1 1 [(2, .int (nI (k + 1))), (3, .int (nI 1)), (0, .ref m), (1, .int (nI (vN v1)))] rfl dX3_firstHour_84 rfl (by decide) rfl ?_
                      refine z_goto C 26 dX3_firstHour_87 (by decide) ?_
                      refine z_pick [(2, .int (nI (k + 1))), (0, .ref m), (1, .int (nI (vN v1)))] [0, 2, 3] rfl ?_
                      have hnext : ∀ j, j < k + 1 → (decide (nw < j) && (qFree (qS st rch bx wt ins hld unt Y ap ab hr ln sa mv nw lf) j && !qHeld (qS st rch bx wt ins hld unt Y ap ab hr ln sa mv nw lf) (vN v1) j)) = false := by
                        intro j hj
                        rcases Nat.lt_or_ge j k with q | q
                        · exact hloop9_2 j q
                        · obtain rfl : j = k := by omega
                          exact hk
                      exact ih_loop9 (k + 1) (by omega) (by omega) hnext (by omega)
                    · skip
                      have hk : (decide (nw < k) && (qFree (qS st rch bx wt ins hld unt Y ap ab hr ln sa mv nw lf) k && !qHeld (qS st rch bx wt ins hld unt Y ap ab hr ln sa mv nw lf) (vN v1) k)) = true := by rw [c79, hf]; simp; omega
                      have hF : qFirst (qS st rch bx wt ins hld unt Y ap ab hr ln sa mv nw lf) (vN v1) = some k := fF_at hk hloop9_2 (by omega)
                      have e1 : oFirst (qS st rch bx wt ins hld unt Y ap ab hr ln sa mv nw lf) (vN v1) = (0, nI k, (qS st rch bx wt ins hld unt Y ap ab hr ln sa mv nw lf)) := (if_neg hq0).trans (by rw [hF])
                      refine z_iload_n C 1 rfl dX3_firstHour_82 rfl ?_
                      exact z_iret C hQ (nI k) rfl ⟨F, by rw [e1]; exact (show mR D _ m A _ _ (qS st rch bx wt ins hld unt Y ap ab hr ln sa mv nw lf) from ⟨hM3, hE, hU, hy, hA⟩), fun _ => oRes e1⟩ (by decide) (by decide) dX3_firstHour_83
                · skip
                  exfalso; exact absurd rfl c50
              · skip
                have e29 : (.int (oInt (some a1)) : Value) = .int (nI a1) := rfl
                refine z_st (st' := [.int (nI a1)]) (by rw [e29]) ?_
                have ha1 : a1 < ap := (fF_some ho1).1
                refine z_iconst C (v := (-1)) dX3_firstHour_49 rfl ?_
                refine z_icmp_eq C 63 dX3_firstHour_50 (by decide) (fun c50 => ?_) (fun c50 => ?_)
                · skip
                  exfalso; exact absurd c50 (nI_nem1 (by omega))
                · skip
                  refine z_aload_n C 1 rfl dX3_firstHour_53 rfl ?_
                  refine z_iconst C (v := (nI 2)) dX3_firstHour_54 rfl ?_
                  refine z_iload_n C 0 rfl dX3_firstHour_55 rfl ?_
                  refine z_callV C k_M hM3.1 (As := [.int (nI 2), .int (nI k)]) (mX3_bookedIn (show mR D _ m A _ _ (qS st rch bx wt ins hld unt Y ap ab hr ln sa mv nw lf) from ⟨hM3, hE, hU, hy, hA⟩) hI (x := 2) (y := k) (by omega) (by omega)) (lw_V q1642 q1644 qs54 q65 q1645) rfl hd_X3_bookedIn rfl (Nat.le_of_ble_eq_true rfl) (by decide) (by decide) (by decide) (by decide) rfl dX3_firstHour_56 (fun _ _ h => h.elim) (fun r30 V31 hP32 => ?_)
                  rw [hP32.1, hP32.2]
                  refine z_st (st' := [.int (oInt (qBin (qS st rch bx wt ins hld unt Y ap ab hr ln sa mv nw lf) 2 k))]) rfl ?_
                  rcases ho2 : qBin (qS st rch bx wt ins hld unt Y ap ab hr ln sa mv nw lf) 2 k with _ | a2
                  · skip
                    have e33 : (.int (oInt none) : Value) = .int (-1) := rfl
                    refine z_st (st' := [.int (-1)]) (by rw [e33]) ?_
                    have hf : qFree (qS st rch bx wt ins hld unt Y ap ab hr ln sa mv nw lf) k = true := by unfold qFree; rw [show qBin (qS st rch bx wt ins hld unt Y ap ab hr ln sa mv nw lf) 2 k = none from ho2]; simp
                    refine z_iconst C (v := (-1)) dX3_firstHour_59 rfl ?_
                    refine z_icmp_ne C 67 dX3_firstHour_60 (by decide) (fun c60 => ?_) (fun c60 => ?_)
                    · skip
                      exfalso; exact absurd rfl c60
                    · skip
                      refine z_iconst C (v := (nI 1)) dX3_firstHour_63 rfl ?_
                      refine z_goto C 68 dX3_firstHour_64 (by decide) ?_
                      refine z_istore_n C [(3, .int (nI 1)), (2, .int (nI k)), (0, .ref m), (1, .int (nI (vN v1)))] dX3_firstHour_68 rfl (by decide) rfl ?_
                      refine z_iload_n C 0 rfl dX3_firstHour_69 rfl ?_
                      refine z_if_eqN C 84 (by omega) dX3_firstHour_70 (by decide) (fun c70 => ?_) (fun c70 => ?_)
                      · skip
                        exfalso; omega
                      · skip
                        refine z_aload_n C 2 rfl dX3_firstHour_73 rfl ?_
                        refine z_iload_n C 3 rfl dX3_firstHour_74 rfl ?_
                        refine z_iload_n C 1 rfl dX3_firstHour_75 rfl ?_
                        refine z_callV C k_M hM3.1 (As := [.int (nI (vN v1)), .int (nI k)]) (mX3_isHeldIn (show mR D _ m A _ _ (qS st rch bx wt ins hld unt Y ap ab hr ln sa mv nw lf) from ⟨hM3, hE, hU, hy, hA⟩) hI (x := vN v1) (y := k) (by omega) (by omega)) (lw_V q1638 q1640 qs53 q65 q1641) rfl hd_X3_isHeldIn rfl (Nat.le_of_ble_eq_true rfl) (by decide) (by decide) (by decide) (by decide) rfl dX3_firstHour_76 (fun _ _ h => h.elim) (fun r34 V35 hP36 => ?_)
                        rw [hP36.1, hP36.2]
                        refine z_st (st' := [.int (zb (qHeld (qS st rch bx wt ins hld unt Y ap ab hr ln sa mv nw lf) (vN v1) k))]) rfl ?_
                        refine z_if_neB C 84 dX3_firstHour_79 (by decide) (fun c79 => ?_) (fun c79 => ?_)
                        · skip
                          have hk : (decide (nw < k) && (qFree (qS st rch bx wt ins hld unt Y ap ab hr ln sa mv nw lf) k && !qHeld (qS st rch bx wt ins hld unt Y ap ab hr ln sa mv nw lf) (vN v1) k)) = false := by rw [c79]; simp
                          refine z_iincN C 1 1 [(2, .int (nI (k + 1))), (3, .int (nI 1)), (0, .ref m), (1, .int (nI (vN v1)))] rfl dX3_firstHour_84 rfl (by decide) rfl ?_
                          refine z_goto C 26 dX3_firstHour_87 (by decide) ?_
                          refine z_pick [(2, .int (nI (k + 1))), (0, .ref m), (1, .int (nI (vN v1)))] [0, 2, 3] rfl ?_
                          have hnext : ∀ j, j < k + 1 → (decide (nw < j) && (qFree (qS st rch bx wt ins hld unt Y ap ab hr ln sa mv nw lf) j && !qHeld (qS st rch bx wt ins hld unt Y ap ab hr ln sa mv nw lf) (vN v1) j)) = false := by
                            intro j hj
                            rcases Nat.lt_or_ge j k with q | q
                            · exact hloop9_2 j q
                            · obtain rfl : j = k := by omega
                              exact hk
                          exact ih_loop9 (k + 1) (by omega) (by omega) hnext (by omega)
                        · skip
                          have hk : (decide (nw < k) && (qFree (qS st rch bx wt ins hld unt Y ap ab hr ln sa mv nw lf) k && !qHeld (qS st rch bx wt ins hld unt Y ap ab hr ln sa mv nw lf) (vN v1) k)) = true := by rw [c79, hf]; simp; omega
                          have hF : qFirst (qS st rch bx wt ins hld unt Y ap ab hr ln sa mv nw lf) (vN v1) = some k := fF_at hk hloop9_2 (by omega)
                          have e1 : oFirst (qS st rch bx wt ins hld unt Y ap ab hr ln sa mv nw lf) (vN v1) = (0, nI k, (qS st rch bx wt ins hld unt Y ap ab hr ln sa mv nw lf)) := (if_neg hq0).trans (by rw [hF])
                          refine z_iload_n C 1 rfl dX3_firstHour_82 rfl ?_
                          exact z_iret C hQ (nI k) rfl ⟨F, by rw [e1]; exact (show mR D _ m A _ _ (qS st rch bx wt ins hld unt Y ap ab hr ln sa mv nw lf) from ⟨hM3, hE, hU, hy, hA⟩), fun _ => oRes e1⟩ (by decide) (by decide) dX3_firstHour_83
                  · skip
                    have e37 : (.int (oInt (some a2)) : Value) = .int (nI a2) := rfl
                    refine z_st (st' := [.int (nI a2)]) (by rw [e37]) ?_
                    have ha2 : a2 < ap := (fF_some ho2).1
                    have hf : qFree (qS st rch bx wt ins hld unt Y ap ab hr ln sa mv nw lf) k = false := by unfold qFree; rw [show qBin (qS st rch bx wt ins hld unt Y ap ab hr ln sa mv nw lf) 0 k = some a0 from ho0, show qBin (qS st rch bx wt ins hld unt Y ap ab hr ln sa mv nw lf) 1 k = some a1 from ho1, show qBin (qS st rch bx wt ins hld unt Y ap ab hr ln sa mv nw lf) 2 k = some a2 from ho2]; rfl
                    refine z_iconst C (v := (-1)) dX3_firstHour_59 rfl ?_
                    refine z_icmp_ne C 67 dX3_firstHour_60 (by decide) (fun c60 => ?_) (fun c60 => ?_)
                    · skip
                      refine z_iconst C (v := (nI 0)) dX3_firstHour_67 rfl ?_
                      refine z_istore_n C [(3, .int (nI 0)), (2, .int (nI k)), (0, .ref m), (1, .int (nI (vN v1)))] dX3_firstHour_68 rfl (by decide) rfl ?_
                      refine z_iload_n C 0 rfl dX3_firstHour_69 rfl ?_
                      refine z_if_eqN C 84 (by omega) dX3_firstHour_70 (by decide) (fun c70 => ?_) (fun c70 => ?_)
                      · skip
                        have hk : (decide (nw < k) && (qFree (qS st rch bx wt ins hld unt Y ap ab hr ln sa mv nw lf) k && !qHeld (qS st rch bx wt ins hld unt Y ap ab hr ln sa mv nw lf) (vN v1) k)) = false := by rw [hf]; simp
                        refine z_iincN C 1 1 [(2, .int (nI (k + 1))), (3, .int (nI 0)), (0, .ref m), (1, .int (nI (vN v1)))] rfl dX3_firstHour_84 rfl (by decide) rfl ?_
                        refine z_goto C 26 dX3_firstHour_87 (by decide) ?_
                        refine z_pick [(2, .int (nI (k + 1))), (0, .ref m), (1, .int (nI (vN v1)))] [0, 2, 3] rfl ?_
                        have hnext : ∀ j, j < k + 1 → (decide (nw < j) && (qFree (qS st rch bx wt ins hld unt Y ap ab hr ln sa mv nw lf) j && !qHeld (qS st rch bx wt ins hld unt Y ap ab hr ln sa mv nw lf) (vN v1) j)) = false := by
                          intro j hj
                          rcases Nat.lt_or_ge j k with q | q
                          · exact hloop9_2 j q
                          · obtain rfl : j = k := by omega
                            exact hk
                        exact ih_loop9 (k + 1) (by omega) (by omega) hnext (by omega)
                      · skip
                        exfalso; omega
                    · skip
                      exfalso; exact absurd c60 (nI_nem1 (by omega))
    exact loop9 _ (nw + 1) (Nat.le_refl _) (by omega) (fun j hj => by rw [decide_eq_false (by omega)]; rfl) (Nat.lt_succ_self _)
  · skip
    have hq : qIs (qS st rch bx wt ins hld unt Y ap ab hr ln sa mv nw lf) (vN v1) = false := by simpa using c10
    have e1 : oFirst (qS st rch bx wt ins hld unt Y ap ab hr ln sa mv nw lf) (vN v1) = (1, 0, (qS st rch bx wt ins hld unt Y ap ab hr ln sa mv nw lf)) := if_pos hq
    refine z_aload_n C 0 rfl dX3_firstHour_13 rfl ?_
    refine z_iconst C (v := (nI 1)) dX3_firstHour_14 rfl ?_
    refine z_callV C k_M hM3.1 (As := [.int (nI 1)]) (mX3_fails hM3 hst hbx) (lw_V q1458 q1460 qs31 q65 q1461) rfl hd_X3_fails rfl (Nat.le_of_ble_eq_true rfl) (by decide) (by decide) (by decide) (by decide) rfl dX3_firstHour_15 (fun _ _ h => h.elim) (fun r38 V39 hP40 => ?_)
    obtain ⟨hM41, rfl⟩ := hP40
    refine z_st (st' := [.int 0]) rfl ?_
    exact z_iret C hQ 0 rfl ⟨F, by rw [e1]; exact (show mR D _ m A _ _ (qS st rch bx wt ins hld unt Y ap ab hr ln sa mv nw lf) from ⟨hM41, hE, hU, hy, hA⟩), fun _ => oRes e1⟩ (by decide) (by decide) dX3_firstHour_18
set_option maxHeartbeats 4000000 in
set_option maxRecDepth 100000 in
theorem mX3_now {l : Launch} {D : ZD} {V : ZV} {kk m : Nat} {A : Nat → Nat} {F : Nat → Nat → Int32} {cd : Int32} {st : Nat} {rch : Nat → Nat} {bx : Nat} {wt : Nat → Nat} {ins : Nat → Bool} {hld : Nat → Int32} {unt : Nat → Nat} {Y : YD} {ap : Nat} {ab hr ln : Nat → Nat} {sa : Nat → Int32} {mv : Int32} {nw : Nat} {lf : Int64} (hR : mR D V m A F cd (qS st rch bx wt ins hld unt Y ap ab hr ln sa mv nw lf)) (hI : qI kk (qS st rch bx wt ins hld unt Y ap ab hr ln sa mv nw lf))  : ZM l D yX3_now (ws_ yX3_now cX3_now 1 (some .int)) 1 0 0 eI V [.ref m] (fun r V' => ∃ F2, mR D V' m A F2 0 (qS st rch bx wt ins hld unt Y ap ab hr ln sa mv nw lf) ∧ r = nI nw) zno_x := by
  refine z_enter (by decide +kernel) [(0, .ref m)] rfl (Nat.le_of_ble_eq_true rfl) (zcat_cons rfl zcat_nil) (fun Γ C hQ => ?_)
  have hM : MX D V m A F cd nw st bx mv ap lf := hR.1
  have hE : mE F st bx rch wt ins hld := hR.2.1
  have hU : ∀ b, b < 20 → F 4 b = nI (unt b) := hR.2.2.1
  have hy : mY F 0 Y := hR.2.2.2.1
  have hA : ∀ a, a < ap → F 8 a = nI (ab a) ∧ F 9 a = nI (hr a) ∧ F 10 a = nI (ln a) ∧ F 11 a = sa a := hR.2.2.2.2
  have hst : st ≤ 4 := hI.1.1
  have hbx : bx ≤ 20 := hI.1.2.1
  have hrc : ∀ s, s < st → rch s ≤ 4 := fun s hs => (hI.1.2.2.1 s hs).2
  have hwt : ∀ b, b < bx → wt b < 1000 := fun b hb => by have h9 : wt b ≤ 30 := (hI.1.2.2.2 b hb).2; omega
  have hg : yGood st bx ins Y := hI.2.1.1
  have hht : ∀ s, s < st → (Y s).length ≤ rch s := hI.2.1.2.1
  have hu1 : ∀ b, unt b ≤ 1000 := hI.2.2.1.2.1
  have hhl : ∀ b, b < bx → hld b = nI 45 ∨ hld b = nI 112 ∨ hld b = nI 108 := hI.2.2.1.2.2
  have hap : ap ≤ 30 := hI.2.2.2.1.1
  have haa : ∀ a, a < ap → ab a < bx ∧ hr a ≤ 999 ∧ ln a < 3 ∧ (sa a = nI 98 ∨ sa a = nI 99 ∨ sa a = nI 103 ∨ sa a = nI 100 ∨ sa a = nI 109) := hI.2.2.2.1.2.1
  have hnw : nw ≤ 999 := hI.2.2.2.2
  have hY4 : ∀ s, (Y s).length ≤ 4 := hg.1.1
  have hmm : ∀ s, ∀ c ∈ Y s, c < bx := fun s c hc => (hg.2.2 s c hc).1
  refine z_aload_n C 0 rfl dX3_now_0 rfl ?_
  refine z_iconst C (v := (nI 0)) dX3_now_1 rfl ?_
  refine z_put C k_M hM.1 0 (by decide) [.int (nI 0), .int (nI nw), .int (nI st), .ref (A 0), .int (nI bx), .ref (A 1), .ref (A 2), .ref (A 3), .ref (A 4), .ref (A 5), .ref (A 6), .ref (A 7), .int mv, .int (nI ap), .ref (A 8), .ref (A 9), .ref (A 10), .ref (A 11), .long lf] rfl (Nat.le_of_ble_eq_true rfl) rfl rfl rfl q1387 dX3_now_2 (z_nV (fun V1 hV2 => ?_))
  have hM3 := MX.ob (cd2 := (nI 0)) (nw2 := nw) (st2 := st) (bx2 := bx) (mv2 := mv) (ap2 := ap) (lf2 := lf) hM hV2
  refine z_aload_n C 0 rfl dX3_now_5 rfl ?_
  refine z_get C k_M hM3.1 1 (by decide) rfl q1388 dX3_now_6 ?_
  exact z_iret C hQ (nI nw) rfl ⟨F, (show mR D _ m A _ _ (qS st rch bx wt ins hld unt Y ap ab hr ln sa mv nw lf) from ⟨hM3, hE, hU, hy, hA⟩), rfl⟩ (by decide) (by decide) dX3_now_9
set_option maxHeartbeats 4000000 in
set_option maxRecDepth 100000 in
theorem mX3_moves_2 {l : Launch} {D : ZD} {V : ZV} {kk m : Nat} {A : Nat → Nat} {F : Nat → Nat → Int32} {cd : Int32} {st : Nat} {rch : Nat → Nat} {bx : Nat} {wt : Nat → Nat} {ins : Nat → Bool} {hld : Nat → Int32} {unt : Nat → Nat} {Y : YD} {ap : Nat} {ab hr ln : Nat → Nat} {sa : Nat → Int32} {mv : Int32} {nw : Nat} {lf : Int64} (hR : mR D V m A F cd (qS st rch bx wt ins hld unt Y ap ab hr ln sa mv nw lf)) (hI : qI kk (qS st rch bx wt ins hld unt Y ap ab hr ln sa mv nw lf))  : ZM l D yX3_moves_2 (ws_ yX3_moves_2 cX3_moves_2 1 (some .int)) 1 0 0 eI V [.ref m] (fun r V' => ∃ F2, mR D V' m A F2 0 (qS st rch bx wt ins hld unt Y ap ab hr ln sa mv nw lf) ∧ r = mv) zno_x := by
  refine z_enter (by decide +kernel) [(0, .ref m)] rfl (Nat.le_of_ble_eq_true rfl) (zcat_cons rfl zcat_nil) (fun Γ C hQ => ?_)
  have hM : MX D V m A F cd nw st bx mv ap lf := hR.1
  have hE : mE F st bx rch wt ins hld := hR.2.1
  have hU : ∀ b, b < 20 → F 4 b = nI (unt b) := hR.2.2.1
  have hy : mY F 0 Y := hR.2.2.2.1
  have hA : ∀ a, a < ap → F 8 a = nI (ab a) ∧ F 9 a = nI (hr a) ∧ F 10 a = nI (ln a) ∧ F 11 a = sa a := hR.2.2.2.2
  have hst : st ≤ 4 := hI.1.1
  have hbx : bx ≤ 20 := hI.1.2.1
  have hrc : ∀ s, s < st → rch s ≤ 4 := fun s hs => (hI.1.2.2.1 s hs).2
  have hwt : ∀ b, b < bx → wt b < 1000 := fun b hb => by have h9 : wt b ≤ 30 := (hI.1.2.2.2 b hb).2; omega
  have hg : yGood st bx ins Y := hI.2.1.1
  have hht : ∀ s, s < st → (Y s).length ≤ rch s := hI.2.1.2.1
  have hu1 : ∀ b, unt b ≤ 1000 := hI.2.2.1.2.1
  have hhl : ∀ b, b < bx → hld b = nI 45 ∨ hld b = nI 112 ∨ hld b = nI 108 := hI.2.2.1.2.2
  have hap : ap ≤ 30 := hI.2.2.2.1.1
  have haa : ∀ a, a < ap → ab a < bx ∧ hr a ≤ 999 ∧ ln a < 3 ∧ (sa a = nI 98 ∨ sa a = nI 99 ∨ sa a = nI 103 ∨ sa a = nI 100 ∨ sa a = nI 109) := hI.2.2.2.1.2.1
  have hnw : nw ≤ 999 := hI.2.2.2.2
  have hY4 : ∀ s, (Y s).length ≤ 4 := hg.1.1
  have hmm : ∀ s, ∀ c ∈ Y s, c < bx := fun s c hc => (hg.2.2 s c hc).1
  refine z_aload_n C 0 rfl dX3_moves_2_0 rfl ?_
  refine z_iconst C (v := (nI 0)) dX3_moves_2_1 rfl ?_
  refine z_put C k_M hM.1 0 (by decide) [.int (nI 0), .int (nI nw), .int (nI st), .ref (A 0), .int (nI bx), .ref (A 1), .ref (A 2), .ref (A 3), .ref (A 4), .ref (A 5), .ref (A 6), .ref (A 7), .int mv, .int (nI ap), .ref (A 8), .ref (A 9), .ref (A 10), .ref (A 11), .long lf] rfl (Nat.le_of_ble_eq_true rfl) rfl rfl rfl q1387 dX3_moves_2_2 (z_nV (fun V1 hV2 => ?_))
  have hM3 := MX.ob (cd2 := (nI 0)) (nw2 := nw) (st2 := st) (bx2 := bx) (mv2 := mv) (ap2 := ap) (lf2 := lf) hM hV2
  refine z_aload_n C 0 rfl dX3_moves_2_5 rfl ?_
  refine z_get C k_M hM3.1 12 (by decide) rfl q1399 dX3_moves_2_6 ?_
  exact z_iret C hQ mv rfl ⟨F, (show mR D _ m A _ _ (qS st rch bx wt ins hld unt Y ap ab hr ln sa mv nw lf) from ⟨hM3, hE, hU, hy, hA⟩), rfl⟩ (by decide) (by decide) dX3_moves_2_9
set_option maxHeartbeats 4000000 in
set_option maxRecDepth 100000 in
theorem mX3_weightLeft {l : Launch} {D : ZD} {V : ZV} {kk m : Nat} {A : Nat → Nat} {F : Nat → Nat → Int32} {cd : Int32} {st : Nat} {rch : Nat → Nat} {bx : Nat} {wt : Nat → Nat} {ins : Nat → Bool} {hld : Nat → Int32} {unt : Nat → Nat} {Y : YD} {ap : Nat} {ab hr ln : Nat → Nat} {sa : Nat → Int32} {mv : Int32} {nw : Nat} {lf : Int64} (hR : mR D V m A F cd (qS st rch bx wt ins hld unt Y ap ab hr ln sa mv nw lf)) (hI : qI kk (qS st rch bx wt ins hld unt Y ap ab hr ln sa mv nw lf))  : ZM l D yX3_weightLeft (ws_ yX3_weightLeft cX3_weightLeft 1 (some .long)) 1 0 0 eL V [.ref m] (fun r V' => ∃ F2, mR D V' m A F2 0 (qS st rch bx wt ins hld unt Y ap ab hr ln sa mv nw lf) ∧ r = lf) zno_x := by
  refine z_enter (by decide +kernel) [(0, .ref m)] rfl (Nat.le_of_ble_eq_true rfl) (zcat_cons rfl zcat_nil) (fun Γ C hQ => ?_)
  have hM : MX D V m A F cd nw st bx mv ap lf := hR.1
  have hE : mE F st bx rch wt ins hld := hR.2.1
  have hU : ∀ b, b < 20 → F 4 b = nI (unt b) := hR.2.2.1
  have hy : mY F 0 Y := hR.2.2.2.1
  have hA : ∀ a, a < ap → F 8 a = nI (ab a) ∧ F 9 a = nI (hr a) ∧ F 10 a = nI (ln a) ∧ F 11 a = sa a := hR.2.2.2.2
  have hst : st ≤ 4 := hI.1.1
  have hbx : bx ≤ 20 := hI.1.2.1
  have hrc : ∀ s, s < st → rch s ≤ 4 := fun s hs => (hI.1.2.2.1 s hs).2
  have hwt : ∀ b, b < bx → wt b < 1000 := fun b hb => by have h9 : wt b ≤ 30 := (hI.1.2.2.2 b hb).2; omega
  have hg : yGood st bx ins Y := hI.2.1.1
  have hht : ∀ s, s < st → (Y s).length ≤ rch s := hI.2.1.2.1
  have hu1 : ∀ b, unt b ≤ 1000 := hI.2.2.1.2.1
  have hhl : ∀ b, b < bx → hld b = nI 45 ∨ hld b = nI 112 ∨ hld b = nI 108 := hI.2.2.1.2.2
  have hap : ap ≤ 30 := hI.2.2.2.1.1
  have haa : ∀ a, a < ap → ab a < bx ∧ hr a ≤ 999 ∧ ln a < 3 ∧ (sa a = nI 98 ∨ sa a = nI 99 ∨ sa a = nI 103 ∨ sa a = nI 100 ∨ sa a = nI 109) := hI.2.2.2.1.2.1
  have hnw : nw ≤ 999 := hI.2.2.2.2
  have hY4 : ∀ s, (Y s).length ≤ 4 := hg.1.1
  have hmm : ∀ s, ∀ c ∈ Y s, c < bx := fun s c hc => (hg.2.2 s c hc).1
  refine z_aload_n C 0 rfl dX3_weightLeft_0 rfl ?_
  refine z_iconst C (v := (nI 0)) dX3_weightLeft_1 rfl ?_
  refine z_put C k_M hM.1 0 (by decide) [.int (nI 0), .int (nI nw), .int (nI st), .ref (A 0), .int (nI bx), .ref (A 1), .ref (A 2), .ref (A 3), .ref (A 4), .ref (A 5), .ref (A 6), .ref (A 7), .int mv, .int (nI ap), .ref (A 8), .ref (A 9), .ref (A 10), .ref (A 11), .long lf] rfl (Nat.le_of_ble_eq_true rfl) rfl rfl rfl q1387 dX3_weightLeft_2 (z_nV (fun V1 hV2 => ?_))
  have hM3 := MX.ob (cd2 := (nI 0)) (nw2 := nw) (st2 := st) (bx2 := bx) (mv2 := mv) (ap2 := ap) (lf2 := lf) hM hV2
  refine z_aload_n C 0 rfl dX3_weightLeft_5 rfl ?_
  refine z_get C k_M hM3.1 18 (by decide) rfl q1405 dX3_weightLeft_6 ?_
  exact z_lret C hQ lf rfl ⟨F, (show mR D _ m A _ _ (qS st rch bx wt ins hld unt Y ap ab hr ln sa mv nw lf) from ⟨hM3, hE, hU, hy, hA⟩), rfl⟩ (by decide) (by decide) dX3_weightLeft_9
set_option maxHeartbeats 4000000 in
set_option maxRecDepth 100000 in
theorem mX3_thrown {l : Launch} {D : ZD} {V : ZV} {m : Nat} {A : Nat → Nat} {F : Nat → Nat → Int32} {cd : Int32} {nw st bx : Nat} {mv : Int32} {ap : Nat} {lf : Int64} (hM : MX D V m A F cd nw st bx mv ap lf) (hst : st ≤ 4) (hbx : bx ≤ 20) : ZM l D yX3_thrown (ws_ yX3_thrown cX3_thrown 1 (some .int)) 1 0 0 eI V [.ref m] (fun r V' => V' = V ∧ r = cd) zno_x := by
  refine z_enter (by decide +kernel) [(0, .ref m)] rfl (Nat.le_of_ble_eq_true rfl) (zcat_cons rfl zcat_nil) (fun Γ C hQ => ?_)
  refine z_aload_n C 0 rfl dX3_thrown_0 rfl ?_
  refine z_get C k_M hM.1 0 (by decide) rfl q1387 dX3_thrown_1 ?_
  exact z_iret C hQ cd rfl ⟨rfl, rfl⟩ (by decide) (by decide) dX3_thrown_4
