/-! MODEL: pass, the share, its beginning -/
set_option maxRecDepth 100000
theorem f_up1 {f g : Nat → Int32} {j : Nat} {x : Int32} (h : ∀ b, b < j → f b = g b) (hx : x = g j) : ∀ b, b < j + 1 → va_up f j x b = g b := fun b hb => by
  by_cases e : b = j
  · rw [e, zvs, hx]
  · rw [zvn e]; exact h b (by omega)
theorem f_up2 {f g : Nat → Int32} {j n : Nat} {x : Int32} (h : ∀ b, j ≤ b → b < n → f b = g b) : ∀ b, j + 1 ≤ b → b < n → va_up f j x b = g b := fun b hb hn => by
  rw [zvn (by omega)]; exact h b (by omega) hn
theorem tick_t {S : QS} {j : Nat} (h : j < qbx S) (e : qunt S j = qnw S + 1) : nI 45 = qhld (qTick S) j := by
  show nI 45 = if j < qbx S ∧ qunt S j = qnw S + 1 then nI 45 else qhld S j
  rw [if_pos ⟨h, e⟩]
theorem tick_f {S : QS} {j : Nat} (e : ¬ qunt S j = qnw S + 1) : qhld S j = qhld (qTick S) j := by
  show qhld S j = if j < qbx S ∧ qunt S j = qnw S + 1 then nI 45 else qhld S j
  rw [if_neg (fun h => e h.2)]
set_option maxHeartbeats 4000000 in
set_option maxRecDepth 100000 in
theorem mX3_pass {l : Launch} {D : ZD} {V : ZV} {m : Nat} {A : Nat → Nat} {F : Nat → Nat → Int32} {cd : Int32} {st : Nat} {rch : Nat → Nat} {bx : Nat} {wt : Nat → Nat} {ins : Nat → Bool} {hld : Nat → Int32} {unt : Nat → Nat} {Y : YD} {ap : Nat} {ab hr ln : Nat → Nat} {sa : Nat → Int32} {mv : Int32} {nw : Nat} {lf : Int64} (hR : mR D V m A F cd (qS st rch bx wt ins hld unt Y ap ab hr ln sa mv nw lf)) (hI : qI 3 (qS st rch bx wt ins hld unt Y ap ab hr ln sa mv nw lf)) {v1 : Int32} : ZM l D yX3_pass (ws_ yX3_pass cX3_pass 6 (some .int)) 8 0 0 eI V [.ref m, .int v1] (fun r V' => ∃ F2, mR D V' m A F2 (nI (oPass (qS st rch bx wt ins hld unt Y ap ab hr ln sa mv nw lf) (vN v1)).1) (oPass (qS st rch bx wt ins hld unt Y ap ab hr ln sa mv nw lf) (vN v1)).2.2 ∧ ((oPass (qS st rch bx wt ins hld unt Y ap ab hr ln sa mv nw lf) (vN v1)).1 = 0 → r = (oPass (qS st rch bx wt ins hld unt Y ap ab hr ln sa mv nw lf) (vN v1)).2.1)) zno_x := by
  refine z_enter (by decide +kernel) [(0, .ref m), (1, .int v1)] rfl (Nat.le_of_ble_eq_true rfl) (zcat_cons rfl (zcat_cons rfl zcat_nil)) (fun Γ C hQ => ?_)
  have hM : MX D V m A F cd nw st bx mv ap lf := hR.1
  have hE : mE F st bx rch wt ins hld := hR.2.1
  have hU : ∀ b, b < 20 → F 4 b = nI (unt b) := hR.2.2.1
  have hy : mY F 0 Y := hR.2.2.2.1
  have hA : ∀ a, a < ap → F 8 a = nI (ab a) ∧ F 9 a = nI (hr a) ∧ F 10 a = nI (ln a) ∧ F 11 a = sa a := hR.2.2.2.2
  have hst : st ≤ 4 := hI.1.1
  have hbx : bx ≤ 20 := hI.1.2.1
  have hrc : ∀ s, s < st → rch s ≤ 4 := fun s hs => (hI.1.2.2.1 s hs).2
  have hwt : ∀ b, b < bx → wt b < 1000 := fun b hb => by have h9 : wt b ≤ 30 := (hI.1.2.2.2 b hb).2; omega
  have hg : yGood st bx ins Y := hI.2.1.1
  have hht : ∀ s, s < st → (Y s).length ≤ rch s := hI.2.1.2.1
  have hu1 : ∀ b, unt b ≤ 1000 := hI.2.2.1.2.1
  have hhl : ∀ b, b < bx → hld b = nI 45 ∨ hld b = nI 112 ∨ hld b = nI 108 := hI.2.2.1.2.2
  have hap : ap ≤ 30 := hI.2.2.2.1.1
  have haa : ∀ a, a < ap → ab a < bx ∧ hr a ≤ 999 ∧ ln a < 3 ∧ (sa a = nI 98 ∨ sa a = nI 99 ∨ sa a = nI 103 ∨ sa a = nI 100 ∨ sa a = nI 109) := hI.2.2.2.1.2.1
  have hnw : nw ≤ 999 := hI.2.2.2.2
  have hY4 : ∀ s, (Y s).length ≤ 4 := hg.1.1
  have hmm : ∀ s, ∀ c ∈ Y s, c < bx := fun s c hc => (hg.2.2 s c hc).1
  refine z_aload_n C 0 rfl dX3_pass_0 rfl ?_
  refine z_iconst C (v := (nI 0)) dX3_pass_1 rfl ?_
  refine z_put C k_M hM.1 0 (by decide) [.int (nI 0), .int (nI nw), .int (nI st), .ref (A 0), .int (nI bx), .ref (A 1), .ref (A 2), .ref (A 3), .ref (A 4), .ref (A 5), .ref (A 6), .ref (A 7), .int mv, .int (nI ap), .ref (A 8), .ref (A 9), .ref (A 10), .ref (A 11), .long lf] rfl (Nat.le_of_ble_eq_true rfl) rfl rfl rfl q1387 dX3_pass_2 (z_nV (fun V1 hV2 => ?_))
  have hM3 := MX.ob (cd2 := (nI 0)) (nw2 := nw) (st2 := st) (bx2 := bx) (mv2 := mv) (ap2 := ap) (lf2 := lf) hM hV2
  refine z_iload_n C 1 rfl dX3_pass_5 rfl ?_
  refine z_iconst C (v := (nI 1)) dX3_pass_6 rfl ?_
  refine z_bipush C (v := (nI 24)) dX3_pass_7 rfl ?_
  refine z_callS C (As := [.int v1, .int (nI 1), .int (nI 24)]) (mX3_in) (lw_S q1455 q1456 q65 q1457) hd_X3_in rfl (Nat.le_of_ble_eq_true rfl) (by decide) (by decide) (by decide) (by decide) rfl dX3_pass_9 (fun _ _ h => h.elim) (fun r4 V5 hP6 => ?_)
  have hq7 : r4 = decide (1 ≤ vN v1 ∧ vN v1 ≤ 24) := hP6.2.trans (in_le (by omega) (by omega))
  rw [hP6.1, hq7]
  refine z_st (st' := [.int (zb (decide (1 ≤ vN v1 ∧ vN v1 ≤ 24)))]) rfl ?_
  refine z_if_eqB C 27 dX3_pass_12 (by decide) (fun c12 => ?_) (fun c12 => ?_)
  · skip
    have e1 : oPass (qS st rch bx wt ins hld unt Y ap ab hr ln sa mv nw lf) (vN v1) = (1, 0, (qS st rch bx wt ins hld unt Y ap ab hr ln sa mv nw lf)) := if_pos (Or.inl (by have := c12; simp at this; omega))
    refine z_aload_n C 0 rfl dX3_pass_27 rfl ?_
    refine z_iconst C (v := (nI 1)) dX3_pass_28 rfl ?_
    refine z_callV C k_M hM3.1 (As := [.int (nI 1)]) (mX3_fails hM3 hst hbx) (lw_V q1458 q1460 qs31 q65 q1461) rfl hd_X3_fails rfl (Nat.le_of_ble_eq_true rfl) (by decide) (by decide) (by decide) (by decide) rfl dX3_pass_29 (fun _ _ h => h.elim) (fun r8 V9 hP10 => ?_)
    obtain ⟨hM11, rfl⟩ := hP10
    refine z_st (st' := [.int 0]) rfl ?_
    exact z_iret C hQ 0 rfl ⟨F, by rw [e1]; exact (show mR D _ m A _ _ (qS st rch bx wt ins hld unt Y ap ab hr ln sa mv nw lf) from ⟨hM11, hE, hU, hy, hA⟩), fun _ => oRes e1⟩ (by decide) (by decide) dX3_pass_32
  · skip
    have h1 : 1 ≤ vN v1 ∧ vN v1 ≤ 24 := by have := c12; simpa using this
    have hv12 := vN_of (v := v1) (show vN v1 < 25 by omega) (by omega)
    have e13 : (.int v1 : Value) = .int (nI (vN v1)) := (congrArg Value.int hv12)
    refine z_lv (lv' := [(0, .ref m), (1, .int (nI (vN v1)))]) (by rw [e13]) ?_
    refine z_aload_n C 0 rfl dX3_pass_15 rfl ?_
    refine z_get C k_M hM3.1 1 (by decide) rfl q1388 dX3_pass_16 ?_
    refine z_iload_n C 1 rfl dX3_pass_19 rfl ?_
    refine z_iaddN C dX3_pass_20 ?_
    refine z_sipush C (v := (nI 999)) dX3_pass_21 rfl ?_
    refine z_icmp_leN C 33 (by omega) (by omega) dX3_pass_24 (by decide) (fun c24 => ?_) (fun c24 => ?_)
    · skip
      have hfit : nw + vN v1 ≤ 999 := by omega
      have e1 : oPass (qS st rch bx wt ins hld unt Y ap ab hr ln sa mv nw lf) (vN v1) = (0, nI (qHours (vN v1) 0 (qS st rch bx wt ins hld unt Y ap ab hr ln sa mv nw lf)).1, (qHours (vN v1) 0 (qS st rch bx wt ins hld unt Y ap ab hr ln sa mv nw lf)).2) := if_neg (fun h => by rcases h with h | h; exact h h1; exact absurd h (show ¬ 999 < nw + vN v1 by omega))
      refine z_iconst C (v := (nI 0)) dX3_pass_33 rfl ?_
      refine z_istore_n C [(2, .int (nI 0)), (0, .ref m), (1, .int (nI (vN v1)))] dX3_pass_34 rfl (by decide) rfl ?_
      refine z_iconst C (v := (nI 0)) dX3_pass_35 rfl ?_
      refine z_istore_n C [(3, .int (nI 0)), (2, .int (nI 0)), (0, .ref m), (1, .int (nI (vN v1)))] dX3_pass_36 rfl (by decide) rfl ?_
      have hR0 : mR D V1 m A F (nI 0) (qS st rch bx wt ins hld unt Y ap ab hr ln sa mv nw lf) := (show mR D _ m A _ _ (qS st rch bx wt ins hld unt Y ap ab hr ln sa mv nw lf) from ⟨hM3, hE, hU, hy, hA⟩)
      have loop14 : ∀ (n_loop14 : Nat) (k c : Nat) (F1 : Nat → Nat → Int32) (V1 : ZV) (S1 : QS), k ≤ vN v1 → qHours k 0 (qS st rch bx wt ins hld unt Y ap ab hr ln sa mv nw lf) = (c, S1) → mR D V1 m A F1 (nI 0) S1 → vN v1 - k < n_loop14 → ZW l D Γ (zr 8 0 0) 37 [(3, .int (nI k)), (2, .int (nI c)), (0, .ref m), (1, .int (nI (vN v1)))] [] V1 (0 + 0) (0 + 0) := by
        intro n_loop14
        induction n_loop14 with
        | zero => intro k c F1 V1 S1 _ _ _ hm; exact absurd hm (Nat.not_lt_zero _)
        | succ n_loop14 ih_loop14 =>
          intro k c F1 V1 S1 hloop14_0 hloop14_1 hloop14_2 hm
          obtain ⟨hI1, hn1⟩ := qI_hours hI k 0 (by show nw + k ≤ 999; omega)
          rw [hloop14_1] at hI1 hn1
          have hn1 : qnw S1 = nw + k := hn1
          have hI1 : qI 3 S1 := hI1
          have hbx1 : qbx S1 ≤ 20 := hI1.1.2.1
          have hap1 : qap S1 ≤ 30 := hI1.2.2.2.1.1
          refine z_iload_n C 0 rfl dX3_pass_37 rfl ?_
          refine z_iload_n C 3 rfl dX3_pass_38 rfl ?_
          refine z_icmp_geN C 159 (by omega) (by omega) dX3_pass_39 (by decide) (fun c39 => ?_) (fun c39 => ?_)
          · skip
            obtain rfl : k = vN v1 := by omega
            have e2 : oPass (qS st rch bx wt ins hld unt Y ap ab hr ln sa mv nw lf) (vN v1) = (0, nI c, S1) := by rw [e1, hloop14_1]
            refine z_iload_n C 1 rfl dX3_pass_159 rfl ?_
            exact z_iret C hQ (nI c) rfl ⟨F1, by rw [e2]; exact hloop14_2, fun _ => oRes e2⟩ (by decide) (by decide) dX3_pass_160
          · skip
            refine z_aload_n C 2 rfl dX3_pass_42 rfl ?_
            refine z_dup C dX3_pass_43 rfl ?_
            refine z_get C k_M hloop14_2.1.1 1 (by decide) rfl q1388 dX3_pass_44 ?_
            refine z_iconst C (v := (nI 1)) dX3_pass_47 rfl ?_
            refine z_iaddN C dX3_pass_48 ?_
            refine z_put C k_M hloop14_2.1.1 1 (by decide) [.int (nI 0), .int (nI ((qnw S1) + 1)), .int (nI (qst S1)), .ref (A 0), .int (nI (qbx S1)), .ref (A 1), .ref (A 2), .ref (A 3), .ref (A 4), .ref (A 5), .ref (A 6), .ref (A 7), .int (qmv S1), .int (nI (qap S1)), .ref (A 8), .ref (A 9), .ref (A 10), .ref (A 11), .long (qlf S1)] rfl (Nat.le_of_ble_eq_true rfl) rfl rfl rfl q1388 dX3_pass_49 (z_nV (fun V15 hV16 => ?_))
            have hM17 := MX.ob (cd2 := (nI 0)) (nw2 := ((qnw S1) + 1)) (st2 := (qst S1)) (bx2 := (qbx S1)) (mv2 := (qmv S1)) (ap2 := (qap S1)) (lf2 := (qlf S1)) hloop14_2.1 hV16
            refine z_iconst C (v := (nI 0)) dX3_pass_52 rfl ?_
            refine z_istore C [(4, .int (nI 0)), (3, .int (nI k)), (2, .int (nI c)), (0, .ref m), (1, .int (nI (vN v1)))] dX3_pass_53 (by decide) rfl ?_
            have hM0 : MX D V15 m A (va_up F1 3 (F1 3)) (nI 0) (qnw S1 + 1) (qst S1) (qbx S1) (qmv S1) (qap S1) (qlf S1) := by rw [zup_id]; exact hM17
            refine z_pick [(4, .int (nI 0)), (2, .int (nI c)), (3, .int (nI k)), (0, .ref m), (1, .int (nI (vN v1)))] [0, 2, 1, 3, 4] rfl ?_
            have loop18 : ∀ (n_loop18 : Nat) (j : Nat) (V2 : ZV) (f : Nat → Int32), j ≤ qbx S1 → MX D V2 m A (va_up F1 3 f) (nI 0) (qnw S1 + 1) (qst S1) (qbx S1) (qmv S1) (qap S1) (qlf S1) → (∀ b, b < j → f b = qhld (qTick S1) b) → (∀ b, j ≤ b → b < qbx S1 → f b = qhld S1 b) → qbx S1 - j < n_loop18 → ZW l D Γ (zr 8 0 0) 55 [(4, .int (nI j)), (2, .int (nI c)), (3, .int (nI k)), (0, .ref m), (1, .int (nI (vN v1)))] [] V2 (0 + 0) (0 + 0) := by
              intro n_loop18
              induction n_loop18 with
              | zero => intro j V2 f _ _ _ _ hm; exact absurd hm (Nat.not_lt_zero _)
              | succ n_loop18 ih_loop18 =>
                intro j V2 f hloop18_0 hloop18_1 hloop18_2 hloop18_3 hm
                have hu1000 := hI1.2.2.1.2.1 j
                refine z_iload C 0 rfl dX3_pass_55 ?_
                refine z_aload_n C 3 rfl dX3_pass_57 rfl ?_
                refine z_get C k_M hloop18_1.1 4 (by decide) rfl q1391 dX3_pass_58 ?_
                refine z_icmp_geN C 103 (by omega) (by omega) dX3_pass_61 (by decide) (fun c61 => ?_) (fun c61 => ?_)
                · skip
                  obtain rfl : j = qbx S1 := by omega
                  have hRT : mR D V2 m A (va_up F1 3 f) (nI 0) (qTick S1) := mR_tick hloop14_2 hloop18_1 hloop18_2
                  have hIT := qI_tick hI1 (by omega)
                  refine z_iconst C (v := (nI 0)) dX3_pass_103 rfl ?_
                  refine z_istore C [(4, .int (nI 0)), (2, .int (nI c)), (3, .int (nI k)), (0, .ref m), (1, .int (nI (vN v1)))] dX3_pass_104 (by decide) rfl ?_
                  have loop19 : ∀ (n_loop19 : Nat) (y c2 : Nat) (F3 : Nat → Nat → Int32) (V3 : ZV) (S2 : QS), y ≤ 3 → qLanes y c (qTick S1) = (c2, S2) → mR D V3 m A F3 (nI 0) S2 → qI y S2 → qnw S2 = qnw S1 + 1 → 3 - y < n_loop19 → ZW l D Γ (zr 8 0 0) 106 [(4, .int (nI y)), (2, .int (nI c2)), (3, .int (nI k)), (0, .ref m), (1, .int (nI (vN v1)))] [] V3 (0 + 0) (0 + 0) := by
                    intro n_loop19
                    induction n_loop19 with
                    | zero => intro y c2 F3 V3 S2 _ _ _ _ _ hm; exact absurd hm (Nat.not_lt_zero _)
                    | succ n_loop19 ih_loop19 =>
                      intro y c2 F3 V3 S2 hloop19_0 hloop19_1 hloop19_2 hloop19_3 hloop19_4 hm
                      have hap2 : qap S2 ≤ 30 := hloop19_3.2.2.2.1.1
                      refine z_iload C 0 rfl dX3_pass_106 ?_
                      refine z_iconst C (v := (nI 3)) dX3_pass_108 rfl ?_
                      refine z_icmp_geN C 153 (by omega) (by omega) dX3_pass_109 (by decide) (fun c109 => ?_) (fun c109 => ?_)
                      · skip
                        obtain rfl : y = 3 := by omega
                        refine z_iincN C 2 1 [(3, .int (nI (k + 1))), (4, .int (nI 3)), (2, .int (nI c2)), (0, .ref m), (1, .int (nI (vN v1)))] rfl dX3_pass_153 rfl (by decide) rfl ?_
                        refine z_goto C 37 dX3_pass_156 (by decide) ?_
                        refine z_pick [(3, .int (nI (k + 1))), (2, .int (nI c2)), (0, .ref m), (1, .int (nI (vN v1)))] [0, 2, 3, 4] rfl ?_
                        exact ih_loop14 (k + 1) c2 F3 _ S2 (by omega) (by show qHour (qHours k 0 (qS st rch bx wt ins hld unt Y ap ab hr ln sa mv nw lf)).1 (qHours k 0 (qS st rch bx wt ins hld unt Y ap ab hr ln sa mv nw lf)).2 = _; rw [hloop14_1]; exact hloop19_1) hloop19_2 (by omega)
                      · skip
                        refine z_aload_n C 3 rfl dX3_pass_112 rfl ?_
                        refine z_iload C 0 rfl dX3_pass_113 ?_
                        refine z_aload_n C 3 rfl dX3_pass_115 rfl ?_
                        refine z_get C k_M hloop19_2.1.1 1 (by decide) rfl q1388 dX3_pass_116 ?_
                        refine z_callV C k_M hloop19_2.1.1 (As := [.int (nI y), .int (nI (qnw S2))]) (mX3_bookedIn hloop19_2 hloop19_3 (x := y) (y := qnw S2) (by omega) (by omega)) (lw_V q1642 q1644 qs54 q65 q1645) rfl hd_X3_bookedIn rfl (Nat.le_of_ble_eq_true rfl) (by decide) (by decide) (by decide) (by decide) rfl dX3_pass_119 (fun _ _ h => h.elim) (fun r20 V21 hP22 => ?_)
                        rw [hP22.1, hP22.2]
                        refine z_st (st' := [.int (oInt (qBin S2 y (qnw S2)))]) rfl ?_
                        rcases hob : qBin S2 y (qnw S2) with _ | a0
                        · skip
                          have e23 : (.int (oInt none) : Value) = .int (-1) := rfl
                          refine z_st (st' := [.int (-1)]) (by rw [e23]) ?_
                          refine z_istore C [(5, .int (-1)), (4, .int (nI y)), (2, .int (nI c2)), (3, .int (nI k)), (0, .ref m), (1, .int (nI (vN v1)))] dX3_pass_122 (by decide) rfl ?_
                          refine z_iload_n C 2 rfl dX3_pass_124 rfl ?_
                          refine z_iload C 0 rfl dX3_pass_125 ?_
                          refine z_iconst C (v := (-1)) dX3_pass_127 rfl ?_
                          refine z_icmp_eq C 144 dX3_pass_128 (by decide) (fun c128 => ?_) (fun c128 => ?_)
                          · skip
                            refine z_iconst C (v := (nI 0)) dX3_pass_144 rfl ?_
                            refine z_iaddN C dX3_pass_145 ?_
                            refine z_istore_n C [(2, .int (nI (c2 + 0))), (5, .int (-1)), (4, .int (nI y)), (3, .int (nI k)), (0, .ref m), (1, .int (nI (vN v1)))] dX3_pass_146 rfl (by decide) rfl ?_
                            refine z_iincN C 2 1 [(4, .int (nI (y + 1))), (2, .int (nI (c2 + 0))), (5, .int (-1)), (3, .int (nI k)), (0, .ref m), (1, .int (nI (vN v1)))] rfl dX3_pass_147 rfl (by decide) rfl ?_
                            refine z_goto C 106 dX3_pass_150 (by decide) ?_
                            refine z_pick [(4, .int (nI (y + 1))), (2, .int (nI (c2 + 0))), (3, .int (nI k)), (0, .ref m), (1, .int (nI (vN v1)))] [0, 1, 3, 4, 5] rfl ?_
                            have hLL : qLanes (y + 1) c (qTick S1) = (c2 + 0, S2) := by show qLane (qLanes y c (qTick S1)).1 (qLanes y c (qTick S1)).2 y = _; rw [hloop19_1]; unfold qLane; rw [hob]; rfl
                            obtain ⟨hI3, hn3⟩ := qI_lane (n := c2) hloop19_3
                            have e3 : qLane c2 S2 y = (c2 + 0, S2) := by unfold qLane; rw [hob]; rfl
                            rw [e3] at hI3 hn3
                            exact ih_loop19 (y + 1) (c2 + 0) F3 _ S2 (by omega) hLL hloop19_2 hI3 (hn3.trans hloop19_4) (by omega)
                          · skip
                            exfalso; exact absurd rfl c128
                        · skip
                          have e24 : (.int (oInt (some a0)) : Value) = .int (nI a0) := rfl
                          refine z_st (st' := [.int (nI a0)]) (by rw [e24]) ?_
                          obtain ⟨b1, b2, b3, b4⟩ := qBin_some hob
                          refine z_istore C [(5, .int (nI a0)), (4, .int (nI y)), (2, .int (nI c2)), (3, .int (nI k)), (0, .ref m), (1, .int (nI (vN v1)))] dX3_pass_122 (by decide) rfl ?_
                          refine z_iload_n C 2 rfl dX3_pass_124 rfl ?_
                          refine z_iload C 0 rfl dX3_pass_125 ?_
                          refine z_iconst C (v := (-1)) dX3_pass_127 rfl ?_
                          refine z_icmp_eq C 144 dX3_pass_128 (by decide) (fun c128 => ?_) (fun c128 => ?_)
                          · skip
                            exfalso; exact absurd c128 (nI_nem1 (by omega))
                          · skip
                            refine z_aload_n C 4 rfl dX3_pass_131 rfl ?_
                            refine z_iload C 0 rfl dX3_pass_132 ?_
                            refine z_callV C k_M hloop19_2.1.1 (As := [.int (nI a0)]) (mX3_leaves hloop19_2 hloop19_3 (a1 := a0) b1 b4) (lw_V q1674 q1676 qs56 q65 q1677) rfl hd_X3_leaves rfl (Nat.le_of_ble_eq_true rfl) (by decide) (by decide) (by decide) (by decide) rfl dX3_pass_134 (fun _ _ h => h.elim) (fun r25 V26 hP27 => ?_)
                            obtain ⟨F4, hR4, hres⟩ := hP27
                            subst hres
                            refine z_st (st' := [.int (zb ((qServe S2 a0).1)), .int (nI c2)]) rfl ?_
                            refine z_if_eqB C 144 dX3_pass_137 (by decide) (fun c137 => ?_) (fun c137 => ?_)
                            · skip
                              refine z_iconst C (v := (nI 0)) dX3_pass_144 rfl ?_
                              refine z_iaddN C dX3_pass_145 ?_
                              refine z_istore_n C [(2, .int (nI (c2 + 0))), (5, .int (nI a0)), (4, .int (nI y)), (3, .int (nI k)), (0, .ref m), (1, .int (nI (vN v1)))] dX3_pass_146 rfl (by decide) rfl ?_
                              refine z_iincN C 2 1 [(4, .int (nI (y + 1))), (2, .int (nI (c2 + 0))), (5, .int (nI a0)), (3, .int (nI k)), (0, .ref m), (1, .int (nI (vN v1)))] rfl dX3_pass_147 rfl (by decide) rfl ?_
                              refine z_goto C 106 dX3_pass_150 (by decide) ?_
                              refine z_pick [(4, .int (nI (y + 1))), (2, .int (nI (c2 + 0))), (3, .int (nI k)), (0, .ref m), (1, .int (nI (vN v1)))] [0, 1, 3, 4, 5] rfl ?_
                              have hLL : qLanes (y + 1) c (qTick S1) = (c2 + 0, (qServe S2 a0).2) := by show qLane (qLanes y c (qTick S1)).1 (qLanes y c (qTick S1)).2 y = _; rw [hloop19_1]; unfold qLane; rw [hob]; show (c2 + (if (qServe S2 a0).1 = true then 1 else 0), (qServe S2 a0).2) = _; rw [c137]; rfl
                              obtain ⟨hI3, hn3⟩ := qI_lane (n := c2) hloop19_3
                              have e3 : qLane c2 S2 y = (c2 + 0, (qServe S2 a0).2) := by unfold qLane; rw [hob]; show (c2 + (if (qServe S2 a0).1 = true then 1 else 0), (qServe S2 a0).2) = _; rw [c137]; rfl
                              rw [e3] at hI3 hn3
                              exact ih_loop19 (y + 1) (c2 + 0) F4 _ ((qServe S2 a0).2) (by omega) hLL hR4 hI3 (hn3.trans hloop19_4) (by omega)
                            · skip
                              refine z_iconst C (v := (nI 1)) dX3_pass_140 rfl ?_
                              refine z_goto C 145 dX3_pass_141 (by decide) ?_
                              refine z_iaddN C dX3_pass_145 ?_
                              refine z_istore_n C [(2, .int (nI (c2 + 1))), (5, .int (nI a0)), (4, .int (nI y)), (3, .int (nI k)), (0, .ref m), (1, .int (nI (vN v1)))] dX3_pass_146 rfl (by decide) rfl ?_
                              refine z_iincN C 2 1 [(4, .int (nI (y + 1))), (2, .int (nI (c2 + 1))), (5, .int (nI a0)), (3, .int (nI k)), (0, .ref m), (1, .int (nI (vN v1)))] rfl dX3_pass_147 rfl (by decide) rfl ?_
                              refine z_goto C 106 dX3_pass_150 (by decide) ?_
                              refine z_pick [(4, .int (nI (y + 1))), (2, .int (nI (c2 + 1))), (3, .int (nI k)), (0, .ref m), (1, .int (nI (vN v1)))] [0, 1, 3, 4, 5] rfl ?_
                              have hLL : qLanes (y + 1) c (qTick S1) = (c2 + 1, (qServe S2 a0).2) := by show qLane (qLanes y c (qTick S1)).1 (qLanes y c (qTick S1)).2 y = _; rw [hloop19_1]; unfold qLane; rw [hob]; show (c2 + (if (qServe S2 a0).1 = true then 1 else 0), (qServe S2 a0).2) = _; rw [c137]; rfl
                              obtain ⟨hI3, hn3⟩ := qI_lane (n := c2) hloop19_3
                              have e3 : qLane c2 S2 y = (c2 + 1, (qServe S2 a0).2) := by unfold qLane; rw [hob]; show (c2 + (if (qServe S2 a0).1 = true then 1 else 0), (qServe S2 a0).2) = _; rw [c137]; rfl
                              rw [e3] at hI3 hn3
                              exact ih_loop19 (y + 1) (c2 + 1) F4 _ ((qServe S2 a0).2) (by omega) hLL hR4 hI3 (hn3.trans hloop19_4) (by omega)
                  exact loop19 _ 0 c (va_up F1 3 f) V2 (qTick S1) (by omega) rfl hRT hIT rfl (Nat.lt_succ_self _)
                · skip
                  refine z_aload_n C 3 rfl dX3_pass_64 rfl ?_
                  refine z_get C k_M hloop18_1.1 7 (by decide) rfl q1394 dX3_pass_65 ?_
                  refine z_iload C 0 rfl dX3_pass_68 ?_
                  refine z_aload_n C 3 rfl dX3_pass_70 rfl ?_
                  refine z_get C k_M hloop18_1.1 8 (by decide) rfl q1395 dX3_pass_71 ?_
                  refine z_iload C 0 rfl dX3_pass_74 ?_
                  have ga28 : V2 (A 4) = some (.inl (D.arr 0, 20, .inl (F1 4))) := hloop18_1.2.1 4 (by decide)
                  refine z_iald C ga28 (by omega) (by omega) (v := (nI (qunt S1 j))) (hloop14_2.2.2.1 j (by omega)) dX3_pass_76 ?_
                  refine z_aload_n C 3 rfl dX3_pass_77 rfl ?_
                  refine z_get C k_M hloop18_1.1 1 (by decide) rfl q1388 dX3_pass_78 ?_
                  refine z_icmp_neN C 89 (by omega) (by omega) dX3_pass_81 (by decide) (fun c81 => ?_) (fun c81 => ?_)
                  · skip
                    refine z_aload_n C 3 rfl dX3_pass_89 rfl ?_
                    refine z_get C k_M hloop18_1.1 7 (by decide) rfl q1394 dX3_pass_90 ?_
                    refine z_iload C 0 rfl dX3_pass_93 ?_
                    have ga29 : V2 (A 3) = some (.inl (D.arr 4, 20, .inl f)) := hloop18_1.2.1 3 (by decide)
                    refine z_cald C ga29 (by omega) (by omega) (v := (qhld S1 j)) (hloop18_3 j (Nat.le_refl _) (by omega)) dX3_pass_95 ?_
                    refine z_cast C ga29 (by omega) (by omega) (by rcases hI1.2.2.1.2.2 j (by omega) with e | e | e <;> rw [e] <;> decide) dX3_pass_96 (z_nV (fun V30 hV31 => ?_))
                    have hM32 := MX.st hloop18_1 3 (by decide) (f := va_up f j (qhld S1 j)) hV31
                    refine z_iincN C 0 1 [(4, .int (nI (j + 1))), (2, .int (nI c)), (3, .int (nI k)), (0, .ref m), (1, .int (nI (vN v1)))] rfl dX3_pass_97 rfl (by decide) rfl ?_
                    refine z_goto C 55 dX3_pass_100 (by decide) ?_
                    rw [zuu] at hM32
                    exact ih_loop18 (j + 1) _ (va_up f j (qhld S1 j)) (by omega) hM32 (f_up1 hloop18_2 (tick_f c81)) (f_up2 hloop18_3) (by omega)
                  · skip
                    refine z_bipush C (v := (nI 45)) dX3_pass_84 rfl ?_
                    refine z_goto C 96 dX3_pass_86 (by decide) ?_
                    have ga33 : V2 (A 3) = some (.inl (D.arr 4, 20, .inl f)) := hloop18_1.2.1 3 (by decide)
                    refine z_cast C ga33 (by omega) (by omega) (by decide) dX3_pass_96 (z_nV (fun V34 hV35 => ?_))
                    have hM36 := MX.st hloop18_1 3 (by decide) (f := va_up f j (nI 45)) hV35
                    refine z_iincN C 0 1 [(4, .int (nI (j + 1))), (2, .int (nI c)), (3, .int (nI k)), (0, .ref m), (1, .int (nI (vN v1)))] rfl dX3_pass_97 rfl (by decide) rfl ?_
                    refine z_goto C 55 dX3_pass_100 (by decide) ?_
                    rw [zuu] at hM36
                    exact ih_loop18 (j + 1) _ (va_up f j (nI 45)) (by omega) hM36 (f_up1 hloop18_2 (tick_t (by omega) c81)) (f_up2 hloop18_3) (by omega)
            exact loop18 _ 0 _ (F1 3) (Nat.zero_le _) hM0 (fun b h => absurd h (Nat.not_lt_zero _)) (fun b _ h => hloop14_2.2.1.2.2.2 b h) (Nat.lt_succ_self _)
      exact loop14 _ 0 0 F _ (qS st rch bx wt ins hld unt Y ap ab hr ln sa mv nw lf) (Nat.zero_le _) rfl hR0 (Nat.lt_succ_self _)
    · skip
      have e1 : oPass (qS st rch bx wt ins hld unt Y ap ab hr ln sa mv nw lf) (vN v1) = (1, 0, (qS st rch bx wt ins hld unt Y ap ab hr ln sa mv nw lf)) := if_pos (Or.inr (show 999 < nw + vN v1 by omega))
      refine z_aload_n C 0 rfl dX3_pass_27 rfl ?_
      refine z_iconst C (v := (nI 1)) dX3_pass_28 rfl ?_
      refine z_callV C k_M hM3.1 (As := [.int (nI 1)]) (mX3_fails hM3 hst hbx) (lw_V q1458 q1460 qs31 q65 q1461) rfl hd_X3_fails rfl (Nat.le_of_ble_eq_true rfl) (by decide) (by decide) (by decide) (by decide) rfl dX3_pass_29 (fun _ _ h => h.elim) (fun r37 V38 hP39 => ?_)
      obtain ⟨hM40, rfl⟩ := hP39
      refine z_st (st' := [.int 0]) rfl ?_
      exact z_iret C hQ 0 rfl ⟨F, by rw [e1]; exact (show mR D _ m A _ _ (qS st rch bx wt ins hld unt Y ap ab hr ln sa mv nw lf) from ⟨hM40, hE, hU, hy, hA⟩), fun _ => oRes e1⟩ (by decide) (by decide) dX3_pass_32
