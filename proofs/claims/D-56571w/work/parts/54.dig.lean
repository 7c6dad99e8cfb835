/-! COMPONENT: canDig, planByTrying -/
set_option maxRecDepth 100000
set_option maxHeartbeats 4000000 in
set_option maxRecDepth 100000 in
theorem mX1_canDig {l : Launch} {D : ZD} {kk x y yb yh rr bb al t d cap : Nat} {fb : Nat → Option Nat} {fh fr : Nat → Int32} {fB : Nat → Option Nat} {ba : Nat → Nat} {hc : Nat → Int32} {uc : Nat → Nat} {fa : Nat → Option Nat} {ma : Int32} {aa sl : Nat → Nat} {Lb : List Nat} {Ct : List (Nat × Nat)} {mb : Int32} {kc : Nat → List Nat} {st : Nat} {rch : Nat → Nat} {bx : Nat} {wt : Nat → Nat} {ins : Nat → Bool} {hld : Nat → Int32} {unt : Nat → Nat} {Y : YD} {ap : Nat} {ab hr ln : Nat → Nat} {sa : Nat → Int32} {mv : Int32} {nw : Nat} {lf : Int64} (hI : qI kk (qS st rch bx wt ins hld unt Y ap ab hr ln sa mv nw lf)) {y0 yb0 yh0 tt : Nat} (hne : yb ≠ yb0 ∧ yh ≠ yh0 ∧ rr ≠ yh0) (htt : tt < bx) (hti : ins tt = true) : ∀ (n : Nat), n ≤ 10 → ∀ (V : ZV) (fb0 : Nat → Option Nat) (fh0 : Nat → Int32) (Y0 : YD), V x = some (.inr (0, [.ref y, .ref rr, .ref bb, .ref al, .ref t, .int (nI st), .int (nI bx), .int (nI (fC ins bx)), .int mv, .int (nI nw), .long lf])) → cY D V y yb yh rr fb fh fr ba bx st rch Y → cB D V bb fB ba bx wt ins hld unt hc uc → cA D V al d cap fa ma ba ap ab hr ln sa aa sl → cT V t Lb Ct mb kc ap hr ln sa aa sl → hYd D V y0 yb0 yh0 fb0 fh0 → yRel ba Y0 fb0 fh0 → yGood st bx ins Y0 → (∀ s, s < st → (Y0 s).length ≤ rch s) → ZM l D yX1_canDig (ws_ yX1_canDig cX1_canDig 9 (some .boolean)) (5 + n) 0 0 eB V [.ref x, .ref y0, .ref (ba tt), .int (nI n)] (fun r V' => (r = true ↔ dg (yLeg st rch wt ins (pin' hld) tt) tt n Y0) ∧ ∃ fb2 fh2, hYd D V' y0 yb0 yh0 fb2 fh2 ∧ yRel ba Y0 fb2 fh2 ∧ zUnc V V' (fun z => z = yb0 ∨ z = yh0)) zno_x := by
  intro n
  induction n with
  | zero =>
    intro hn10 V fb0 fh0 Y0 hX hY hB hA hT hY0 hR0 hg0 hl0
    refine z_enter (by decide +kernel) [(0, .ref x), (1, .ref y0), (2, .ref (ba tt)), (3, .int (nI 0))] rfl (Nat.le_of_ble_eq_true rfl) (zcat_cons rfl (zcat_cons rfl (zcat_cons rfl (zcat_cons rfl zcat_nil)))) (fun Γ C hQ => ?_)
    have hst : st ≤ 4 := hI.1.1
    have hbx : bx ≤ 20 := hI.1.2.1
    have hrc : ∀ s, s < st → rch s ≤ 4 := fun s hs => (hI.1.2.2.1 s hs).2
    have hwt : ∀ b, b < bx → wt b < 1000 := fun b hb => by have h9 : wt b ≤ 30 := (hI.1.2.2.2 b hb).2; omega
    have hg : yGood st bx ins Y := hI.2.1.1
    have hht : ∀ s, s < st → (Y s).length ≤ rch s := hI.2.1.2.1
    have hf8 : fC ins bx ≤ 8 := hI.2.1.2.2
    have hu1 : ∀ b, unt b ≤ 1000 := hI.2.2.1.2.1
    have hhl : ∀ b, b < bx → hld b = nI 45 ∨ hld b = nI 112 ∨ hld b = nI 108 := hI.2.2.1.2.2
    have hap : ap ≤ 30 := hI.2.2.2.1.1
    have haa : ∀ a, a < ap → ab a < bx ∧ hr a ≤ 999 ∧ ln a < 3 ∧ (sa a = nI 98 ∨ sa a = nI 99 ∨ sa a = nI 103 ∨ sa a = nI 100 ∨ sa a = nI 109) := hI.2.2.2.1.2.1
    have hnw : nw ≤ 999 := hI.2.2.2.2
    have hY4 : ∀ s, (Y s).length ≤ 4 := hg.1.1
    have hmm : ∀ s, ∀ c ∈ Y s, c < bx := fun s c hc => (hg.2.2 s c hc).1
    have hyt := yIn_of hg0 hst hB.2.2.1 hbx htt hti
    obtain ⟨pt, hpt⟩ := hg0.2.1 tt htt hti
    have hpe := yPl_eq hg0.1 hst hpt
    obtain ⟨hk0, hkl0, hab0⟩ := yAb_at hg0.1 hst hpt
    have hl40 := hg0.1.1 pt
    rw [← hpe] at hk0 hkl0 hab0 hl40
    have hdg := dg_0 (L := (yLeg st rch wt ins (pin' hld) tt)) (t := tt) (Y := Y0)
    rw [yTop_ab hg0.1 hst hpt] at hdg
    refine z_iload_n C 3 rfl dX1_canDig_0 rfl ?_
    refine z_if_neN C 18 (by omega) dX1_canDig_1 (by decide) (fun c1 => ?_) (fun c1 => ?_)
    · skip
      exfalso; omega
    · skip
      refine z_aload_n C 1 rfl dX1_canDig_4 rfl ?_
      refine z_aload_n C 2 rfl dX1_canDig_5 rfl ?_
      refine z_callV C k_Y hY0.1 (As := [.ref (ba tt)]) (mX2_above hY0 hR0 hyt hk0 (hg0.1.2.2.2.1 _)) (lw_V q505 q506 q507 q59 q508) rfl hd_X2_above rfl (Nat.le_of_ble_eq_true rfl) (by omega) (by decide) (by omega) (by omega) rfl dX1_canDig_6 (fun _ _ h => h.elim) (fun r1 V2 hP3 => ?_)
      rw [hP3.1, hP3.2]
      refine z_st (st' := [.int (nI ((Y0 (yPl Y0 tt)).length - 1 - (Y0 (yPl Y0 tt)).idxOf tt))]) rfl ?_
      refine z_if_neN C 16 (by omega) dX1_canDig_9 (by decide) (fun c9 => ?_) (fun c9 => ?_)
      · skip
        refine z_iconst C (v := (nI 0)) dX1_canDig_16 rfl ?_
        exact z_zret C hQ false rfl rfl ⟨by rw [hdg]; exact ⟨fun h => absurd h (by decide), fun h => by have := of_decide_eq_true h; have := c9; omega⟩, fb0, fh0, hY0, hR0, zUnc.rf⟩ (by omega) (by omega) dX1_canDig_17
      · skip
        refine z_iconst C (v := (nI 1)) dX1_canDig_12 rfl ?_
        refine z_goto C 17 dX1_canDig_13 (by decide) ?_
        exact z_zret C hQ true rfl rfl ⟨by rw [hdg]; exact ⟨fun _ => decide_eq_true (by have := c9; omega), fun _ => rfl⟩, fb0, fh0, hY0, hR0, zUnc.rf⟩ (by omega) (by omega) dX1_canDig_17
  | succ n ih =>
    intro hn10 V fb0 fh0 Y0 hX hY hB hA hT hY0 hR0 hg0 hl0
    refine z_enter (by decide +kernel) [(0, .ref x), (1, .ref y0), (2, .ref (ba tt)), (3, .int (nI (n + 1)))] rfl (Nat.le_of_ble_eq_true rfl) (zcat_cons rfl (zcat_cons rfl (zcat_cons rfl (zcat_cons rfl zcat_nil)))) (fun Γ C hQ => ?_)
    have hst : st ≤ 4 := hI.1.1
    have hbx : bx ≤ 20 := hI.1.2.1
    have hrc : ∀ s, s < st → rch s ≤ 4 := fun s hs => (hI.1.2.2.1 s hs).2
    have hwt : ∀ b, b < bx → wt b < 1000 := fun b hb => by have h9 : wt b ≤ 30 := (hI.1.2.2.2 b hb).2; omega
    have hg : yGood st bx ins Y := hI.2.1.1
    have hht : ∀ s, s < st → (Y s).length ≤ rch s := hI.2.1.2.1
    have hf8 : fC ins bx ≤ 8 := hI.2.1.2.2
    have hu1 : ∀ b, unt b ≤ 1000 := hI.2.2.1.2.1
    have hhl : ∀ b, b < bx → hld b = nI 45 ∨ hld b = nI 112 ∨ hld b = nI 108 := hI.2.2.1.2.2
    have hap : ap ≤ 30 := hI.2.2.2.1.1
    have haa : ∀ a, a < ap → ab a < bx ∧ hr a ≤ 999 ∧ ln a < 3 ∧ (sa a = nI 98 ∨ sa a = nI 99 ∨ sa a = nI 103 ∨ sa a = nI 100 ∨ sa a = nI 109) := hI.2.2.2.1.2.1
    have hnw : nw ≤ 999 := hI.2.2.2.2
    have hY4 : ∀ s, (Y s).length ≤ 4 := hg.1.1
    have hmm : ∀ s, ∀ c ∈ Y s, c < bx := fun s c hc => (hg.2.2 s c hc).1
    have hyt := yIn_of hg0 hst hB.2.2.1 hbx htt hti
    obtain ⟨pt, hpt⟩ := hg0.2.1 tt htt hti
    have hpe := yPl_eq hg0.1 hst hpt
    refine z_iload_n C 3 rfl dX1_canDig_0 rfl ?_
    refine z_if_neN C 18 (by omega) dX1_canDig_1 (by decide) (fun c1 => ?_) (fun c1 => ?_)
    · skip
      refine z_iconst C (v := (nI 0)) dX1_canDig_18 rfl ?_
      refine z_istore C [(4, .int (nI 0)), (0, .ref x), (1, .ref y0), (2, .ref (ba tt)), (3, .int (nI (n + 1)))] dX1_canDig_19 (by decide) rfl ?_
      refine z_pick [(0, .ref x), (1, .ref y0), (2, .ref (ba tt)), (3, .int (nI (n + 1))), (4, .int (nI 0))] [1, 2, 3, 4, 0] rfl ?_
      have lo : ∀ (n_lo : Nat) (V1 : ZV) (fb1 : Nat → Option Nat) (fh1 : Nat → Int32) (b : Nat), zUnc V V1 (fun z => z = yb0 ∨ z = yh0) → hYd D V1 y0 yb0 yh0 fb1 fh1 → yRel ba Y0 fb1 fh1 → (∀ q, q < 4 * b → (yLeg st rch wt ins (pin' hld) tt) Y0 q = true → ¬ dg (yLeg st rch wt ins (pin' hld) tt) tt n (yGo Y0 q)) → b ≤ bx → bx - b < n_lo → ZW l D Γ (zr (5 + (n + 1)) 0 0) 21 [(0, .ref x), (1, .ref y0), (2, .ref (ba tt)), (3, .int (nI (n + 1))), (4, .int (nI b))] [] V1 0 0 := by
        intro n_lo
        induction n_lo with
        | zero => intro V1 fb1 fh1 b _ _ _ _ _ hm; exact absurd hm (Nat.not_lt_zero _)
        | succ n_lo ih_lo =>
          intro V1 fb1 fh1 b hlo_0 hlo_1 hlo_2 hlo_3 hlo_4 hm
          have hmo := hm
          refine z_iload C 4 rfl dX1_canDig_21 ?_
          refine z_aload_n C 0 rfl dX1_canDig_23 rfl ?_
          refine z_get C k_Q (hlo_0.get (fun q => yd_k hY0 (n := 0) (by decide) _ _ hX q rfl) hX) 6 (by decide) rfl q191 dX1_canDig_24 ?_
          refine z_icmp_geN C 138 (by omega) (by omega) dX1_canDig_27 (by decide) (fun c27 => ?_) (fun c27 => ?_)
          · skip
            have hbe : b = bx := by omega
            refine z_iconst C (v := (nI 0)) dX1_canDig_138 rfl ?_
            exact z_zret C hQ false rfl rfl ⟨⟨fun h => absurd h (by decide), fun h => by obtain ⟨q, h1, h2⟩ := dg_s.mp h; exact absurd h2 (hlo_3 q (by rw [hbe]; exact yLeg_lt hg0 q h1) h1)⟩, fb1, fh1, hlo_1, hlo_2, hlo_0⟩ (by omega) (by omega) dX1_canDig_139
          · skip
            refine z_iconst C (v := (nI 0)) dX1_canDig_30 rfl ?_
            refine z_istore C [(5, .int (nI 0)), (0, .ref x), (1, .ref y0), (2, .ref (ba tt)), (3, .int (nI (n + 1))), (4, .int (nI b))] dX1_canDig_31 (by decide) rfl ?_
            refine z_pick [(0, .ref x), (1, .ref y0), (2, .ref (ba tt)), (3, .int (nI (n + 1))), (4, .int (nI b)), (5, .int (nI 0))] [1, 2, 3, 4, 5, 0] rfl ?_
            have li : ∀ (n_li : Nat) (VB : ZV) (fb2 : Nat → Option Nat) (fh2 : Nat → Int32) (s : Nat), zUnc V VB (fun z => z = yb0 ∨ z = yh0) → hYd D VB y0 yb0 yh0 fb2 fh2 → yRel ba Y0 fb2 fh2 → (∀ q, q < (4 * b + s) → (yLeg st rch wt ins (pin' hld) tt) Y0 q = true → ¬ dg (yLeg st rch wt ins (pin' hld) tt) tt n (yGo Y0 q)) → s ≤ st → st - s < n_li → ZW l D Γ (zr (5 + (n + 1)) 0 0) 33 [(0, .ref x), (1, .ref y0), (2, .ref (ba tt)), (3, .int (nI (n + 1))), (4, .int (nI b)), (5, .int (nI s))] [] VB 0 0 := by
              intro n_li
              induction n_li with
              | zero => intro VB fb2 fh2 s _ _ _ _ _ hm; exact absurd hm (Nat.not_lt_zero _)
              | succ n_li ih_li =>
                intro VB fb2 fh2 s hli_0 hli_1 hli_2 hli_3 hli_4 hm
                refine z_iload C 5 rfl dX1_canDig_33 ?_
                refine z_aload_n C 0 rfl dX1_canDig_35 rfl ?_
                refine z_get C k_Q (hli_0.get (fun q => yd_k hY0 (n := 0) (by decide) _ _ hX q rfl) hX) 5 (by decide) rfl q190 dX1_canDig_36 ?_
                refine z_icmp_geN C 132 (by omega) (by omega) dX1_canDig_39 (by decide) (fun c39 => ?_) (fun c39 => ?_)
                · skip
                  have hse : s = st := by omega
                  refine z_iincN C 4 1 [(4, .int (nI (b + 1))), (0, .ref x), (1, .ref y0), (2, .ref (ba tt)), (3, .int (nI (n + 1))), (5, .int (nI s))] rfl dX1_canDig_132 rfl (by decide) rfl ?_
                  refine z_goto C 21 dX1_canDig_135 (by decide) ?_
                  refine z_pick [(0, .ref x), (1, .ref y0), (2, .ref (ba tt)), (3, .int (nI (n + 1))), (4, .int (nI (b + 1)))] [1, 2, 3, 4, 0] rfl ?_
                  exact ih_lo VB fb2 fh2 (b + 1) hli_0 hli_1 hli_2 (fun q hq hl hd => by
                    by_cases c9 : q < (4 * b + s)
                    · exact hli_3 q c9 hl hd
                    · have h9 := (yLeg_spec hl).2.1; omega) (by omega) (by omega)
                · skip
                  have hs4 : s < st := by omega
                  have hq4 : (4 * b + s) / 4 = b := by omega
                  have hq5 : (4 * b + s) % 4 = s := by omega
                  by_cases hin : b < bx ∧ ins b = true
                  · skip
                    obtain ⟨hbb, hbi⟩ := hin
                    have hyi := yIn_of hg0 hst hB.2.2.1 hbx hbb hbi
                    refine z_aload_n C 0 rfl dX1_canDig_42 rfl ?_
                    refine z_get C k_Q (hli_0.get (fun q => yd_k hY0 (n := 0) (by decide) _ _ hX q rfl) hX) 2 (by decide) rfl q187 dX1_canDig_43 ?_
                    refine z_iload C 4 rfl dX1_canDig_46 ?_
                    refine z_aaldR C 1 (by decide) ((hB.mv hli_0 (yd_k hY0 (by decide))).1) (by omega) (by omega) (by rw [(hB.mv hli_0 (yd_k hY0 (by decide))).2.1 b (by omega), if_pos ⟨hbb, hbi⟩]) dX1_canDig_48 ?_
                    refine z_astore C [(6, .ref (ba b)), (0, .ref x), (1, .ref y0), (2, .ref (ba tt)), (3, .int (nI (n + 1))), (4, .int (nI b)), (5, .int (nI s))] dX1_canDig_49 (by decide) rfl ?_
                    refine z_aload C 0 rfl dX1_canDig_51 ?_
                    refine z_ifnull_r C dX1_canDig_53 ?_
                    refine z_aload C 0 rfl dX1_canDig_56 ?_
                    refine z_aload_n C 3 rfl dX1_canDig_58 rfl ?_
                    refine z_acmp_eq C (some (ba b)) (some (ba tt)) 126 dX1_canDig_59 (by decide) (fun c59 => ?_) (fun c59 => ?_)
                    · skip
                      have hbt : b = tt := hB.2.2.1.inj hbx hbb htt (Option.some.inj c59)
                      have hno : (yLeg st rch wt ins (pin' hld) tt) Y0 (4 * b + s) = false := Bool.eq_false_iff.mpr (fun h => (yLeg_spec h).1 (by rw [hq4, hbt]))
                      refine z_iincN C 6 1 [(5, .int (nI (s + 1))), (6, .ref (ba b)), (0, .ref x), (1, .ref y0), (2, .ref (ba tt)), (3, .int (nI (n + 1))), (4, .int (nI b))] rfl dX1_canDig_126 rfl (by decide) rfl ?_
                      refine z_goto C 33 dX1_canDig_129 (by decide) ?_
                      refine z_pick [(0, .ref x), (1, .ref y0), (2, .ref (ba tt)), (3, .int (nI (n + 1))), (4, .int (nI b)), (5, .int (nI (s + 1)))] [2, 3, 4, 5, 6, 0] rfl ?_
                      exact ih_li VB _ _ (s + 1) hli_0 hli_1 hli_2 (fun q hq hl hd => by
                        by_cases c9 : q < (4 * b + s)
                        · exact hli_3 q c9 hl hd
                        · have e9 : q = (4 * b + s) := by omega
                          rw [e9] at hl hd
                          rw [hno] at hl; cases hl) (by omega) (by omega)
                    · skip
                      have hbt : ¬ b = tt := fun e => c59 (by rw [e])
                      refine z_aload_n C 1 rfl dX1_canDig_62 rfl ?_
                      refine z_aload_n C 2 rfl dX1_canDig_63 rfl ?_
                      refine z_aload C 0 rfl dX1_canDig_64 ?_
                      refine z_iload C 6 rfl dX1_canDig_66 ?_
                      refine z_callV C k_Q (hli_0.get (fun q => yd_k hY0 (n := 0) (by decide) _ _ hX q rfl) hX) (As := [.ref y0, .ref (ba b), .int (nI s)]) (mX1_why_2 (hli_0.get (fun q => yd_k hY0 (n := 0) (by decide) _ _ hX q rfl) hX) (hY.mv2 hY0 hne hli_0) (hB.mv hli_0 (yd_k hY0 (by decide))) (hA.mv hli_0 (yd_k hY0 (by decide))) (hT.mv hli_0 (yd_k hY0 (by decide))) hI hli_1 hli_2 hg0 hbb hbi (s := s) hs4) (lw_V q765 q767 qs10 q58 q768) rfl hd_X1_why_2 rfl (Nat.le_of_ble_eq_true rfl) (by omega) (by decide) (by omega) (by omega) rfl dX1_canDig_68 (fun _ _ h => h.elim) (fun r1 V2 hP3 => ?_)
                      rw [hP3.1, hP3.2]
                      refine z_st (st' := [.int (yWhy rch wt (pin' hld) Y0 (yPl Y0 b) b s)]) rfl ?_
                      refine z_bipush C (v := (nI 45)) dX1_canDig_71 rfl ?_
                      refine z_icmp_ne C 126 dX1_canDig_73 (by decide) (fun c73 => ?_) (fun c73 => ?_)
                      · skip
                        have hno : (yLeg st rch wt ins (pin' hld) tt) Y0 (4 * b + s) = false := Bool.eq_false_iff.mpr (fun h => by have h9 := (yLeg_spec h).2.2.2; rw [hq4, hq5, yWhy_no c73] at h9; cases h9)
                        refine z_iincN C 6 1 [(5, .int (nI (s + 1))), (6, .ref (ba b)), (0, .ref x), (1, .ref y0), (2, .ref (ba tt)), (3, .int (nI (n + 1))), (4, .int (nI b))] rfl dX1_canDig_126 rfl (by decide) rfl ?_
                        refine z_goto C 33 dX1_canDig_129 (by decide) ?_
                        refine z_pick [(0, .ref x), (1, .ref y0), (2, .ref (ba tt)), (3, .int (nI (n + 1))), (4, .int (nI b)), (5, .int (nI (s + 1)))] [2, 3, 4, 5, 6, 0] rfl ?_
                        exact ih_li VB _ _ (s + 1) hli_0 hli_1 hli_2 (fun q hq hl hd => by
                          by_cases c9 : q < (4 * b + s)
                          · exact hli_3 q c9 hl hd
                          · have e9 : q = (4 * b + s) := by omega
                            rw [e9] at hl hd
                            rw [hno] at hl; cases hl) (by omega) (by omega)
                      · skip
                        have hcan := yWhy_yes (hl0 s hs4) (hrc s hs4) c73
                        obtain ⟨k1, k2, k3, k4⟩ := yCan_spec hcan
                        have hyes : (yLeg st rch wt ins (pin' hld) tt) Y0 (4 * b + s) = true := by unfold yLeg; rw [hq4, hq5, hcan, decide_eq_true (show b ≠ tt from hbt), decide_eq_true hs4, hbi]; rfl
                        have hgo : yGo Y0 (4 * b + s) = yMv Y0 (yPl Y0 b) s b := by unfold yGo; rw [hq4, hq5]
                        obtain ⟨n0, hn0⟩ := last_n k1
                        have hp4 := hyi.1
                        have hl4 := hg0.1.1 (yPl Y0 b)
                        have hr4 := hrc s hs4
                        have hgg : yGood st bx ins (yMv Y0 (yPl Y0 b) s b) := by rw [← hgo]; exact yGood_go hrc hg0 hyes
                        have hll : ∀ z, z < st → (yMv Y0 (yPl Y0 b) s b z).length ≤ rch z := by rw [← hgo]; exact yLen_go hl0 hyes
                        refine z_aload_n C 2 rfl dX1_canDig_76 rfl ?_
                        refine z_aload C 0 rfl dX1_canDig_77 ?_
                        refine z_callV C k_Y hli_1.1 (As := [.ref (ba b)]) (mX2_stackOf hli_1 hli_2 hyi) (lw_V q482 q483 q484 q59 q485) rfl hd_X2_stackOf rfl (Nat.le_of_ble_eq_true rfl) (by omega) (by decide) (by omega) (by omega) rfl dX1_canDig_79 (fun _ _ h => h.elim) (fun r4 V5 hP6 => ?_)
                        rw [hP6.1, hP6.2]
                        refine z_st (st' := [.int (nI (yPl Y0 b))]) rfl ?_
                        refine z_istore C [(7, .int (nI (yPl Y0 b))), (6, .ref (ba b)), (0, .ref x), (1, .ref y0), (2, .ref (ba tt)), (3, .int (nI (n + 1))), (4, .int (nI b)), (5, .int (nI s))] dX1_canDig_82 (by decide) rfl ?_
                        refine z_aload_n C 3 rfl dX1_canDig_84 rfl ?_
                        refine z_iload C 7 rfl dX1_canDig_85 ?_
                        refine z_aload_n C 3 rfl dX1_canDig_87 rfl ?_
                        refine z_iload C 0 rfl dX1_canDig_88 ?_
                        refine z_callV C k_Y hli_1.1 (As := [.int (nI (yPl Y0 b))]) (mX2_pop hli_1 (s := (yPl Y0 b)) (n := n0) hp4 (by omega) (by rw [hli_2.1 _ hp4, hn0]) (hli_2.2 _ _ _ hp4 (last_at k1 hn0))) (lw_V q784 q785 q786 q59 q787) rfl hd_X2_pop rfl (Nat.le_of_ble_eq_true rfl) (by omega) (by decide) (by omega) (by omega) rfl dX1_canDig_90 (fun _ _ h => h.elim) (fun r7 V8 hP9 => ?_)
                        obtain ⟨e10, e11⟩ := hP9
                        rw [e10]
                        refine z_st (st' := [.ref (ba b), .int (nI s), .ref y0]) rfl ?_
                        obtain ⟨hy12, hu13⟩ := hli_1.u1 e11
                        have hr14 := hli_2.pop hg0.1.1 hp4 hn0
                        have hut15 := zUnc.tr (S := (fun z => z = yb0 ∨ z = yh0)) hli_0 hu13 (fun _ h => Or.inl h)
                        have hA1 : ((va_up Y0 (yPl Y0 b) (Y0 (yPl Y0 b)).dropLast) s).length = (Y0 s).length := by rw [zvn (Ne.symm k3)]
                        have hA2 : ∀ z, ((va_up Y0 (yPl Y0 b) (Y0 (yPl Y0 b)).dropLast) z).length ≤ 4 := fun z => by
                          by_cases e : z = yPl Y0 b
                          · rw [e, zvs, List.length_dropLast]; omega
                          · rw [zvn e]; exact hg0.1.1 z
                        refine z_callV C k_Y hy12.1 (As := [.int (nI s), .ref (ba b)]) (mX2_push hy12 (s := s) (n := (Y0 s).length) (show s < 4 by omega) (by omega) (by rw [hr14.1 _ (show s < 4 by omega), hA1]) ((hB.mv hut15 (yd_k hY0 (by decide))).2.2.1 b hbb)) (lw_V q460 q461 q462 q59 q463) rfl hd_X2_push rfl (Nat.le_of_ble_eq_true rfl) (by omega) (by decide) (by omega) (by omega) rfl dX1_canDig_93 (fun _ _ h => h.elim) (fun r16 V17 hP18 => ?_)
                        refine z_st (st' := []) rfl ?_
                        obtain ⟨hy19, hu20⟩ := hy12.u2 hP18
                        have hr21 := hr14.push (b := b) hA2 (show s < 4 by omega) hA1 (by omega)
                        have hut22 := zUnc.tr (S := (fun z => z = yb0 ∨ z = yh0)) hut15 hu20 (fun _ h => Or.inl h)
                        refine z_aload_n C 2 rfl dX1_canDig_96 rfl ?_
                        refine z_aload_n C 3 rfl dX1_canDig_97 rfl ?_
                        refine z_aload_n C 4 rfl dX1_canDig_98 rfl ?_
                        refine z_iload_n C 5 rfl dX1_canDig_99 rfl ?_
                        refine z_iconst C (v := (nI 1)) dX1_canDig_100 rfl ?_
                        refine z_isub C dX1_canDig_101 ?_
                        refine z_top (v := .int (nI n)) (congrArg Value.int (nI_m1n n)) ?_
                        refine z_callV C k_Q (hut22.get (fun q => yd_k hY0 (n := 0) (by decide) _ _ hX q rfl) hX) (As := [.ref y0, .ref (ba tt), .int (nI n)]) (ih (by omega) _ _ _ _ (hut22.get (fun q => yd_k hY0 (n := 0) (by decide) _ _ hX q rfl) hX) (hY.mv2 hY0 hne hut22) (hB.mv hut22 (yd_k hY0 (by decide))) (hA.mv hut22 (yd_k hY0 (by decide))) (hT.mv hut22 (yd_k hY0 (by decide))) hy19 hr21 hgg hll) (lw_V q1099 q1101 qs21 q58 q1102) rfl hd_X1_canDig rfl (Nat.le_of_ble_eq_true rfl) (by omega) (by decide) (by omega) (by omega) rfl dX1_canDig_102 (fun _ _ h => h.elim) (fun r23 V24 hP25 => ?_)
                        obtain ⟨hdg, fb3, fh3, hy3, hr3, hu3⟩ := hP25
                        have hr3 : yRel ba (yMv Y0 (yPl Y0 b) s b) fb3 fh3 := hr3
                        refine z_st (st' := [.int (zb r23)]) rfl ?_
                        have hut26 := zUnc.tr (S := (fun z => z = yb0 ∨ z = yh0)) hut22 hu3 (fun _ h => Or.inl h)
                        refine z_istore C [(8, .int (zb r23)), (7, .int (nI (yPl Y0 b))), (6, .ref (ba b)), (0, .ref x), (1, .ref y0), (2, .ref (ba tt)), (3, .int (nI (n + 1))), (4, .int (nI b)), (5, .int (nI s))] dX1_canDig_105 (by decide) rfl ?_
                        refine z_aload_n C 4 rfl dX1_canDig_107 rfl ?_
                        refine z_iload C 1 rfl dX1_canDig_108 ?_
                        refine z_aload_n C 4 rfl dX1_canDig_110 rfl ?_
                        refine z_iload C 8 rfl dX1_canDig_111 ?_
                        have hYs : (yMv Y0 (yPl Y0 b) s b) s = Y0 s ++ [b] := by unfold yMv; rw [zvs, zvn (Ne.symm k3)]
                        have hYl : ((yMv Y0 (yPl Y0 b) s b) s).length = (Y0 s).length + 1 := by rw [hYs]; simp
                        refine z_callV C k_Y hy3.1 (As := [.int (nI s)]) (mX2_pop hy3 (s := s) (n := (Y0 s).length) (show s < 4 by omega) (by omega) (by rw [hr3.1 s (by omega), hYl]) (hr3.2 s _ b (by omega) (by rw [hYs]; simp))) (lw_V q784 q785 q786 q59 q787) rfl hd_X2_pop rfl (Nat.le_of_ble_eq_true rfl) (by omega) (by decide) (by omega) (by omega) rfl dX1_canDig_113 (fun _ _ h => h.elim) (fun r27 V28 hP29 => ?_)
                        obtain ⟨e30, e31⟩ := hP29
                        rw [e30]
                        refine z_st (st' := [.ref (ba b), .int (nI (yPl Y0 b)), .ref y0]) rfl ?_
                        obtain ⟨hy32, hu33⟩ := hy3.u1 e31
                        have hr34 := hr3.pop hgg.1.1 (show s < 4 by omega) hYl
                        have hut35 := zUnc.tr (S := (fun z => z = yb0 ∨ z = yh0)) hut26 hu33 (fun _ h => Or.inl h)
                        have hB1 : ((va_up (yMv Y0 (yPl Y0 b) s b) s ((yMv Y0 (yPl Y0 b) s b) s).dropLast) (yPl Y0 b)).length = n0 := by rw [zvn k3]; unfold yMv; rw [zvn k3, zvs, List.length_dropLast, hn0]; rfl
                        have hB2 : ∀ z, ((va_up (yMv Y0 (yPl Y0 b) s b) s ((yMv Y0 (yPl Y0 b) s b) s).dropLast) z).length ≤ 4 := fun z => by
                          by_cases e : z = s
                          · rw [e, zvs, List.length_dropLast]; have := hgg.1.1 s; omega
                          · rw [zvn e]; exact hgg.1.1 z
                        refine z_callV C k_Y hy32.1 (As := [.int (nI (yPl Y0 b)), .ref (ba b)]) (mX2_push hy32 (s := (yPl Y0 b)) (n := n0) hp4 (by omega) (by rw [hr34.1 _ hp4, hB1]) ((hB.mv hut35 (yd_k hY0 (by decide))).2.2.1 b hbb)) (lw_V q460 q461 q462 q59 q463) rfl hd_X2_push rfl (Nat.le_of_ble_eq_true rfl) (by omega) (by decide) (by omega) (by omega) rfl dX1_canDig_116 (fun _ _ h => h.elim) (fun r36 V37 hP38 => ?_)
                        refine z_st (st' := []) rfl ?_
                        obtain ⟨hy39, hu40⟩ := hy32.u2 hP38
                        have hr41 := hr34.push (b := b) hB2 hp4 hB1 (by omega)
                        have hr42 : yRel ba Y0 _ _ := yBack k3 k1 ▸ hr41
                        have hut43 := zUnc.tr (S := (fun z => z = yb0 ∨ z = yh0)) hut35 hu40 (fun _ h => Or.inl h)
                        refine z_iload C 0 rfl dX1_canDig_119 ?_
                        refine z_if_eqB C 126 dX1_canDig_121 (by decide) (fun c121 => ?_) (fun c121 => ?_)
                        · skip
                          have hnd : ¬ dg (yLeg st rch wt ins (pin' hld) tt) tt n (yGo Y0 (4 * b + s)) := fun h => by rw [hgo] at h; have h9 := hdg.mpr h; rw [c121] at h9; cases h9
                          refine z_iincN C 8 1 [(5, .int (nI (s + 1))), (8, .int (zb r23)), (7, .int (nI (yPl Y0 b))), (6, .ref (ba b)), (0, .ref x), (1, .ref y0), (2, .ref (ba tt)), (3, .int (nI (n + 1))), (4, .int (nI b))] rfl dX1_canDig_126 rfl (by decide) rfl ?_
                          refine z_goto C 33 dX1_canDig_129 (by decide) ?_
                          refine z_pick [(0, .ref x), (1, .ref y0), (2, .ref (ba tt)), (3, .int (nI (n + 1))), (4, .int (nI b)), (5, .int (nI (s + 1)))] [4, 5, 6, 7, 8, 0] rfl ?_
                          exact ih_li V37 _ _ (s + 1) hut43 hy39 hr42 (fun q hq hl hd => by
                            by_cases c9 : q < (4 * b + s)
                            · exact hli_3 q c9 hl hd
                            · have e9 : q = (4 * b + s) := by omega
                              rw [e9] at hl hd
                              exact hnd hd) (by omega) (by omega)
                        · skip
                          refine z_iconst C (v := (nI 1)) dX1_canDig_124 rfl ?_
                          exact z_zret C hQ true rfl rfl ⟨⟨fun _ => dg_s.mpr ⟨(4 * b + s), hyes, by rw [hgo]; exact hdg.mp c121⟩, fun _ => rfl⟩, _, _, hy39, hr42, hut43⟩ (by omega) (by omega) dX1_canDig_125
                  · skip
                    have hno : (yLeg st rch wt ins (pin' hld) tt) Y0 (4 * b + s) = false := Bool.eq_false_iff.mpr (fun h => hin ⟨by omega, by have h9 := (yLeg_spec h).2.2.1; rw [hq4] at h9; exact h9⟩)
                    refine z_aload_n C 0 rfl dX1_canDig_42 rfl ?_
                    refine z_get C k_Q (hli_0.get (fun q => yd_k hY0 (n := 0) (by decide) _ _ hX q rfl) hX) 2 (by decide) rfl q187 dX1_canDig_43 ?_
                    refine z_iload C 4 rfl dX1_canDig_46 ?_
                    refine z_aaldN C 1 (by decide) ((hB.mv hli_0 (yd_k hY0 (by decide))).1) (by omega) (by omega) (by rw [(hB.mv hli_0 (yd_k hY0 (by decide))).2.1 b (by omega), if_neg hin]) dX1_canDig_48 ?_
                    refine z_astoreQ C (r := none) [(6, .null), (0, .ref x), (1, .ref y0), (2, .ref (ba tt)), (3, .int (nI (n + 1))), (4, .int (nI b)), (5, .int (nI s))] dX1_canDig_49 (by decide) rfl ?_
                    refine z_aloadQ C 0 (r := none) rfl dX1_canDig_51 ?_
                    refine z_ifnull_n C 126 dX1_canDig_53 (by decide) ?_
                    refine z_iincN C 6 1 [(5, .int (nI (s + 1))), (6, .null), (0, .ref x), (1, .ref y0), (2, .ref (ba tt)), (3, .int (nI (n + 1))), (4, .int (nI b))] rfl dX1_canDig_126 rfl (by decide) rfl ?_
                    refine z_goto C 33 dX1_canDig_129 (by decide) ?_
                    refine z_pick [(0, .ref x), (1, .ref y0), (2, .ref (ba tt)), (3, .int (nI (n + 1))), (4, .int (nI b)), (5, .int (nI (s + 1)))] [2, 3, 4, 5, 6, 0] rfl ?_
                    exact ih_li VB _ _ (s + 1) hli_0 hli_1 hli_2 (fun q hq hl hd => by
                      by_cases c9 : q < (4 * b + s)
                      · exact hli_3 q c9 hl hd
                      · have e9 : q = (4 * b + s) := by omega
                        rw [e9] at hl hd
                        rw [hno] at hl; cases hl) (by omega) (by omega)
            exact li _ V1 fb1 fh1 0 hlo_0 hlo_1 hlo_2 hlo_3 (Nat.zero_le _) (Nat.lt_succ_self _)
      exact lo _ V fb0 fh0 0 zUnc.rf hY0 hR0 (fun q hq => absurd hq (by omega)) (Nat.zero_le _) (Nat.lt_succ_self _)
    · skip
      exfalso; omega
