/-! TREE: mending after an insertion, after a deletion -/
set_option maxRecDepth 100000
set_option maxHeartbeats 4000000 in
set_option maxRecDepth 100000 in
theorem mJ4_fixAfterInsertion {l : Launch} {D : ZD} {V : ZV} {t : Nat} {L : List Nat} {rt : Option Nat} {lf rg pa : Nat → Option Nat} {cl : Nat → Bool} {ky vl : Nat → Nat} {sz : Nat} {mc : Int32} (hW : tW V t L rt lf rg pa cl ky vl sz mc) {ps lo hi : Nat → Nat} (hI : tI L rt lf rg pa ps lo hi) {x : Nat} (hx : x ∈ L) : ZM l D yJ4_fixAfterInsertion (ws_ yJ4_fixAfterInsertion cJ4_fixAfterInsertion 3 none) 2 0 0 eU V [.ref t, .ref x] (fun r V' => tF V V' t L ky vl sz mc ps) zno_x := by
  refine z_enter (by decide +kernel) [(0, .ref t), (1, .ref x)] rfl (Nat.le_of_ble_eq_true rfl) (zcat_cons rfl (zcat_cons rfl zcat_nil)) (fun Γ C hQ => ?_)
  have hU0 : zUnc V V (tC t L) := zUnc.rf
  refine z_aload_n C 1 rfl dJ4_fixAfterInsertion_0 rfl ?_
  refine z_iconst C (v := (nI 0)) dJ4_fixAfterInsertion_1 rfl ?_
  refine z_st (st' := [.int (zb false), .ref x]) rfl ?_
  refine z_put C k_E (hW.2 x hx) 5 (by decide) [.ref (ky x), .ref (vl x), va_rf (lf x), va_rf (rg x), va_rf (pa x), .int (zb false)] rfl (Nat.le_of_ble_eq_true rfl) (zb_nar _) (zb_fit _) rfl q1041 dJ4_fixAfterInsertion_2 (z_nV (fun V1 hV2 => ?_))
  have hW3 := tW.ucl hW hx false hV2
  have hU4 := zUnc.up (S := tC t L) hU0 hV2 (Or.inr hx)
  have hexit : ∀ (V1 : ZV) (rt1 : Option Nat) (lf1 rg1 pa1 : Nat → Option Nat) (cl1 : Nat → Bool) (lo1 hi1 : Nat → Nat) (x1 : Nat), tW V1 t L rt1 lf1 rg1 pa1 cl1 ky vl sz mc → tI L rt1 lf1 rg1 pa1 ps lo1 hi1 → zUnc V V1 (tC t L) → x1 ∈ L → (rt1 = some x1 ∨ ∃ p, pa1 x1 = some p ∧ cl1 p = true) → ZW l D Γ (zr 2 0 0) 5 [(0, .ref t), (1, .ref x1)] [] V1 0 0 := by
    intro V1 rt1 lf1 rg1 pa1 cl1 lo1 hi1 x1 hhexit_0 hhexit_1 hhexit_2 hhexit_3 hhexit_4
    refine z_aload_n C 1 rfl dJ4_fixAfterInsertion_5 rfl ?_
    refine z_ifnull_r C dJ4_fixAfterInsertion_6 ?_
    refine z_aload_n C 1 rfl dJ4_fixAfterInsertion_9 rfl ?_
    refine z_aload_n C 0 rfl dJ4_fixAfterInsertion_10 rfl ?_
    refine z_get C k_TM hhexit_0.1 3 (by decide) rfl q162 dJ4_fixAfterInsertion_11 ?_
    refine z_acmp_eq C (some x1) rt1 258 dJ4_fixAfterInsertion_14 (by decide) (fun c14 => ?_) (fun c14 => ?_)
    · skip
      have k5 : rt1 = (some x1) := Eq.symm c14
      refine z_aload_n C 0 rfl dJ4_fixAfterInsertion_258 rfl ?_
      refine z_get C k_TM hhexit_0.1 3 (by decide) rfl q162 dJ4_fixAfterInsertion_259 ?_
      refine z_top (v := .ref x1) (congrArg va_rf (show rt1 = (some x1) from k5)) ?_
      refine z_iconst C (v := (nI 1)) dJ4_fixAfterInsertion_262 rfl ?_
      refine z_st (st' := [.int (zb true), .ref x1]) rfl ?_
      refine z_put C k_E (hhexit_0.2 x1 hhexit_3) 5 (by decide) [.ref (ky x1), .ref (vl x1), va_rf (lf1 x1), va_rf (rg1 x1), va_rf (pa1 x1), .int (zb true)] rfl (Nat.le_of_ble_eq_true rfl) (zb_nar _) (zb_fit _) rfl q1041 dJ4_fixAfterInsertion_263 (z_nV (fun V6 hV7 => ?_))
      have hW8 := tW.ucl hhexit_0 hhexit_3 true hV7
      have hU9 := zUnc.up (S := tC t L) hhexit_2 hV7 (Or.inr hhexit_3)
      exact z_vret C hQ () rfl ⟨_, _, _, _, _, _, _, hW8, hhexit_1, hU9⟩ (by decide) (by decide) dJ4_fixAfterInsertion_266
    · skip
      have k10 : ¬ rt1 = (some x1) := fun z => c14 (Eq.symm z)
      obtain ⟨p, hpx, hcp⟩ := hhexit_4.resolve_left k10
      obtain ⟨hm11, -, nx13, -⟩ := hhexit_1.mp hhexit_3 hpx
      refine z_aload_n C 1 rfl dJ4_fixAfterInsertion_17 rfl ?_
      refine z_get C k_E (hhexit_0.2 x1 hhexit_3) 4 (by decide) rfl q1039 dJ4_fixAfterInsertion_18 ?_
      refine z_top (v := .ref p) (congrArg va_rf (show (pa1 x1) = (some p) from (by rw [hpx]))) ?_
      refine z_get C k_E (hhexit_0.2 p hm11) 5 (by decide) rfl q1041 dJ4_fixAfterInsertion_21 ?_
      refine z_top (v := .int (zb true)) (congrArg (fun c => Value.int (zb c)) (show (cl1 p) = true from (by rw [hcp]))) ?_
      refine z_if_neB C 258 dJ4_fixAfterInsertion_24 (by decide) (fun c24 => ?_) (fun c24 => ?_)
      · skip
        have k14 : true = true := c24
        obtain ⟨r015, hr16⟩ := hhexit_1.rtm hhexit_3
        obtain ⟨hm17, hp18, -, -⟩ := hhexit_1.2.1.1 r015 hr16
        refine z_aload_n C 0 rfl dJ4_fixAfterInsertion_258 rfl ?_
        refine z_get C k_TM hhexit_0.1 3 (by decide) rfl q162 dJ4_fixAfterInsertion_259 ?_
        refine z_top (v := .ref r015) (congrArg va_rf (show rt1 = (some r015) from hr16)) ?_
        refine z_iconst C (v := (nI 1)) dJ4_fixAfterInsertion_262 rfl ?_
        refine z_st (st' := [.int (zb true), .ref r015]) rfl ?_
        refine z_put C k_E (hhexit_0.2 r015 hm17) 5 (by decide) [.ref (ky r015), .ref (vl r015), va_rf (lf1 r015), va_rf (rg1 r015), va_rf (pa1 r015), .int (zb true)] rfl (Nat.le_of_ble_eq_true rfl) (zb_nar _) (zb_fit _) rfl q1041 dJ4_fixAfterInsertion_263 (z_nV (fun V19 hV20 => ?_))
        have hW21 := tW.ucl hhexit_0 hm17 true hV20
        have hU22 := zUnc.up (S := tC t L) hhexit_2 hV20 (Or.inr hm17)
        exact z_vret C hQ () rfl ⟨_, _, _, _, _, _, _, hW21, hhexit_1, hU22⟩ (by decide) (by decide) dJ4_fixAfterInsertion_266
      · skip
        have k23 : true = false := c24
        cases k23
  have lp : ∀ (n_lp : Nat) (V1 : ZV) (rt1 : Option Nat) (lf1 rg1 pa1 : Nat → Option Nat) (cl1 : Nat → Bool) (lo1 hi1 : Nat → Nat) (x1 : Nat), tW V1 t L rt1 lf1 rg1 pa1 cl1 ky vl sz mc → tI L rt1 lf1 rg1 pa1 ps lo1 hi1 → zUnc V V1 (tC t L) → x1 ∈ L → L.length - (hi1 x1 - lo1 x1) < n_lp → ZW l D Γ (zr 2 0 0) 5 [(0, .ref t), (1, .ref x1)] [] V1 0 0 := by
    intro n_lp
    induction n_lp with
    | zero => intro V1 rt1 lf1 rg1 pa1 cl1 lo1 hi1 x1 _ _ _ _ hm; exact absurd hm (Nat.not_lt_zero _)
    | succ n_lp ih_lp =>
      intro V1 rt1 lf1 rg1 pa1 cl1 lo1 hi1 x1 hlp_0 hlp_1 hlp_2 hlp_3 hm
      refine z_aload_n C 1 rfl dJ4_fixAfterInsertion_5 rfl ?_
      refine z_ifnull_r C dJ4_fixAfterInsertion_6 ?_
      refine z_aload_n C 1 rfl dJ4_fixAfterInsertion_9 rfl ?_
      refine z_aload_n C 0 rfl dJ4_fixAfterInsertion_10 rfl ?_
      refine z_get C k_TM hlp_0.1 3 (by decide) rfl q162 dJ4_fixAfterInsertion_11 ?_
      refine z_acmp_eq C (some x1) rt1 258 dJ4_fixAfterInsertion_14 (by decide) (fun c14 => ?_) (fun c14 => ?_)
      · skip
        have k24 : rt1 = (some x1) := Eq.symm c14
        refine z_aload_n C 0 rfl dJ4_fixAfterInsertion_258 rfl ?_
        refine z_get C k_TM hlp_0.1 3 (by decide) rfl q162 dJ4_fixAfterInsertion_259 ?_
        refine z_top (v := .ref x1) (congrArg va_rf (show rt1 = (some x1) from k24)) ?_
        refine z_iconst C (v := (nI 1)) dJ4_fixAfterInsertion_262 rfl ?_
        refine z_st (st' := [.int (zb true), .ref x1]) rfl ?_
        refine z_put C k_E (hlp_0.2 x1 hlp_3) 5 (by decide) [.ref (ky x1), .ref (vl x1), va_rf (lf1 x1), va_rf (rg1 x1), va_rf (pa1 x1), .int (zb true)] rfl (Nat.le_of_ble_eq_true rfl) (zb_nar _) (zb_fit _) rfl q1041 dJ4_fixAfterInsertion_263 (z_nV (fun V25 hV26 => ?_))
        have hW27 := tW.ucl hlp_0 hlp_3 true hV26
        have hU28 := zUnc.up (S := tC t L) hlp_2 hV26 (Or.inr hlp_3)
        exact z_vret C hQ () rfl ⟨_, _, _, _, _, _, _, hW27, hlp_1, hU28⟩ (by decide) (by decide) dJ4_fixAfterInsertion_266
      · skip
        have k29 : ¬ rt1 = (some x1) := fun z => c14 (Eq.symm z)
        obtain ⟨p, hp⟩ := hlp_1.up hlp_3 k29
        obtain ⟨hm30, -, nx32, -⟩ := hlp_1.mp hlp_3 hp
        refine z_aload_n C 1 rfl dJ4_fixAfterInsertion_17 rfl ?_
        refine z_get C k_E (hlp_0.2 x1 hlp_3) 4 (by decide) rfl q1039 dJ4_fixAfterInsertion_18 ?_
        refine z_top (v := .ref p) (congrArg va_rf (show (pa1 x1) = (some p) from (by rw [hp]))) ?_
        refine z_get C k_E (hlp_0.2 p hm30) 5 (by decide) rfl q1041 dJ4_fixAfterInsertion_21 ?_
        refine z_if_neB C 258 dJ4_fixAfterInsertion_24 (by decide) (fun c24 => ?_) (fun c24 => ?_)
        · skip
          have k33 : (cl1 p) = true := c24
          obtain ⟨r034, hr35⟩ := hlp_1.rtm hlp_3
          obtain ⟨hm36, hp37, -, -⟩ := hlp_1.2.1.1 r034 hr35
          refine z_aload_n C 0 rfl dJ4_fixAfterInsertion_258 rfl ?_
          refine z_get C k_TM hlp_0.1 3 (by decide) rfl q162 dJ4_fixAfterInsertion_259 ?_
          refine z_top (v := .ref r034) (congrArg va_rf (show rt1 = (some r034) from hr35)) ?_
          refine z_iconst C (v := (nI 1)) dJ4_fixAfterInsertion_262 rfl ?_
          refine z_st (st' := [.int (zb true), .ref r034]) rfl ?_
          refine z_put C k_E (hlp_0.2 r034 hm36) 5 (by decide) [.ref (ky r034), .ref (vl r034), va_rf (lf1 r034), va_rf (rg1 r034), va_rf (pa1 r034), .int (zb true)] rfl (Nat.le_of_ble_eq_true rfl) (zb_nar _) (zb_fit _) rfl q1041 dJ4_fixAfterInsertion_263 (z_nV (fun V38 hV39 => ?_))
          have hW40 := tW.ucl hlp_0 hm36 true hV39
          have hU41 := zUnc.up (S := tC t L) hlp_2 hV39 (Or.inr hm36)
          exact z_vret C hQ () rfl ⟨_, _, _, _, _, _, _, hW40, hlp_1, hU41⟩ (by decide) (by decide) dJ4_fixAfterInsertion_266
        · skip
          have k42 : (cl1 p) = false := c24
          refine z_aload_n C 1 rfl dJ4_fixAfterInsertion_27 rfl ?_
          refine z_callS C (As := [.ref x1]) (mJ4_parentOf (o := (some x1)) hlp_0 (oM hlp_3)) (lw_S q706 q707 q64 q708) hd_J4_parentOf rfl (Nat.le_of_ble_eq_true rfl) (by decide) (by decide) (by decide) (by decide) rfl dJ4_fixAfterInsertion_28 (fun _ _ h => h.elim) (fun r43 V44 hP45 => ?_)
          rw [hP45.1, hP45.2]
          refine z_st (st' := [va_rf (pa1 x1)]) rfl ?_
          refine z_top (v := .ref p) (congrArg va_rf (show (pa1 x1) = (some p) from (by rw [hp]))) ?_
          refine z_aload_n C 1 rfl dJ4_fixAfterInsertion_31 rfl ?_
          refine z_callS C (As := [.ref x1]) (mJ4_parentOf (o := (some x1)) hlp_0 (oM hlp_3)) (lw_S q706 q707 q64 q708) hd_J4_parentOf rfl (Nat.le_of_ble_eq_true rfl) (by decide) (by decide) (by decide) (by decide) rfl dJ4_fixAfterInsertion_32 (fun _ _ h => h.elim) (fun r46 V47 hP48 => ?_)
          rw [hP48.1, hP48.2]
          refine z_st (st' := [va_rf (pa1 x1), .ref p]) rfl ?_
          refine z_top (v := .ref p) (congrArg va_rf (show (pa1 x1) = (some p) from (by rw [hp]))) ?_
          refine z_callS C (As := [.ref p]) (mJ4_parentOf (o := (some p)) hlp_0 (oM hm30)) (lw_S q706 q707 q64 q708) hd_J4_parentOf rfl (Nat.le_of_ble_eq_true rfl) (by decide) (by decide) (by decide) (by decide) rfl dJ4_fixAfterInsertion_35 (fun _ _ h => h.elim) (fun r49 V50 hP51 => ?_)
          rw [hP51.1, hP51.2]
          refine z_st (st' := [va_rf (pa1 p), .ref p]) rfl ?_
          rcases hy53 : pa1 p with _ | y52
          · skip
            refine z_callS C (As := [.null]) (mJ4_leftOf (o := none) hlp_0 oN) (lw_S q709 q710 q64 q711) hd_J4_leftOf rfl (Nat.le_of_ble_eq_true rfl) (by decide) (by decide) (by decide) (by decide) rfl dJ4_fixAfterInsertion_38 (fun _ _ h => h.elim) (fun r54 V55 hP56 => ?_)
            rw [hP56.1, hP56.2]
            refine z_st (st' := [.null, .ref p]) rfl ?_
            refine z_acmp_ne C (some p) none 151 dJ4_fixAfterInsertion_41 (by decide) (fun c41 => ?_) (fun c41 => ?_)
            · skip
              refine z_aload_n C 1 rfl dJ4_fixAfterInsertion_151 rfl ?_
              refine z_callS C (As := [.ref x1]) (mJ4_parentOf (o := (some x1)) hlp_0 (oM hlp_3)) (lw_S q706 q707 q64 q708) hd_J4_parentOf rfl (Nat.le_of_ble_eq_true rfl) (by decide) (by decide) (by decide) (by decide) rfl dJ4_fixAfterInsertion_152 (fun _ _ h => h.elim) (fun r57 V58 hP59 => ?_)
              rw [hP59.1, hP59.2]
              refine z_st (st' := [va_rf (pa1 x1)]) rfl ?_
              refine z_top (v := .ref p) (congrArg va_rf (show (pa1 x1) = (some p) from (by rw [hp]))) ?_
              refine z_callS C (As := [.ref p]) (mJ4_parentOf (o := (some p)) hlp_0 (oM hm30)) (lw_S q706 q707 q64 q708) hd_J4_parentOf rfl (Nat.le_of_ble_eq_true rfl) (by decide) (by decide) (by decide) (by decide) rfl dJ4_fixAfterInsertion_155 (fun _ _ h => h.elim) (fun r60 V61 hP62 => ?_)
              rw [hP62.1, hP62.2]
              refine z_st (st' := [va_rf (pa1 p)]) rfl ?_
              refine z_top (v := .null) (congrArg va_rf (show (pa1 p) = none from (by rw [hy53]))) ?_
              refine z_callS C (As := [.null]) (mJ4_leftOf (o := none) hlp_0 oN) (lw_S q709 q710 q64 q711) hd_J4_leftOf rfl (Nat.le_of_ble_eq_true rfl) (by decide) (by decide) (by decide) (by decide) rfl dJ4_fixAfterInsertion_158 (fun _ _ h => h.elim) (fun r63 V64 hP65 => ?_)
              rw [hP65.1, hP65.2]
              refine z_st (st' := [.null]) rfl ?_
              refine z_astore_nQ C (r := none) [(2, .null), (0, .ref t), (1, .ref x1)] dJ4_fixAfterInsertion_161 rfl (by decide) rfl ?_
              refine z_aload_nQ C 0 (r := none) rfl dJ4_fixAfterInsertion_162 rfl ?_
              refine z_callS C (As := [.null]) (mJ4_colorOf (o := none) hlp_0 oN) (lw_S q703 q704 q64 q705) hd_J4_colorOf rfl (Nat.le_of_ble_eq_true rfl) (by decide) (by decide) (by decide) (by decide) rfl dJ4_fixAfterInsertion_163 (fun _ _ h => h.elim) (fun r66 V67 hP68 => ?_)
              rw [hP68.1, hP68.2]
              refine z_st (st' := [.int (zb true)]) rfl ?_
              refine z_if_neB C 204 dJ4_fixAfterInsertion_166 (by decide) (fun c166 => ?_) (fun c166 => ?_)
              · skip
                have k69 : true = true := c166
                refine z_aload_n C 2 rfl dJ4_fixAfterInsertion_204 rfl ?_
                refine z_aload_n C 2 rfl dJ4_fixAfterInsertion_205 rfl ?_
                refine z_callS C (As := [.ref x1]) (mJ4_parentOf (o := (some x1)) hlp_0 (oM hlp_3)) (lw_S q706 q707 q64 q708) hd_J4_parentOf rfl (Nat.le_of_ble_eq_true rfl) (by decide) (by decide) (by decide) (by decide) rfl dJ4_fixAfterInsertion_206 (fun _ _ h => h.elim) (fun r70 V71 hP72 => ?_)
                rw [hP72.1, hP72.2]
                refine z_st (st' := [va_rf (pa1 x1), .ref x1]) rfl ?_
                refine z_top (v := .ref p) (congrArg va_rf (show (pa1 x1) = (some p) from (by rw [hp]))) ?_
                refine z_callS C (As := [.ref p]) (mJ4_leftOf (o := (some p)) hlp_0 (oM hm30)) (lw_S q709 q710 q64 q711) hd_J4_leftOf rfl (Nat.le_of_ble_eq_true rfl) (by decide) (by decide) (by decide) (by decide) rfl dJ4_fixAfterInsertion_209 (fun _ _ h => h.elim) (fun r73 V74 hP75 => ?_)
                rw [hP75.1, hP75.2]
                refine z_st (st' := [va_rf (lf1 p), .ref x1]) rfl ?_
                refine z_acmp_ne C (some x1) (lf1 p) 225 dJ4_fixAfterInsertion_212 (by decide) (fun c212 => ?_) (fun c212 => ?_)
                · skip
                  have k76 : ¬ lf1 p = (some x1) := fun z => c212 (Eq.symm z)
                  have k77 := hlp_1.sdR hlp_3 hp k76
                  obtain ⟨hm78, hp79, nx80⟩ := hlp_1.mr hm30 k77
                  refine z_aload_n C 2 rfl dJ4_fixAfterInsertion_225 rfl ?_
                  refine z_callS C (As := [.ref x1]) (mJ4_parentOf (o := (some x1)) hlp_0 (oM hlp_3)) (lw_S q706 q707 q64 q708) hd_J4_parentOf rfl (Nat.le_of_ble_eq_true rfl) (by decide) (by decide) (by decide) (by decide) rfl dJ4_fixAfterInsertion_226 (fun _ _ h => h.elim) (fun r81 V82 hP83 => ?_)
                  rw [hP83.1, hP83.2]
                  refine z_st (st' := [va_rf (pa1 x1)]) rfl ?_
                  refine z_top (v := .ref p) (congrArg va_rf (show (pa1 x1) = (some p) from (by rw [hp]))) ?_
                  refine z_iconst C (v := (nI 1)) dJ4_fixAfterInsertion_229 rfl ?_
                  refine z_st (st' := [.int (zb true), .ref p]) rfl ?_
                  refine z_callS C (As := [.ref p, .int (zb true)]) (mJ4_setColor (o := (some p)) (c := true) hlp_0 (oM hm30)) (lw_S q715 q716 q64 q717) hd_J4_setColor rfl (Nat.le_of_ble_eq_true rfl) (by decide) (by decide) (by decide) (by decide) rfl dJ4_fixAfterInsertion_230 (fun _ _ h => h.elim) (fun r84 V85 hP86 => ?_)
                  obtain ⟨hW87, hU88⟩ := hP86
                  refine z_st (st' := []) rfl ?_
                  have hU89 := zUnc.tr (S := tC t L) hlp_2 hU88 (fun _ h => Or.inl h)
                  change tW _ _ _ _ _ _ _ (va_up cl1 p true) _ _ _ _ at hW87
                  obtain ⟨cl91, ec90⟩ : ∃ q, q = va_up cl1 p true := ⟨_, rfl⟩
                  rw [← ec90] at hW87
                  have k92 : cl91 p = true := by rw [ec90, zvs]
                  refine z_aload_n C 2 rfl dJ4_fixAfterInsertion_233 rfl ?_
                  refine z_callS C (As := [.ref x1]) (mJ4_parentOf (o := (some x1)) hW87 (oM hlp_3)) (lw_S q706 q707 q64 q708) hd_J4_parentOf rfl (Nat.le_of_ble_eq_true rfl) (by decide) (by decide) (by decide) (by decide) rfl dJ4_fixAfterInsertion_234 (fun _ _ h => h.elim) (fun r93 V94 hP95 => ?_)
                  rw [hP95.1, hP95.2]
                  refine z_st (st' := [va_rf (pa1 x1)]) rfl ?_
                  refine z_top (v := .ref p) (congrArg va_rf (show (pa1 x1) = (some p) from (by rw [hp]))) ?_
                  refine z_callS C (As := [.ref p]) (mJ4_parentOf (o := (some p)) hW87 (oM hm30)) (lw_S q706 q707 q64 q708) hd_J4_parentOf rfl (Nat.le_of_ble_eq_true rfl) (by decide) (by decide) (by decide) (by decide) rfl dJ4_fixAfterInsertion_237 (fun _ _ h => h.elim) (fun r96 V97 hP98 => ?_)
                  rw [hP98.1, hP98.2]
                  refine z_st (st' := [va_rf (pa1 p)]) rfl ?_
                  refine z_top (v := .null) (congrArg va_rf (show (pa1 p) = none from (by rw [hy53]))) ?_
                  refine z_iconst C (v := (nI 0)) dJ4_fixAfterInsertion_240 rfl ?_
                  refine z_st (st' := [.int (zb false), .null]) rfl ?_
                  refine z_callS C (As := [.null, .int (zb false)]) (mJ4_setColor (o := none) (c := false) hW87 oN) (lw_S q715 q716 q64 q717) hd_J4_setColor rfl (Nat.le_of_ble_eq_true rfl) (by decide) (by decide) (by decide) (by decide) rfl dJ4_fixAfterInsertion_241 (fun _ _ h => h.elim) (fun r99 V100 hP101 => ?_)
                  obtain ⟨hW102, hU103⟩ := hP101
                  refine z_st (st' := []) rfl ?_
                  have hU104 := zUnc.tr (S := tC t L) hU89 hU103 (fun _ h => Or.inl h)
                  change tW _ _ _ _ _ _ _ cl91 _ _ _ _ at hW102
                  refine z_aload_n C 1 rfl dJ4_fixAfterInsertion_244 rfl ?_
                  refine z_aload_n C 2 rfl dJ4_fixAfterInsertion_245 rfl ?_
                  refine z_callS C (As := [.ref x1]) (mJ4_parentOf (o := (some x1)) hW102 (oM hlp_3)) (lw_S q706 q707 q64 q708) hd_J4_parentOf rfl (Nat.le_of_ble_eq_true rfl) (by decide) (by decide) (by decide) (by decide) rfl dJ4_fixAfterInsertion_246 (fun _ _ h => h.elim) (fun r105 V106 hP107 => ?_)
                  rw [hP107.1, hP107.2]
                  refine z_st (st' := [va_rf (pa1 x1), .ref t]) rfl ?_
                  refine z_top (v := .ref p) (congrArg va_rf (show (pa1 x1) = (some p) from (by rw [hp]))) ?_
                  refine z_callS C (As := [.ref p]) (mJ4_parentOf (o := (some p)) hW102 (oM hm30)) (lw_S q706 q707 q64 q708) hd_J4_parentOf rfl (Nat.le_of_ble_eq_true rfl) (by decide) (by decide) (by decide) (by decide) rfl dJ4_fixAfterInsertion_249 (fun _ _ h => h.elim) (fun r108 V109 hP110 => ?_)
                  rw [hP110.1, hP110.2]
                  refine z_st (st' := [va_rf (pa1 p), .ref t]) rfl ?_
                  refine z_top (v := .null) (congrArg va_rf (show (pa1 p) = none from (by rw [hy53]))) ?_
                  refine z_callV C k_TM hW102.1 (As := [.null]) (mJ4_rotateLeft_n hW102) (lw_V q718 q720 qs8 q64 q721) rfl hd_J4_rotateLeft rfl (Nat.le_of_ble_eq_true rfl) (by decide) (by decide) (by decide) (by decide) rfl dJ4_fixAfterInsertion_252 (fun _ _ h => h.elim) (fun r111 V112 hP113 => ?_)
                  rw [hP113]
                  refine z_st (st' := []) rfl ?_
                  refine z_goto C 5 dJ4_fixAfterInsertion_255 (by decide) ?_
                  refine z_pick [(0, .ref t), (1, .ref x1)] [1, 2] rfl ?_
                  exact hexit V100 rt1 lf1 rg1 pa1 cl91 lo1 hi1 x1 hW102 hlp_1 hU104 hlp_3 (Or.inr ⟨p, hp, k92⟩)
                · skip
                  have k114 : lf1 p = (some x1) := Eq.symm c212
                  obtain ⟨hm115, hp116, nx117⟩ := hlp_1.ml hm30 k114
                  refine z_aload_n C 2 rfl dJ4_fixAfterInsertion_215 rfl ?_
                  refine z_callS C (As := [.ref x1]) (mJ4_parentOf (o := (some x1)) hlp_0 (oM hlp_3)) (lw_S q706 q707 q64 q708) hd_J4_parentOf rfl (Nat.le_of_ble_eq_true rfl) (by decide) (by decide) (by decide) (by decide) rfl dJ4_fixAfterInsertion_216 (fun _ _ h => h.elim) (fun r118 V119 hP120 => ?_)
                  rw [hP120.1, hP120.2]
                  refine z_st (st' := [va_rf (pa1 x1)]) rfl ?_
                  refine z_top (v := .ref p) (congrArg va_rf (show (pa1 x1) = (some p) from (by rw [hp]))) ?_
                  refine z_astore_n C [(1, .ref p), (2, .null), (0, .ref t)] dJ4_fixAfterInsertion_219 rfl (by decide) rfl ?_
                  refine z_aload_n C 2 rfl dJ4_fixAfterInsertion_220 rfl ?_
                  refine z_aload_n C 0 rfl dJ4_fixAfterInsertion_221 rfl ?_
                  refine z_callV C k_TM hlp_0.1 (As := [.ref p]) (mJ4_rotateRight hlp_0 hlp_1 hm30 k114) (lw_V q722 q724 qs9 q64 q725) rfl hd_J4_rotateRight rfl (Nat.le_of_ble_eq_true rfl) (by decide) (by decide) (by decide) (by decide) rfl dJ4_fixAfterInsertion_222 (fun _ _ h => h.elim) (fun r121 V122 hP123 => ?_)
                  obtain ⟨hW124, hU125⟩ := hP123
                  refine z_st (st' := []) rfl ?_
                  have hU126 := zUnc.tr (S := tC t L) hlp_2 hU125 (fun _ h => Or.inl h)
                  have hI127 := tI_rotR hlp_1 hm30 k114
                  obtain ⟨lf134, eB129⟩ : ∃ q, q = xR rg1 lf1 p x1 := ⟨_, rfl⟩
                  rw [← eB129] at hW124 hI127
                  obtain ⟨pa135, eP130⟩ : ∃ q, q = xP rg1 pa1 p x1 := ⟨_, rfl⟩
                  rw [← eP130] at hW124 hI127
                  obtain ⟨rg136, eA128⟩ : ∃ q, q = xL rg1 p x1 := ⟨_, rfl⟩
                  rw [← eA128] at hW124 hI127
                  obtain ⟨rt137, eT131⟩ : ∃ q, q = xT rt1 p x1 := ⟨_, rfl⟩
                  rw [← eT131] at hW124 hI127
                  obtain ⟨lo138, elo132⟩ : ∃ q, q = va_up lo1 p (ps x1 + 1) := ⟨_, rfl⟩
                  rw [← elo132] at hI127
                  obtain ⟨hi139, ehi133⟩ : ∃ q, q = va_up hi1 x1 (hi1 p) := ⟨_, rfl⟩
                  rw [← ehi133] at hI127
                  have k140 : rg136 x1 = (some p) := by rw [eA128]; exact xL_r
                  have k141 : pa135 p = (some x1) := by rw [eP130]; exact xP_p
                  have k142 : pa135 x1 = none := by rw [eP130, xP_r nx117]; exact hy53
                  refine z_aload_n C 0 rfl dJ4_fixAfterInsertion_225 rfl ?_
                  refine z_callS C (As := [.ref p]) (mJ4_parentOf (o := (some p)) hW124 (oM hm30)) (lw_S q706 q707 q64 q708) hd_J4_parentOf rfl (Nat.le_of_ble_eq_true rfl) (by decide) (by decide) (by decide) (by decide) rfl dJ4_fixAfterInsertion_226 (fun _ _ h => h.elim) (fun r143 V144 hP145 => ?_)
                  rw [hP145.1, hP145.2]
                  refine z_st (st' := [va_rf (pa135 p)]) rfl ?_
                  refine z_top (v := .ref x1) (congrArg va_rf (show (pa135 p) = (some x1) from (by rw [k141]))) ?_
                  refine z_iconst C (v := (nI 1)) dJ4_fixAfterInsertion_229 rfl ?_
                  refine z_st (st' := [.int (zb true), .ref x1]) rfl ?_
                  refine z_callS C (As := [.ref x1, .int (zb true)]) (mJ4_setColor (o := (some x1)) (c := true) hW124 (oM hlp_3)) (lw_S q715 q716 q64 q717) hd_J4_setColor rfl (Nat.le_of_ble_eq_true rfl) (by decide) (by decide) (by decide) (by decide) rfl dJ4_fixAfterInsertion_230 (fun _ _ h => h.elim) (fun r146 V147 hP148 => ?_)
                  obtain ⟨hW149, hU150⟩ := hP148
                  refine z_st (st' := []) rfl ?_
                  have hU151 := zUnc.tr (S := tC t L) hU126 hU150 (fun _ h => Or.inl h)
                  change tW _ _ _ _ _ _ _ (va_up cl1 x1 true) _ _ _ _ at hW149
                  obtain ⟨cl153, ec152⟩ : ∃ q, q = va_up cl1 x1 true := ⟨_, rfl⟩
                  rw [← ec152] at hW149
                  have k154 : cl153 x1 = true := by rw [ec152, zvs]
                  have k155 : cl153 p = false := by rw [ec152, zvn nx32]; exact k42
                  refine z_aload_n C 0 rfl dJ4_fixAfterInsertion_233 rfl ?_
                  refine z_callS C (As := [.ref p]) (mJ4_parentOf (o := (some p)) hW149 (oM hm30)) (lw_S q706 q707 q64 q708) hd_J4_parentOf rfl (Nat.le_of_ble_eq_true rfl) (by decide) (by decide) (by decide) (by decide) rfl dJ4_fixAfterInsertion_234 (fun _ _ h => h.elim) (fun r156 V157 hP158 => ?_)
                  rw [hP158.1, hP158.2]
                  refine z_st (st' := [va_rf (pa135 p)]) rfl ?_
                  refine z_top (v := .ref x1) (congrArg va_rf (show (pa135 p) = (some x1) from (by rw [k141]))) ?_
                  refine z_callS C (As := [.ref x1]) (mJ4_parentOf (o := (some x1)) hW149 (oM hlp_3)) (lw_S q706 q707 q64 q708) hd_J4_parentOf rfl (Nat.le_of_ble_eq_true rfl) (by decide) (by decide) (by decide) (by decide) rfl dJ4_fixAfterInsertion_237 (fun _ _ h => h.elim) (fun r159 V160 hP161 => ?_)
                  rw [hP161.1, hP161.2]
                  refine z_st (st' := [va_rf (pa135 x1)]) rfl ?_
                  refine z_top (v := .null) (congrArg va_rf (show (pa135 x1) = none from (by rw [k142]))) ?_
                  refine z_iconst C (v := (nI 0)) dJ4_fixAfterInsertion_240 rfl ?_
                  refine z_st (st' := [.int (zb false), .null]) rfl ?_
                  refine z_callS C (As := [.null, .int (zb false)]) (mJ4_setColor (o := none) (c := false) hW149 oN) (lw_S q715 q716 q64 q717) hd_J4_setColor rfl (Nat.le_of_ble_eq_true rfl) (by decide) (by decide) (by decide) (by decide) rfl dJ4_fixAfterInsertion_241 (fun _ _ h => h.elim) (fun r162 V163 hP164 => ?_)
                  obtain ⟨hW165, hU166⟩ := hP164
                  refine z_st (st' := []) rfl ?_
                  have hU167 := zUnc.tr (S := tC t L) hU151 hU166 (fun _ h => Or.inl h)
                  change tW _ _ _ _ _ _ _ cl153 _ _ _ _ at hW165
                  refine z_aload_n C 2 rfl dJ4_fixAfterInsertion_244 rfl ?_
                  refine z_aload_n C 0 rfl dJ4_fixAfterInsertion_245 rfl ?_
                  refine z_callS C (As := [.ref p]) (mJ4_parentOf (o := (some p)) hW165 (oM hm30)) (lw_S q706 q707 q64 q708) hd_J4_parentOf rfl (Nat.le_of_ble_eq_true rfl) (by decide) (by decide) (by decide) (by decide) rfl dJ4_fixAfterInsertion_246 (fun _ _ h => h.elim) (fun r168 V169 hP170 => ?_)
                  rw [hP170.1, hP170.2]
                  refine z_st (st' := [va_rf (pa135 p), .ref t]) rfl ?_
                  refine z_top (v := .ref x1) (congrArg va_rf (show (pa135 p) = (some x1) from (by rw [k141]))) ?_
                  refine z_callS C (As := [.ref x1]) (mJ4_parentOf (o := (some x1)) hW165 (oM hlp_3)) (lw_S q706 q707 q64 q708) hd_J4_parentOf rfl (Nat.le_of_ble_eq_true rfl) (by decide) (by decide) (by decide) (by decide) rfl dJ4_fixAfterInsertion_249 (fun _ _ h => h.elim) (fun r171 V172 hP173 => ?_)
                  rw [hP173.1, hP173.2]
                  refine z_st (st' := [va_rf (pa135 x1), .ref t]) rfl ?_
                  refine z_top (v := .null) (congrArg va_rf (show (pa135 x1) = none from (by rw [k142]))) ?_
                  refine z_callV C k_TM hW165.1 (As := [.null]) (mJ4_rotateLeft_n hW165) (lw_V q718 q720 qs8 q64 q721) rfl hd_J4_rotateLeft rfl (Nat.le_of_ble_eq_true rfl) (by decide) (by decide) (by decide) (by decide) rfl dJ4_fixAfterInsertion_252 (fun _ _ h => h.elim) (fun r174 V175 hP176 => ?_)
                  rw [hP176]
                  refine z_st (st' := []) rfl ?_
                  refine z_goto C 5 dJ4_fixAfterInsertion_255 (by decide) ?_
                  refine z_pick [(0, .ref t), (1, .ref p)] [2, 0] rfl ?_
                  exact hexit V163 rt137 lf134 rg136 pa135 cl153 lo138 hi139 p hW165 hI127 hU167 hm30 (Or.inr ⟨x1, k141, k154⟩)
              · skip
                have k177 : true = false := c166
                cases k177
            · skip
              cases c41
          · skip
            obtain ⟨hm178, -, nx180, -⟩ := hlp_1.mp hm30 hy53
            refine z_callS C (As := [.ref y52]) (mJ4_leftOf (o := (some y52)) hlp_0 (oM hm178)) (lw_S q709 q710 q64 q711) hd_J4_leftOf rfl (Nat.le_of_ble_eq_true rfl) (by decide) (by decide) (by decide) (by decide) rfl dJ4_fixAfterInsertion_38 (fun _ _ h => h.elim) (fun r181 V182 hP183 => ?_)
            rw [hP183.1, hP183.2]
            refine z_st (st' := [va_rf (lf1 y52), .ref p]) rfl ?_
            refine z_acmp_ne C (some p) (lf1 y52) 151 dJ4_fixAfterInsertion_41 (by decide) (fun c41 => ?_) (fun c41 => ?_)
            · skip
              have k184 : ¬ lf1 y52 = (some p) := fun z => c41 (Eq.symm z)
              have k185 := hlp_1.sdR hm30 hy53 k184
              obtain ⟨hm186, hp187, nx188⟩ := hlp_1.mr hm178 k185
              refine z_aload_n C 1 rfl dJ4_fixAfterInsertion_151 rfl ?_
              refine z_callS C (As := [.ref x1]) (mJ4_parentOf (o := (some x1)) hlp_0 (oM hlp_3)) (lw_S q706 q707 q64 q708) hd_J4_parentOf rfl (Nat.le_of_ble_eq_true rfl) (by decide) (by decide) (by decide) (by decide) rfl dJ4_fixAfterInsertion_152 (fun _ _ h => h.elim) (fun r189 V190 hP191 => ?_)
              rw [hP191.1, hP191.2]
              refine z_st (st' := [va_rf (pa1 x1)]) rfl ?_
              refine z_top (v := .ref p) (congrArg va_rf (show (pa1 x1) = (some p) from (by rw [hp]))) ?_
              refine z_callS C (As := [.ref p]) (mJ4_parentOf (o := (some p)) hlp_0 (oM hm30)) (lw_S q706 q707 q64 q708) hd_J4_parentOf rfl (Nat.le_of_ble_eq_true rfl) (by decide) (by decide) (by decide) (by decide) rfl dJ4_fixAfterInsertion_155 (fun _ _ h => h.elim) (fun r192 V193 hP194 => ?_)
              rw [hP194.1, hP194.2]
              refine z_st (st' := [va_rf (pa1 p)]) rfl ?_
              refine z_top (v := .ref y52) (congrArg va_rf (show (pa1 p) = (some y52) from (by rw [hy53]))) ?_
              refine z_callS C (As := [.ref y52]) (mJ4_leftOf (o := (some y52)) hlp_0 (oM hm178)) (lw_S q709 q710 q64 q711) hd_J4_leftOf rfl (Nat.le_of_ble_eq_true rfl) (by decide) (by decide) (by decide) (by decide) rfl dJ4_fixAfterInsertion_158 (fun _ _ h => h.elim) (fun r195 V196 hP197 => ?_)
              rw [hP197.1, hP197.2]
              refine z_st (st' := [va_rf (lf1 y52)]) rfl ?_
              refine z_astore_nQ C (r := (lf1 y52)) [(2, va_rf (lf1 y52)), (0, .ref t), (1, .ref x1)] dJ4_fixAfterInsertion_161 rfl (by decide) rfl ?_
              refine z_aload_nQ C 0 (r := (lf1 y52)) rfl dJ4_fixAfterInsertion_162 rfl ?_
              rcases hy199 : lf1 y52 with _ | y198
              · skip
                refine z_callS C (As := [.null]) (mJ4_colorOf (o := none) hlp_0 oN) (lw_S q703 q704 q64 q705) hd_J4_colorOf rfl (Nat.le_of_ble_eq_true rfl) (by decide) (by decide) (by decide) (by decide) rfl dJ4_fixAfterInsertion_163 (fun _ _ h => h.elim) (fun r200 V201 hP202 => ?_)
                rw [hP202.1, hP202.2]
                refine z_st (st' := [.int (zb true)]) rfl ?_
                refine z_if_neB C 204 dJ4_fixAfterInsertion_166 (by decide) (fun c166 => ?_) (fun c166 => ?_)
                · skip
                  have k203 : true = true := c166
                  refine z_aload_n C 2 rfl dJ4_fixAfterInsertion_204 rfl ?_
                  refine z_aload_n C 2 rfl dJ4_fixAfterInsertion_205 rfl ?_
                  refine z_callS C (As := [.ref x1]) (mJ4_parentOf (o := (some x1)) hlp_0 (oM hlp_3)) (lw_S q706 q707 q64 q708) hd_J4_parentOf rfl (Nat.le_of_ble_eq_true rfl) (by decide) (by decide) (by decide) (by decide) rfl dJ4_fixAfterInsertion_206 (fun _ _ h => h.elim) (fun r204 V205 hP206 => ?_)
                  rw [hP206.1, hP206.2]
                  refine z_st (st' := [va_rf (pa1 x1), .ref x1]) rfl ?_
                  refine z_top (v := .ref p) (congrArg va_rf (show (pa1 x1) = (some p) from (by rw [hp]))) ?_
                  refine z_callS C (As := [.ref p]) (mJ4_leftOf (o := (some p)) hlp_0 (oM hm30)) (lw_S q709 q710 q64 q711) hd_J4_leftOf rfl (Nat.le_of_ble_eq_true rfl) (by decide) (by decide) (by decide) (by decide) rfl dJ4_fixAfterInsertion_209 (fun _ _ h => h.elim) (fun r207 V208 hP209 => ?_)
                  rw [hP209.1, hP209.2]
                  refine z_st (st' := [va_rf (lf1 p), .ref x1]) rfl ?_
                  refine z_acmp_ne C (some x1) (lf1 p) 225 dJ4_fixAfterInsertion_212 (by decide) (fun c212 => ?_) (fun c212 => ?_)
                  · skip
                    have k210 : ¬ lf1 p = (some x1) := fun z => c212 (Eq.symm z)
                    have k211 := hlp_1.sdR hlp_3 hp k210
                    obtain ⟨hm212, hp213, nx214⟩ := hlp_1.mr hm30 k211
                    refine z_aload_n C 2 rfl dJ4_fixAfterInsertion_225 rfl ?_
                    refine z_callS C (As := [.ref x1]) (mJ4_parentOf (o := (some x1)) hlp_0 (oM hlp_3)) (lw_S q706 q707 q64 q708) hd_J4_parentOf rfl (Nat.le_of_ble_eq_true rfl) (by decide) (by decide) (by decide) (by decide) rfl dJ4_fixAfterInsertion_226 (fun _ _ h => h.elim) (fun r215 V216 hP217 => ?_)
                    rw [hP217.1, hP217.2]
                    refine z_st (st' := [va_rf (pa1 x1)]) rfl ?_
                    refine z_top (v := .ref p) (congrArg va_rf (show (pa1 x1) = (some p) from (by rw [hp]))) ?_
                    refine z_iconst C (v := (nI 1)) dJ4_fixAfterInsertion_229 rfl ?_
                    refine z_st (st' := [.int (zb true), .ref p]) rfl ?_
                    refine z_callS C (As := [.ref p, .int (zb true)]) (mJ4_setColor (o := (some p)) (c := true) hlp_0 (oM hm30)) (lw_S q715 q716 q64 q717) hd_J4_setColor rfl (Nat.le_of_ble_eq_true rfl) (by decide) (by decide) (by decide) (by decide) rfl dJ4_fixAfterInsertion_230 (fun _ _ h => h.elim) (fun r218 V219 hP220 => ?_)
                    obtain ⟨hW221, hU222⟩ := hP220
                    refine z_st (st' := []) rfl ?_
                    have hU223 := zUnc.tr (S := tC t L) hlp_2 hU222 (fun _ h => Or.inl h)
                    change tW _ _ _ _ _ _ _ (va_up cl1 p true) _ _ _ _ at hW221
                    obtain ⟨cl225, ec224⟩ : ∃ q, q = va_up cl1 p true := ⟨_, rfl⟩
                    rw [← ec224] at hW221
                    have k226 : cl225 p = true := by rw [ec224, zvs]
                    refine z_aload_n C 2 rfl dJ4_fixAfterInsertion_233 rfl ?_
                    refine z_callS C (As := [.ref x1]) (mJ4_parentOf (o := (some x1)) hW221 (oM hlp_3)) (lw_S q706 q707 q64 q708) hd_J4_parentOf rfl (Nat.le_of_ble_eq_true rfl) (by decide) (by decide) (by decide) (by decide) rfl dJ4_fixAfterInsertion_234 (fun _ _ h => h.elim) (fun r227 V228 hP229 => ?_)
                    rw [hP229.1, hP229.2]
                    refine z_st (st' := [va_rf (pa1 x1)]) rfl ?_
                    refine z_top (v := .ref p) (congrArg va_rf (show (pa1 x1) = (some p) from (by rw [hp]))) ?_
                    refine z_callS C (As := [.ref p]) (mJ4_parentOf (o := (some p)) hW221 (oM hm30)) (lw_S q706 q707 q64 q708) hd_J4_parentOf rfl (Nat.le_of_ble_eq_true rfl) (by decide) (by decide) (by decide) (by decide) rfl dJ4_fixAfterInsertion_237 (fun _ _ h => h.elim) (fun r230 V231 hP232 => ?_)
                    rw [hP232.1, hP232.2]
                    refine z_st (st' := [va_rf (pa1 p)]) rfl ?_
                    refine z_top (v := .ref y52) (congrArg va_rf (show (pa1 p) = (some y52) from (by rw [hy53]))) ?_
                    refine z_iconst C (v := (nI 0)) dJ4_fixAfterInsertion_240 rfl ?_
                    refine z_st (st' := [.int (zb false), .ref y52]) rfl ?_
                    refine z_callS C (As := [.ref y52, .int (zb false)]) (mJ4_setColor (o := (some y52)) (c := false) hW221 (oM hm178)) (lw_S q715 q716 q64 q717) hd_J4_setColor rfl (Nat.le_of_ble_eq_true rfl) (by decide) (by decide) (by decide) (by decide) rfl dJ4_fixAfterInsertion_241 (fun _ _ h => h.elim) (fun r233 V234 hP235 => ?_)
                    obtain ⟨hW236, hU237⟩ := hP235
                    refine z_st (st' := []) rfl ?_
                    have hU238 := zUnc.tr (S := tC t L) hU223 hU237 (fun _ h => Or.inl h)
                    change tW _ _ _ _ _ _ _ (va_up cl225 y52 false) _ _ _ _ at hW236
                    obtain ⟨cl240, ec239⟩ : ∃ q, q = va_up cl225 y52 false := ⟨_, rfl⟩
                    rw [← ec239] at hW236
                    have k241 : cl240 y52 = false := by rw [ec239, zvs]
                    have k242 : cl240 p = true := by rw [ec239, zvn nx188]; exact k226
                    refine z_aload_n C 1 rfl dJ4_fixAfterInsertion_244 rfl ?_
                    refine z_aload_n C 2 rfl dJ4_fixAfterInsertion_245 rfl ?_
                    refine z_callS C (As := [.ref x1]) (mJ4_parentOf (o := (some x1)) hW236 (oM hlp_3)) (lw_S q706 q707 q64 q708) hd_J4_parentOf rfl (Nat.le_of_ble_eq_true rfl) (by decide) (by decide) (by decide) (by decide) rfl dJ4_fixAfterInsertion_246 (fun _ _ h => h.elim) (fun r243 V244 hP245 => ?_)
                    rw [hP245.1, hP245.2]
                    refine z_st (st' := [va_rf (pa1 x1), .ref t]) rfl ?_
                    refine z_top (v := .ref p) (congrArg va_rf (show (pa1 x1) = (some p) from (by rw [hp]))) ?_
                    refine z_callS C (As := [.ref p]) (mJ4_parentOf (o := (some p)) hW236 (oM hm30)) (lw_S q706 q707 q64 q708) hd_J4_parentOf rfl (Nat.le_of_ble_eq_true rfl) (by decide) (by decide) (by decide) (by decide) rfl dJ4_fixAfterInsertion_249 (fun _ _ h => h.elim) (fun r246 V247 hP248 => ?_)
                    rw [hP248.1, hP248.2]
                    refine z_st (st' := [va_rf (pa1 p), .ref t]) rfl ?_
                    refine z_top (v := .ref y52) (congrArg va_rf (show (pa1 p) = (some y52) from (by rw [hy53]))) ?_
                    refine z_callV C k_TM hW236.1 (As := [.ref y52]) (mJ4_rotateLeft hW236 hlp_1 hm178 k185) (lw_V q718 q720 qs8 q64 q721) rfl hd_J4_rotateLeft rfl (Nat.le_of_ble_eq_true rfl) (by decide) (by decide) (by decide) (by decide) rfl dJ4_fixAfterInsertion_252 (fun _ _ h => h.elim) (fun r249 V250 hP251 => ?_)
                    obtain ⟨hW252, hU253⟩ := hP251
                    refine z_st (st' := []) rfl ?_
                    have hU254 := zUnc.tr (S := tC t L) hU238 hU253 (fun _ h => Or.inl h)
                    have hI255 := tI_rotL hlp_1 hm178 k185
                    obtain ⟨rg262, eB257⟩ : ∃ q, q = xR lf1 rg1 y52 p := ⟨_, rfl⟩
                    rw [← eB257] at hW252 hI255
                    obtain ⟨pa263, eP258⟩ : ∃ q, q = xP lf1 pa1 y52 p := ⟨_, rfl⟩
                    rw [← eP258] at hW252 hI255
                    obtain ⟨lf264, eA256⟩ : ∃ q, q = xL lf1 y52 p := ⟨_, rfl⟩
                    rw [← eA256] at hW252 hI255
                    obtain ⟨rt265, eT259⟩ : ∃ q, q = xT rt1 y52 p := ⟨_, rfl⟩
                    rw [← eT259] at hW252 hI255
                    obtain ⟨lo266, elo260⟩ : ∃ q, q = va_up lo1 p (lo1 y52) := ⟨_, rfl⟩
                    rw [← elo260] at hI255
                    obtain ⟨hi267, ehi261⟩ : ∃ q, q = va_up hi1 y52 (ps p) := ⟨_, rfl⟩
                    rw [← ehi261] at hI255
                    have k268 : lf264 p = (some y52) := by rw [eA256]; exact xL_r
                    have k269 : pa263 y52 = (some p) := by rw [eP258]; exact xP_p
                    have nx270 : x1 ≠ y52 := (tI.gg hlp_1 hlp_3 hp hm30 hy53)
                    have k271 : pa263 x1 = (some p) := by rw [eP258, xP_o nx270 nx214 (hlp_1.rl hm30 k211)]; exact hp
                    have k272 : lf264 y52 = none := by rw [eA256, xL_o nx180 (sn_ne hy199)]; exact hy199
                    have k273 : rg262 p = (some x1) := by rw [eB257, xR_o nx188 (so_ne k211 nx270)]; exact k211
                    refine z_goto C 5 dJ4_fixAfterInsertion_255 (by decide) ?_
                    refine z_pick [(0, .ref t), (1, .ref x1)] [1, 2] rfl ?_
                    exact hexit V250 rt265 lf264 rg262 pa263 cl240 lo266 hi267 x1 hW252 hI255 hU254 hlp_3 (Or.inr ⟨p, k271, k242⟩)
                  · skip
                    have k274 : lf1 p = (some x1) := Eq.symm c212
                    obtain ⟨hm275, hp276, nx277⟩ := hlp_1.ml hm30 k274
                    refine z_aload_n C 2 rfl dJ4_fixAfterInsertion_215 rfl ?_
                    refine z_callS C (As := [.ref x1]) (mJ4_parentOf (o := (some x1)) hlp_0 (oM hlp_3)) (lw_S q706 q707 q64 q708) hd_J4_parentOf rfl (Nat.le_of_ble_eq_true rfl) (by decide) (by decide) (by decide) (by decide) rfl dJ4_fixAfterInsertion_216 (fun _ _ h => h.elim) (fun r278 V279 hP280 => ?_)
                    rw [hP280.1, hP280.2]
                    refine z_st (st' := [va_rf (pa1 x1)]) rfl ?_
                    refine z_top (v := .ref p) (congrArg va_rf (show (pa1 x1) = (some p) from (by rw [hp]))) ?_
                    refine z_astore_n C [(1, .ref p), (2, .null), (0, .ref t)] dJ4_fixAfterInsertion_219 rfl (by decide) rfl ?_
                    refine z_aload_n C 2 rfl dJ4_fixAfterInsertion_220 rfl ?_
                    refine z_aload_n C 0 rfl dJ4_fixAfterInsertion_221 rfl ?_
                    refine z_callV C k_TM hlp_0.1 (As := [.ref p]) (mJ4_rotateRight hlp_0 hlp_1 hm30 k274) (lw_V q722 q724 qs9 q64 q725) rfl hd_J4_rotateRight rfl (Nat.le_of_ble_eq_true rfl) (by decide) (by decide) (by decide) (by decide) rfl dJ4_fixAfterInsertion_222 (fun _ _ h => h.elim) (fun r281 V282 hP283 => ?_)
                    obtain ⟨hW284, hU285⟩ := hP283
                    refine z_st (st' := []) rfl ?_
                    have hU286 := zUnc.tr (S := tC t L) hlp_2 hU285 (fun _ h => Or.inl h)
                    have hI287 := tI_rotR hlp_1 hm30 k274
                    obtain ⟨lf294, eB289⟩ : ∃ q, q = xR rg1 lf1 p x1 := ⟨_, rfl⟩
                    rw [← eB289] at hW284 hI287
                    obtain ⟨pa295, eP290⟩ : ∃ q, q = xP rg1 pa1 p x1 := ⟨_, rfl⟩
                    rw [← eP290] at hW284 hI287
                    obtain ⟨rg296, eA288⟩ : ∃ q, q = xL rg1 p x1 := ⟨_, rfl⟩
                    rw [← eA288] at hW284 hI287
                    obtain ⟨rt297, eT291⟩ : ∃ q, q = xT rt1 p x1 := ⟨_, rfl⟩
                    rw [← eT291] at hW284 hI287
                    obtain ⟨lo298, elo292⟩ : ∃ q, q = va_up lo1 p (ps x1 + 1) := ⟨_, rfl⟩
                    rw [← elo292] at hI287
                    obtain ⟨hi299, ehi293⟩ : ∃ q, q = va_up hi1 x1 (hi1 p) := ⟨_, rfl⟩
                    rw [← ehi293] at hI287
                    have k300 : rg296 x1 = (some p) := by rw [eA288]; exact xL_r
                    have k301 : pa295 p = (some x1) := by rw [eP290]; exact xP_p
                    have k302 : pa295 x1 = (some y52) := by rw [eP290, xP_r nx277]; exact hy53
                    have nx303 : y52 ≠ x1 := (Ne.symm (tI.gg hlp_1 hlp_3 hp hm30 hy53))
                    have k304 : rg296 y52 = (some x1) := by rw [eA288]; exact xL_u nx303 k185
                    have k305 : lf294 y52 = none := by rw [eB289, xR_o nx180 (sn_ne hy199)]; exact hy199
                    refine z_aload_n C 0 rfl dJ4_fixAfterInsertion_225 rfl ?_
                    refine z_callS C (As := [.ref p]) (mJ4_parentOf (o := (some p)) hW284 (oM hm30)) (lw_S q706 q707 q64 q708) hd_J4_parentOf rfl (Nat.le_of_ble_eq_true rfl) (by decide) (by decide) (by decide) (by decide) rfl dJ4_fixAfterInsertion_226 (fun _ _ h => h.elim) (fun r306 V307 hP308 => ?_)
                    rw [hP308.1, hP308.2]
                    refine z_st (st' := [va_rf (pa295 p)]) rfl ?_
                    refine z_top (v := .ref x1) (congrArg va_rf (show (pa295 p) = (some x1) from (by rw [k301]))) ?_
                    refine z_iconst C (v := (nI 1)) dJ4_fixAfterInsertion_229 rfl ?_
                    refine z_st (st' := [.int (zb true), .ref x1]) rfl ?_
                    refine z_callS C (As := [.ref x1, .int (zb true)]) (mJ4_setColor (o := (some x1)) (c := true) hW284 (oM hlp_3)) (lw_S q715 q716 q64 q717) hd_J4_setColor rfl (Nat.le_of_ble_eq_true rfl) (by decide) (by decide) (by decide) (by decide) rfl dJ4_fixAfterInsertion_230 (fun _ _ h => h.elim) (fun r309 V310 hP311 => ?_)
                    obtain ⟨hW312, hU313⟩ := hP311
                    refine z_st (st' := []) rfl ?_
                    have hU314 := zUnc.tr (S := tC t L) hU286 hU313 (fun _ h => Or.inl h)
                    change tW _ _ _ _ _ _ _ (va_up cl1 x1 true) _ _ _ _ at hW312
                    obtain ⟨cl316, ec315⟩ : ∃ q, q = va_up cl1 x1 true := ⟨_, rfl⟩
                    rw [← ec315] at hW312
                    have k317 : cl316 x1 = true := by rw [ec315, zvs]
                    have k318 : cl316 p = false := by rw [ec315, zvn nx32]; exact k42
                    refine z_aload_n C 0 rfl dJ4_fixAfterInsertion_233 rfl ?_
                    refine z_callS C (As := [.ref p]) (mJ4_parentOf (o := (some p)) hW312 (oM hm30)) (lw_S q706 q707 q64 q708) hd_J4_parentOf rfl (Nat.le_of_ble_eq_true rfl) (by decide) (by decide) (by decide) (by decide) rfl dJ4_fixAfterInsertion_234 (fun _ _ h => h.elim) (fun r319 V320 hP321 => ?_)
                    rw [hP321.1, hP321.2]
                    refine z_st (st' := [va_rf (pa295 p)]) rfl ?_
                    refine z_top (v := .ref x1) (congrArg va_rf (show (pa295 p) = (some x1) from (by rw [k301]))) ?_
                    refine z_callS C (As := [.ref x1]) (mJ4_parentOf (o := (some x1)) hW312 (oM hlp_3)) (lw_S q706 q707 q64 q708) hd_J4_parentOf rfl (Nat.le_of_ble_eq_true rfl) (by decide) (by decide) (by decide) (by decide) rfl dJ4_fixAfterInsertion_237 (fun _ _ h => h.elim) (fun r322 V323 hP324 => ?_)
                    rw [hP324.1, hP324.2]
                    refine z_st (st' := [va_rf (pa295 x1)]) rfl ?_
                    refine z_top (v := .ref y52) (congrArg va_rf (show (pa295 x1) = (some y52) from (by rw [k302]))) ?_
                    refine z_iconst C (v := (nI 0)) dJ4_fixAfterInsertion_240 rfl ?_
                    refine z_st (st' := [.int (zb false), .ref y52]) rfl ?_
                    refine z_callS C (As := [.ref y52, .int (zb false)]) (mJ4_setColor (o := (some y52)) (c := false) hW312 (oM hm178)) (lw_S q715 q716 q64 q717) hd_J4_setColor rfl (Nat.le_of_ble_eq_true rfl) (by decide) (by decide) (by decide) (by decide) rfl dJ4_fixAfterInsertion_241 (fun _ _ h => h.elim) (fun r325 V326 hP327 => ?_)
                    obtain ⟨hW328, hU329⟩ := hP327
                    refine z_st (st' := []) rfl ?_
                    have hU330 := zUnc.tr (S := tC t L) hU314 hU329 (fun _ h => Or.inl h)
                    change tW _ _ _ _ _ _ _ (va_up cl316 y52 false) _ _ _ _ at hW328
                    obtain ⟨cl332, ec331⟩ : ∃ q, q = va_up cl316 y52 false := ⟨_, rfl⟩
                    rw [← ec331] at hW328
                    have k333 : cl332 y52 = false := by rw [ec331, zvs]
                    have k334 : cl332 x1 = true := by rw [ec331, zvn (Ne.symm nx303)]; exact k317
                    have k335 : cl332 p = false := by rw [ec331, zvn nx188]; exact k318
                    refine z_aload_n C 2 rfl dJ4_fixAfterInsertion_244 rfl ?_
                    refine z_aload_n C 0 rfl dJ4_fixAfterInsertion_245 rfl ?_
                    refine z_callS C (As := [.ref p]) (mJ4_parentOf (o := (some p)) hW328 (oM hm30)) (lw_S q706 q707 q64 q708) hd_J4_parentOf rfl (Nat.le_of_ble_eq_true rfl) (by decide) (by decide) (by decide) (by decide) rfl dJ4_fixAfterInsertion_246 (fun _ _ h => h.elim) (fun r336 V337 hP338 => ?_)
                    rw [hP338.1, hP338.2]
                    refine z_st (st' := [va_rf (pa295 p), .ref t]) rfl ?_
                    refine z_top (v := .ref x1) (congrArg va_rf (show (pa295 p) = (some x1) from (by rw [k301]))) ?_
                    refine z_callS C (As := [.ref x1]) (mJ4_parentOf (o := (some x1)) hW328 (oM hlp_3)) (lw_S q706 q707 q64 q708) hd_J4_parentOf rfl (Nat.le_of_ble_eq_true rfl) (by decide) (by decide) (by decide) (by decide) rfl dJ4_fixAfterInsertion_249 (fun _ _ h => h.elim) (fun r339 V340 hP341 => ?_)
                    rw [hP341.1, hP341.2]
                    refine z_st (st' := [va_rf (pa295 x1), .ref t]) rfl ?_
                    refine z_top (v := .ref y52) (congrArg va_rf (show (pa295 x1) = (some y52) from (by rw [k302]))) ?_
                    refine z_callV C k_TM hW328.1 (As := [.ref y52]) (mJ4_rotateLeft hW328 hI287 hm178 k304) (lw_V q718 q720 qs8 q64 q721) rfl hd_J4_rotateLeft rfl (Nat.le_of_ble_eq_true rfl) (by decide) (by decide) (by decide) (by decide) rfl dJ4_fixAfterInsertion_252 (fun _ _ h => h.elim) (fun r342 V343 hP344 => ?_)
                    obtain ⟨hW345, hU346⟩ := hP344
                    refine z_st (st' := []) rfl ?_
                    have hU347 := zUnc.tr (S := tC t L) hU330 hU346 (fun _ h => Or.inl h)
                    have hI348 := tI_rotL hI287 hm178 k304
                    obtain ⟨rg355, eB350⟩ : ∃ q, q = xR lf294 rg296 y52 x1 := ⟨_, rfl⟩
                    rw [← eB350] at hW345 hI348
                    obtain ⟨pa356, eP351⟩ : ∃ q, q = xP lf294 pa295 y52 x1 := ⟨_, rfl⟩
                    rw [← eP351] at hW345 hI348
                    obtain ⟨lf357, eA349⟩ : ∃ q, q = xL lf294 y52 x1 := ⟨_, rfl⟩
                    rw [← eA349] at hW345 hI348
                    obtain ⟨rt358, eT352⟩ : ∃ q, q = xT rt297 y52 x1 := ⟨_, rfl⟩
                    rw [← eT352] at hW345 hI348
                    obtain ⟨lo359, elo353⟩ : ∃ q, q = va_up lo298 x1 (lo298 y52) := ⟨_, rfl⟩
                    rw [← elo353] at hI348
                    obtain ⟨hi360, ehi354⟩ : ∃ q, q = va_up hi299 y52 (ps x1) := ⟨_, rfl⟩
                    rw [← ehi354] at hI348
                    have k361 : lf357 x1 = (some y52) := by rw [eA349]; exact xL_r
                    have k362 : pa356 y52 = (some x1) := by rw [eP351]; exact xP_p
                    have k363 : rg355 x1 = (some p) := by rw [eB350, xR_o (Ne.symm nx303) (so_ne k300 nx188)]; exact k300
                    have k364 : pa356 p = (some x1) := by rw [eP351, xP_o nx188 nx32 (hI287.rl hlp_3 k300)]; exact k301
                    have k365 : lf357 y52 = none := by rw [eA349, xL_o nx303 (sn_ne k305)]; exact k305
                    refine z_goto C 5 dJ4_fixAfterInsertion_255 (by decide) ?_
                    refine z_pick [(0, .ref t), (1, .ref p)] [2, 0] rfl ?_
                    exact hexit V343 rt358 lf357 rg355 pa356 cl332 lo359 hi360 p hW345 hI348 hU347 hm30 (Or.inr ⟨x1, k364, k334⟩)
                · skip
                  have k366 : true = false := c166
                  cases k366
              · skip
                obtain ⟨hm367, hp368, nx369⟩ := hlp_1.ml hm178 hy199
                refine z_callS C (As := [.ref y198]) (mJ4_colorOf (o := (some y198)) hlp_0 (oM hm367)) (lw_S q703 q704 q64 q705) hd_J4_colorOf rfl (Nat.le_of_ble_eq_true rfl) (by decide) (by decide) (by decide) (by decide) rfl dJ4_fixAfterInsertion_163 (fun _ _ h => h.elim) (fun r370 V371 hP372 => ?_)
                rw [hP372.1, hP372.2]
                refine z_st (st' := [.int (zb (cl1 y198))]) rfl ?_
                refine z_if_neB C 204 dJ4_fixAfterInsertion_166 (by decide) (fun c166 => ?_) (fun c166 => ?_)
                · skip
                  have k373 : (cl1 y198) = true := c166
                  refine z_aload_n C 2 rfl dJ4_fixAfterInsertion_204 rfl ?_
                  refine z_aload_n C 2 rfl dJ4_fixAfterInsertion_205 rfl ?_
                  refine z_callS C (As := [.ref x1]) (mJ4_parentOf (o := (some x1)) hlp_0 (oM hlp_3)) (lw_S q706 q707 q64 q708) hd_J4_parentOf rfl (Nat.le_of_ble_eq_true rfl) (by decide) (by decide) (by decide) (by decide) rfl dJ4_fixAfterInsertion_206 (fun _ _ h => h.elim) (fun r374 V375 hP376 => ?_)
                  rw [hP376.1, hP376.2]
                  refine z_st (st' := [va_rf (pa1 x1), .ref x1]) rfl ?_
                  refine z_top (v := .ref p) (congrArg va_rf (show (pa1 x1) = (some p) from (by rw [hp]))) ?_
                  refine z_callS C (As := [.ref p]) (mJ4_leftOf (o := (some p)) hlp_0 (oM hm30)) (lw_S q709 q710 q64 q711) hd_J4_leftOf rfl (Nat.le_of_ble_eq_true rfl) (by decide) (by decide) (by decide) (by decide) rfl dJ4_fixAfterInsertion_209 (fun _ _ h => h.elim) (fun r377 V378 hP379 => ?_)
                  rw [hP379.1, hP379.2]
                  refine z_st (st' := [va_rf (lf1 p), .ref x1]) rfl ?_
                  refine z_acmp_ne C (some x1) (lf1 p) 225 dJ4_fixAfterInsertion_212 (by decide) (fun c212 => ?_) (fun c212 => ?_)
                  · skip
                    have k380 : ¬ lf1 p = (some x1) := fun z => c212 (Eq.symm z)
                    have k381 := hlp_1.sdR hlp_3 hp k380
                    obtain ⟨hm382, hp383, nx384⟩ := hlp_1.mr hm30 k381
                    refine z_aload_n C 2 rfl dJ4_fixAfterInsertion_225 rfl ?_
                    refine z_callS C (As := [.ref x1]) (mJ4_parentOf (o := (some x1)) hlp_0 (oM hlp_3)) (lw_S q706 q707 q64 q708) hd_J4_parentOf rfl (Nat.le_of_ble_eq_true rfl) (by decide) (by decide) (by decide) (by decide) rfl dJ4_fixAfterInsertion_226 (fun _ _ h => h.elim) (fun r385 V386 hP387 => ?_)
                    rw [hP387.1, hP387.2]
                    refine z_st (st' := [va_rf (pa1 x1)]) rfl ?_
                    refine z_top (v := .ref p) (congrArg va_rf (show (pa1 x1) = (some p) from (by rw [hp]))) ?_
                    refine z_iconst C (v := (nI 1)) dJ4_fixAfterInsertion_229 rfl ?_
                    refine z_st (st' := [.int (zb true), .ref p]) rfl ?_
                    refine z_callS C (As := [.ref p, .int (zb true)]) (mJ4_setColor (o := (some p)) (c := true) hlp_0 (oM hm30)) (lw_S q715 q716 q64 q717) hd_J4_setColor rfl (Nat.le_of_ble_eq_true rfl) (by decide) (by decide) (by decide) (by decide) rfl dJ4_fixAfterInsertion_230 (fun _ _ h => h.elim) (fun r388 V389 hP390 => ?_)
                    obtain ⟨hW391, hU392⟩ := hP390
                    refine z_st (st' := []) rfl ?_
                    have hU393 := zUnc.tr (S := tC t L) hlp_2 hU392 (fun _ h => Or.inl h)
                    change tW _ _ _ _ _ _ _ (va_up cl1 p true) _ _ _ _ at hW391
                    obtain ⟨cl395, ec394⟩ : ∃ q, q = va_up cl1 p true := ⟨_, rfl⟩
                    rw [← ec394] at hW391
                    have k396 : cl395 p = true := by rw [ec394, zvs]
                    have nx397 : y198 ≠ p := (tI.sib hlp_1 hm178 hy199 k185)
                    have k398 : cl395 y198 = true := by rw [ec394, zvn nx397]; exact k373
                    refine z_aload_n C 2 rfl dJ4_fixAfterInsertion_233 rfl ?_
                    refine z_callS C (As := [.ref x1]) (mJ4_parentOf (o := (some x1)) hW391 (oM hlp_3)) (lw_S q706 q707 q64 q708) hd_J4_parentOf rfl (Nat.le_of_ble_eq_true rfl) (by decide) (by decide) (by decide) (by decide) rfl dJ4_fixAfterInsertion_234 (fun _ _ h => h.elim) (fun r399 V400 hP401 => ?_)
                    rw [hP401.1, hP401.2]
                    refine z_st (st' := [va_rf (pa1 x1)]) rfl ?_
                    refine z_top (v := .ref p) (congrArg va_rf (show (pa1 x1) = (some p) from (by rw [hp]))) ?_
                    refine z_callS C (As := [.ref p]) (mJ4_parentOf (o := (some p)) hW391 (oM hm30)) (lw_S q706 q707 q64 q708) hd_J4_parentOf rfl (Nat.le_of_ble_eq_true rfl) (by decide) (by decide) (by decide) (by decide) rfl dJ4_fixAfterInsertion_237 (fun _ _ h => h.elim) (fun r402 V403 hP404 => ?_)
                    rw [hP404.1, hP404.2]
                    refine z_st (st' := [va_rf (pa1 p)]) rfl ?_
                    refine z_top (v := .ref y52) (congrArg va_rf (show (pa1 p) = (some y52) from (by rw [hy53]))) ?_
                    refine z_iconst C (v := (nI 0)) dJ4_fixAfterInsertion_240 rfl ?_
                    refine z_st (st' := [.int (zb false), .ref y52]) rfl ?_
                    refine z_callS C (As := [.ref y52, .int (zb false)]) (mJ4_setColor (o := (some y52)) (c := false) hW391 (oM hm178)) (lw_S q715 q716 q64 q717) hd_J4_setColor rfl (Nat.le_of_ble_eq_true rfl) (by decide) (by decide) (by decide) (by decide) rfl dJ4_fixAfterInsertion_241 (fun _ _ h => h.elim) (fun r405 V406 hP407 => ?_)
                    obtain ⟨hW408, hU409⟩ := hP407
                    refine z_st (st' := []) rfl ?_
                    have hU410 := zUnc.tr (S := tC t L) hU393 hU409 (fun _ h => Or.inl h)
                    change tW _ _ _ _ _ _ _ (va_up cl395 y52 false) _ _ _ _ at hW408
                    obtain ⟨cl412, ec411⟩ : ∃ q, q = va_up cl395 y52 false := ⟨_, rfl⟩
                    rw [← ec411] at hW408
                    have k413 : cl412 y52 = false := by rw [ec411, zvs]
                    have k414 : cl412 p = true := by rw [ec411, zvn nx188]; exact k396
                    have k415 : cl412 y198 = true := by rw [ec411, zvn nx369]; exact k398
                    refine z_aload_n C 1 rfl dJ4_fixAfterInsertion_244 rfl ?_
                    refine z_aload_n C 2 rfl dJ4_fixAfterInsertion_245 rfl ?_
                    refine z_callS C (As := [.ref x1]) (mJ4_parentOf (o := (some x1)) hW408 (oM hlp_3)) (lw_S q706 q707 q64 q708) hd_J4_parentOf rfl (Nat.le_of_ble_eq_true rfl) (by decide) (by decide) (by decide) (by decide) rfl dJ4_fixAfterInsertion_246 (fun _ _ h => h.elim) (fun r416 V417 hP418 => ?_)
                    rw [hP418.1, hP418.2]
                    refine z_st (st' := [va_rf (pa1 x1), .ref t]) rfl ?_
                    refine z_top (v := .ref p) (congrArg va_rf (show (pa1 x1) = (some p) from (by rw [hp]))) ?_
                    refine z_callS C (As := [.ref p]) (mJ4_parentOf (o := (some p)) hW408 (oM hm30)) (lw_S q706 q707 q64 q708) hd_J4_parentOf rfl (Nat.le_of_ble_eq_true rfl) (by decide) (by decide) (by decide) (by decide) rfl dJ4_fixAfterInsertion_249 (fun _ _ h => h.elim) (fun r419 V420 hP421 => ?_)
                    rw [hP421.1, hP421.2]
                    refine z_st (st' := [va_rf (pa1 p), .ref t]) rfl ?_
                    refine z_top (v := .ref y52) (congrArg va_rf (show (pa1 p) = (some y52) from (by rw [hy53]))) ?_
                    refine z_callV C k_TM hW408.1 (As := [.ref y52]) (mJ4_rotateLeft hW408 hlp_1 hm178 k185) (lw_V q718 q720 qs8 q64 q721) rfl hd_J4_rotateLeft rfl (Nat.le_of_ble_eq_true rfl) (by decide) (by decide) (by decide) (by decide) rfl dJ4_fixAfterInsertion_252 (fun _ _ h => h.elim) (fun r422 V423 hP424 => ?_)
                    obtain ⟨hW425, hU426⟩ := hP424
                    refine z_st (st' := []) rfl ?_
                    have hU427 := zUnc.tr (S := tC t L) hU410 hU426 (fun _ h => Or.inl h)
                    have hI428 := tI_rotL hlp_1 hm178 k185
                    obtain ⟨rg435, eB430⟩ : ∃ q, q = xR lf1 rg1 y52 p := ⟨_, rfl⟩
                    rw [← eB430] at hW425 hI428
                    obtain ⟨pa436, eP431⟩ : ∃ q, q = xP lf1 pa1 y52 p := ⟨_, rfl⟩
                    rw [← eP431] at hW425 hI428
                    obtain ⟨lf437, eA429⟩ : ∃ q, q = xL lf1 y52 p := ⟨_, rfl⟩
                    rw [← eA429] at hW425 hI428
                    obtain ⟨rt438, eT432⟩ : ∃ q, q = xT rt1 y52 p := ⟨_, rfl⟩
                    rw [← eT432] at hW425 hI428
                    obtain ⟨lo439, elo433⟩ : ∃ q, q = va_up lo1 p (lo1 y52) := ⟨_, rfl⟩
                    rw [← elo433] at hI428
                    obtain ⟨hi440, ehi434⟩ : ∃ q, q = va_up hi1 y52 (ps p) := ⟨_, rfl⟩
                    rw [← ehi434] at hI428
                    have k441 : lf437 p = (some y52) := by rw [eA429]; exact xL_r
                    have k442 : pa436 y52 = (some p) := by rw [eP431]; exact xP_p
                    have nx443 : x1 ≠ y52 := (tI.gg hlp_1 hlp_3 hp hm30 hy53)
                    have k444 : pa436 x1 = (some p) := by rw [eP431, xP_o nx443 nx384 (hlp_1.rl hm30 k381)]; exact hp
                    have k445 : lf437 y52 = (some y198) := by rw [eA429, xL_o nx180 (so_ne hy199 nx369)]; exact hy199
                    have k446 : pa436 y198 = (some y52) := by rw [eP431, xP_o nx369 nx397 (fun z => nx180 (Option.some.inj (hp368.symm.trans (hlp_1.ml hm30 z).2.1)))]; exact hp368
                    have k447 : rg435 p = (some x1) := by rw [eB430, xR_o nx188 (so_ne k381 nx443)]; exact k381
                    refine z_goto C 5 dJ4_fixAfterInsertion_255 (by decide) ?_
                    refine z_pick [(0, .ref t), (1, .ref x1)] [1, 2] rfl ?_
                    exact hexit V423 rt438 lf437 rg435 pa436 cl412 lo439 hi440 x1 hW425 hI428 hU427 hlp_3 (Or.inr ⟨p, k444, k414⟩)
                  · skip
                    have k448 : lf1 p = (some x1) := Eq.symm c212
                    obtain ⟨hm449, hp450, nx451⟩ := hlp_1.ml hm30 k448
                    refine z_aload_n C 2 rfl dJ4_fixAfterInsertion_215 rfl ?_
                    refine z_callS C (As := [.ref x1]) (mJ4_parentOf (o := (some x1)) hlp_0 (oM hlp_3)) (lw_S q706 q707 q64 q708) hd_J4_parentOf rfl (Nat.le_of_ble_eq_true rfl) (by decide) (by decide) (by decide) (by decide) rfl dJ4_fixAfterInsertion_216 (fun _ _ h => h.elim) (fun r452 V453 hP454 => ?_)
                    rw [hP454.1, hP454.2]
                    refine z_st (st' := [va_rf (pa1 x1)]) rfl ?_
                    refine z_top (v := .ref p) (congrArg va_rf (show (pa1 x1) = (some p) from (by rw [hp]))) ?_
                    refine z_astore_n C [(1, .ref p), (2, .ref y198), (0, .ref t)] dJ4_fixAfterInsertion_219 rfl (by decide) rfl ?_
                    refine z_aload_n C 2 rfl dJ4_fixAfterInsertion_220 rfl ?_
                    refine z_aload_n C 0 rfl dJ4_fixAfterInsertion_221 rfl ?_
                    refine z_callV C k_TM hlp_0.1 (As := [.ref p]) (mJ4_rotateRight hlp_0 hlp_1 hm30 k448) (lw_V q722 q724 qs9 q64 q725) rfl hd_J4_rotateRight rfl (Nat.le_of_ble_eq_true rfl) (by decide) (by decide) (by decide) (by decide) rfl dJ4_fixAfterInsertion_222 (fun _ _ h => h.elim) (fun r455 V456 hP457 => ?_)
                    obtain ⟨hW458, hU459⟩ := hP457
                    refine z_st (st' := []) rfl ?_
                    have hU460 := zUnc.tr (S := tC t L) hlp_2 hU459 (fun _ h => Or.inl h)
                    have hI461 := tI_rotR hlp_1 hm30 k448
                    obtain ⟨lf468, eB463⟩ : ∃ q, q = xR rg1 lf1 p x1 := ⟨_, rfl⟩
                    rw [← eB463] at hW458 hI461
                    obtain ⟨pa469, eP464⟩ : ∃ q, q = xP rg1 pa1 p x1 := ⟨_, rfl⟩
                    rw [← eP464] at hW458 hI461
                    obtain ⟨rg470, eA462⟩ : ∃ q, q = xL rg1 p x1 := ⟨_, rfl⟩
                    rw [← eA462] at hW458 hI461
                    obtain ⟨rt471, eT465⟩ : ∃ q, q = xT rt1 p x1 := ⟨_, rfl⟩
                    rw [← eT465] at hW458 hI461
                    obtain ⟨lo472, elo466⟩ : ∃ q, q = va_up lo1 p (ps x1 + 1) := ⟨_, rfl⟩
                    rw [← elo466] at hI461
                    obtain ⟨hi473, ehi467⟩ : ∃ q, q = va_up hi1 x1 (hi1 p) := ⟨_, rfl⟩
                    rw [← ehi467] at hI461
                    have k474 : rg470 x1 = (some p) := by rw [eA462]; exact xL_r
                    have k475 : pa469 p = (some x1) := by rw [eP464]; exact xP_p
                    have k476 : pa469 x1 = (some y52) := by rw [eP464, xP_r nx451]; exact hy53
                    have nx477 : y52 ≠ x1 := (Ne.symm (tI.gg hlp_1 hlp_3 hp hm30 hy53))
                    have k478 : rg470 y52 = (some x1) := by rw [eA462]; exact xL_u nx477 k185
                    have nx479 : y198 ≠ p := (tI.sib hlp_1 hm178 hy199 k185)
                    have k480 : lf468 y52 = (some y198) := by rw [eB463, xR_o nx180 (so_ne hy199 nx479)]; exact hy199
                    have nx481 : y198 ≠ x1 := (ne_pa hp368 hp nx180)
                    have k482 : pa469 y198 = (some y52) := by rw [eP464, xP_o nx479 nx481 (fun z => nx477 (Option.some.inj (hp368.symm.trans (hlp_1.mr hlp_3 z).2.1)))]; exact hp368
                    refine z_aload_n C 0 rfl dJ4_fixAfterInsertion_225 rfl ?_
                    refine z_callS C (As := [.ref p]) (mJ4_parentOf (o := (some p)) hW458 (oM hm30)) (lw_S q706 q707 q64 q708) hd_J4_parentOf rfl (Nat.le_of_ble_eq_true rfl) (by decide) (by decide) (by decide) (by decide) rfl dJ4_fixAfterInsertion_226 (fun _ _ h => h.elim) (fun r483 V484 hP485 => ?_)
                    rw [hP485.1, hP485.2]
                    refine z_st (st' := [va_rf (pa469 p)]) rfl ?_
                    refine z_top (v := .ref x1) (congrArg va_rf (show (pa469 p) = (some x1) from (by rw [k475]))) ?_
                    refine z_iconst C (v := (nI 1)) dJ4_fixAfterInsertion_229 rfl ?_
                    refine z_st (st' := [.int (zb true), .ref x1]) rfl ?_
                    refine z_callS C (As := [.ref x1, .int (zb true)]) (mJ4_setColor (o := (some x1)) (c := true) hW458 (oM hlp_3)) (lw_S q715 q716 q64 q717) hd_J4_setColor rfl (Nat.le_of_ble_eq_true rfl) (by decide) (by decide) (by decide) (by decide) rfl dJ4_fixAfterInsertion_230 (fun _ _ h => h.elim) (fun r486 V487 hP488 => ?_)
                    obtain ⟨hW489, hU490⟩ := hP488
                    refine z_st (st' := []) rfl ?_
                    have hU491 := zUnc.tr (S := tC t L) hU460 hU490 (fun _ h => Or.inl h)
                    change tW _ _ _ _ _ _ _ (va_up cl1 x1 true) _ _ _ _ at hW489
                    obtain ⟨cl493, ec492⟩ : ∃ q, q = va_up cl1 x1 true := ⟨_, rfl⟩
                    rw [← ec492] at hW489
                    have k494 : cl493 x1 = true := by rw [ec492, zvs]
                    have k495 : cl493 p = false := by rw [ec492, zvn nx32]; exact k42
                    have k496 : cl493 y198 = true := by rw [ec492, zvn nx481]; exact k373
                    refine z_aload_n C 0 rfl dJ4_fixAfterInsertion_233 rfl ?_
                    refine z_callS C (As := [.ref p]) (mJ4_parentOf (o := (some p)) hW489 (oM hm30)) (lw_S q706 q707 q64 q708) hd_J4_parentOf rfl (Nat.le_of_ble_eq_true rfl) (by decide) (by decide) (by decide) (by decide) rfl dJ4_fixAfterInsertion_234 (fun _ _ h => h.elim) (fun r497 V498 hP499 => ?_)
                    rw [hP499.1, hP499.2]
                    refine z_st (st' := [va_rf (pa469 p)]) rfl ?_
                    refine z_top (v := .ref x1) (congrArg va_rf (show (pa469 p) = (some x1) from (by rw [k475]))) ?_
                    refine z_callS C (As := [.ref x1]) (mJ4_parentOf (o := (some x1)) hW489 (oM hlp_3)) (lw_S q706 q707 q64 q708) hd_J4_parentOf rfl (Nat.le_of_ble_eq_true rfl) (by decide) (by decide) (by decide) (by decide) rfl dJ4_fixAfterInsertion_237 (fun _ _ h => h.elim) (fun r500 V501 hP502 => ?_)
                    rw [hP502.1, hP502.2]
                    refine z_st (st' := [va_rf (pa469 x1)]) rfl ?_
                    refine z_top (v := .ref y52) (congrArg va_rf (show (pa469 x1) = (some y52) from (by rw [k476]))) ?_
                    refine z_iconst C (v := (nI 0)) dJ4_fixAfterInsertion_240 rfl ?_
                    refine z_st (st' := [.int (zb false), .ref y52]) rfl ?_
                    refine z_callS C (As := [.ref y52, .int (zb false)]) (mJ4_setColor (o := (some y52)) (c := false) hW489 (oM hm178)) (lw_S q715 q716 q64 q717) hd_J4_setColor rfl (Nat.le_of_ble_eq_true rfl) (by decide) (by decide) (by decide) (by decide) rfl dJ4_fixAfterInsertion_241 (fun _ _ h => h.elim) (fun r503 V504 hP505 => ?_)
                    obtain ⟨hW506, hU507⟩ := hP505
                    refine z_st (st' := []) rfl ?_
                    have hU508 := zUnc.tr (S := tC t L) hU491 hU507 (fun _ h => Or.inl h)
                    change tW _ _ _ _ _ _ _ (va_up cl493 y52 false) _ _ _ _ at hW506
                    obtain ⟨cl510, ec509⟩ : ∃ q, q = va_up cl493 y52 false := ⟨_, rfl⟩
                    rw [← ec509] at hW506
                    have k511 : cl510 y52 = false := by rw [ec509, zvs]
                    have k512 : cl510 x1 = true := by rw [ec509, zvn (Ne.symm nx477)]; exact k494
                    have k513 : cl510 p = false := by rw [ec509, zvn nx188]; exact k495
                    have k514 : cl510 y198 = true := by rw [ec509, zvn nx369]; exact k496
                    refine z_aload_n C 2 rfl dJ4_fixAfterInsertion_244 rfl ?_
                    refine z_aload_n C 0 rfl dJ4_fixAfterInsertion_245 rfl ?_
                    refine z_callS C (As := [.ref p]) (mJ4_parentOf (o := (some p)) hW506 (oM hm30)) (lw_S q706 q707 q64 q708) hd_J4_parentOf rfl (Nat.le_of_ble_eq_true rfl) (by decide) (by decide) (by decide) (by decide) rfl dJ4_fixAfterInsertion_246 (fun _ _ h => h.elim) (fun r515 V516 hP517 => ?_)
                    rw [hP517.1, hP517.2]
                    refine z_st (st' := [va_rf (pa469 p), .ref t]) rfl ?_
                    refine z_top (v := .ref x1) (congrArg va_rf (show (pa469 p) = (some x1) from (by rw [k475]))) ?_
                    refine z_callS C (As := [.ref x1]) (mJ4_parentOf (o := (some x1)) hW506 (oM hlp_3)) (lw_S q706 q707 q64 q708) hd_J4_parentOf rfl (Nat.le_of_ble_eq_true rfl) (by decide) (by decide) (by decide) (by decide) rfl dJ4_fixAfterInsertion_249 (fun _ _ h => h.elim) (fun r518 V519 hP520 => ?_)
                    rw [hP520.1, hP520.2]
                    refine z_st (st' := [va_rf (pa469 x1), .ref t]) rfl ?_
                    refine z_top (v := .ref y52) (congrArg va_rf (show (pa469 x1) = (some y52) from (by rw [k476]))) ?_
                    refine z_callV C k_TM hW506.1 (As := [.ref y52]) (mJ4_rotateLeft hW506 hI461 hm178 k478) (lw_V q718 q720 qs8 q64 q721) rfl hd_J4_rotateLeft rfl (Nat.le_of_ble_eq_true rfl) (by decide) (by decide) (by decide) (by decide) rfl dJ4_fixAfterInsertion_252 (fun _ _ h => h.elim) (fun r521 V522 hP523 => ?_)
                    obtain ⟨hW524, hU525⟩ := hP523
                    refine z_st (st' := []) rfl ?_
                    have hU526 := zUnc.tr (S := tC t L) hU508 hU525 (fun _ h => Or.inl h)
                    have hI527 := tI_rotL hI461 hm178 k478
                    obtain ⟨rg534, eB529⟩ : ∃ q, q = xR lf468 rg470 y52 x1 := ⟨_, rfl⟩
                    rw [← eB529] at hW524 hI527
                    obtain ⟨pa535, eP530⟩ : ∃ q, q = xP lf468 pa469 y52 x1 := ⟨_, rfl⟩
                    rw [← eP530] at hW524 hI527
                    obtain ⟨lf536, eA528⟩ : ∃ q, q = xL lf468 y52 x1 := ⟨_, rfl⟩
                    rw [← eA528] at hW524 hI527
                    obtain ⟨rt537, eT531⟩ : ∃ q, q = xT rt471 y52 x1 := ⟨_, rfl⟩
                    rw [← eT531] at hW524 hI527
                    obtain ⟨lo538, elo532⟩ : ∃ q, q = va_up lo472 x1 (lo472 y52) := ⟨_, rfl⟩
                    rw [← elo532] at hI527
                    obtain ⟨hi539, ehi533⟩ : ∃ q, q = va_up hi473 y52 (ps x1) := ⟨_, rfl⟩
                    rw [← ehi533] at hI527
                    have k540 : lf536 x1 = (some y52) := by rw [eA528]; exact xL_r
                    have k541 : pa535 y52 = (some x1) := by rw [eP530]; exact xP_p
                    have k542 : rg534 x1 = (some p) := by rw [eB529, xR_o (Ne.symm nx477) (so_ne k474 nx188)]; exact k474
                    have k543 : pa535 p = (some x1) := by rw [eP530, xP_o nx188 nx32 (hI461.rl hlp_3 k474)]; exact k475
                    have k544 : lf536 y52 = (some y198) := by rw [eA528, xL_o nx477 (so_ne k480 nx369)]; exact k480
                    have k545 : pa535 y198 = (some y52) := by rw [eP530, xP_o nx369 nx481 (fun z => nx477 (Option.some.inj (k482.symm.trans (hI461.ml hlp_3 z).2.1)))]; exact k482
                    refine z_goto C 5 dJ4_fixAfterInsertion_255 (by decide) ?_
                    refine z_pick [(0, .ref t), (1, .ref p)] [2, 0] rfl ?_
                    exact hexit V522 rt537 lf536 rg534 pa535 cl510 lo538 hi539 p hW524 hI527 hU526 hm30 (Or.inr ⟨x1, k543, k512⟩)
                · skip
                  have k546 : (cl1 y198) = false := c166
                  refine z_aload_n C 2 rfl dJ4_fixAfterInsertion_169 rfl ?_
                  refine z_callS C (As := [.ref x1]) (mJ4_parentOf (o := (some x1)) hlp_0 (oM hlp_3)) (lw_S q706 q707 q64 q708) hd_J4_parentOf rfl (Nat.le_of_ble_eq_true rfl) (by decide) (by decide) (by decide) (by decide) rfl dJ4_fixAfterInsertion_170 (fun _ _ h => h.elim) (fun r547 V548 hP549 => ?_)
                  rw [hP549.1, hP549.2]
                  refine z_st (st' := [va_rf (pa1 x1)]) rfl ?_
                  refine z_top (v := .ref p) (congrArg va_rf (show (pa1 x1) = (some p) from (by rw [hp]))) ?_
                  refine z_iconst C (v := (nI 1)) dJ4_fixAfterInsertion_173 rfl ?_
                  refine z_st (st' := [.int (zb true), .ref p]) rfl ?_
                  refine z_callS C (As := [.ref p, .int (zb true)]) (mJ4_setColor (o := (some p)) (c := true) hlp_0 (oM hm30)) (lw_S q715 q716 q64 q717) hd_J4_setColor rfl (Nat.le_of_ble_eq_true rfl) (by decide) (by decide) (by decide) (by decide) rfl dJ4_fixAfterInsertion_174 (fun _ _ h => h.elim) (fun r550 V551 hP552 => ?_)
                  obtain ⟨hW553, hU554⟩ := hP552
                  refine z_st (st' := []) rfl ?_
                  have hU555 := zUnc.tr (S := tC t L) hlp_2 hU554 (fun _ h => Or.inl h)
                  change tW _ _ _ _ _ _ _ (va_up cl1 p true) _ _ _ _ at hW553
                  obtain ⟨cl557, ec556⟩ : ∃ q, q = va_up cl1 p true := ⟨_, rfl⟩
                  rw [← ec556] at hW553
                  have k558 : cl557 p = true := by rw [ec556, zvs]
                  have nx559 : y198 ≠ p := (tI.sib hlp_1 hm178 hy199 k185)
                  have k560 : cl557 y198 = false := by rw [ec556, zvn nx559]; exact k546
                  refine z_aload_n C 0 rfl dJ4_fixAfterInsertion_177 rfl ?_
                  refine z_iconst C (v := (nI 1)) dJ4_fixAfterInsertion_178 rfl ?_
                  refine z_st (st' := [.int (zb true), .ref y198]) rfl ?_
                  refine z_callS C (As := [.ref y198, .int (zb true)]) (mJ4_setColor (o := (some y198)) (c := true) hW553 (oM hm367)) (lw_S q715 q716 q64 q717) hd_J4_setColor rfl (Nat.le_of_ble_eq_true rfl) (by decide) (by decide) (by decide) (by decide) rfl dJ4_fixAfterInsertion_179 (fun _ _ h => h.elim) (fun r561 V562 hP563 => ?_)
                  obtain ⟨hW564, hU565⟩ := hP563
                  refine z_st (st' := []) rfl ?_
                  have hU566 := zUnc.tr (S := tC t L) hU555 hU565 (fun _ h => Or.inl h)
                  change tW _ _ _ _ _ _ _ (va_up cl557 y198 true) _ _ _ _ at hW564
                  obtain ⟨cl568, ec567⟩ : ∃ q, q = va_up cl557 y198 true := ⟨_, rfl⟩
                  rw [← ec567] at hW564
                  have k569 : cl568 y198 = true := by rw [ec567, zvs]
                  have k570 : cl568 p = true := by rw [ec567, zvn (Ne.symm nx559)]; exact k558
                  refine z_aload_n C 2 rfl dJ4_fixAfterInsertion_182 rfl ?_
                  refine z_callS C (As := [.ref x1]) (mJ4_parentOf (o := (some x1)) hW564 (oM hlp_3)) (lw_S q706 q707 q64 q708) hd_J4_parentOf rfl (Nat.le_of_ble_eq_true rfl) (by decide) (by decide) (by decide) (by decide) rfl dJ4_fixAfterInsertion_183 (fun _ _ h => h.elim) (fun r571 V572 hP573 => ?_)
                  rw [hP573.1, hP573.2]
                  refine z_st (st' := [va_rf (pa1 x1)]) rfl ?_
                  refine z_top (v := .ref p) (congrArg va_rf (show (pa1 x1) = (some p) from (by rw [hp]))) ?_
                  refine z_callS C (As := [.ref p]) (mJ4_parentOf (o := (some p)) hW564 (oM hm30)) (lw_S q706 q707 q64 q708) hd_J4_parentOf rfl (Nat.le_of_ble_eq_true rfl) (by decide) (by decide) (by decide) (by decide) rfl dJ4_fixAfterInsertion_186 (fun _ _ h => h.elim) (fun r574 V575 hP576 => ?_)
                  rw [hP576.1, hP576.2]
                  refine z_st (st' := [va_rf (pa1 p)]) rfl ?_
                  refine z_top (v := .ref y52) (congrArg va_rf (show (pa1 p) = (some y52) from (by rw [hy53]))) ?_
                  refine z_iconst C (v := (nI 0)) dJ4_fixAfterInsertion_189 rfl ?_
                  refine z_st (st' := [.int (zb false), .ref y52]) rfl ?_
                  refine z_callS C (As := [.ref y52, .int (zb false)]) (mJ4_setColor (o := (some y52)) (c := false) hW564 (oM hm178)) (lw_S q715 q716 q64 q717) hd_J4_setColor rfl (Nat.le_of_ble_eq_true rfl) (by decide) (by decide) (by decide) (by decide) rfl dJ4_fixAfterInsertion_190 (fun _ _ h => h.elim) (fun r577 V578 hP579 => ?_)
                  obtain ⟨hW580, hU581⟩ := hP579
                  refine z_st (st' := []) rfl ?_
                  have hU582 := zUnc.tr (S := tC t L) hU566 hU581 (fun _ h => Or.inl h)
                  change tW _ _ _ _ _ _ _ (va_up cl568 y52 false) _ _ _ _ at hW580
                  obtain ⟨cl584, ec583⟩ : ∃ q, q = va_up cl568 y52 false := ⟨_, rfl⟩
                  rw [← ec583] at hW580
                  have k585 : cl584 y52 = false := by rw [ec583, zvs]
                  have k586 : cl584 y198 = true := by rw [ec583, zvn nx369]; exact k569
                  have k587 : cl584 p = true := by rw [ec583, zvn nx188]; exact k570
                  refine z_aload_n C 2 rfl dJ4_fixAfterInsertion_193 rfl ?_
                  refine z_callS C (As := [.ref x1]) (mJ4_parentOf (o := (some x1)) hW580 (oM hlp_3)) (lw_S q706 q707 q64 q708) hd_J4_parentOf rfl (Nat.le_of_ble_eq_true rfl) (by decide) (by decide) (by decide) (by decide) rfl dJ4_fixAfterInsertion_194 (fun _ _ h => h.elim) (fun r588 V589 hP590 => ?_)
                  rw [hP590.1, hP590.2]
                  refine z_st (st' := [va_rf (pa1 x1)]) rfl ?_
                  refine z_top (v := .ref p) (congrArg va_rf (show (pa1 x1) = (some p) from (by rw [hp]))) ?_
                  refine z_callS C (As := [.ref p]) (mJ4_parentOf (o := (some p)) hW580 (oM hm30)) (lw_S q706 q707 q64 q708) hd_J4_parentOf rfl (Nat.le_of_ble_eq_true rfl) (by decide) (by decide) (by decide) (by decide) rfl dJ4_fixAfterInsertion_197 (fun _ _ h => h.elim) (fun r591 V592 hP593 => ?_)
                  rw [hP593.1, hP593.2]
                  refine z_st (st' := [va_rf (pa1 p)]) rfl ?_
                  refine z_top (v := .ref y52) (congrArg va_rf (show (pa1 p) = (some y52) from (by rw [hy53]))) ?_
                  refine z_astore_n C [(1, .ref y52), (2, .ref y198), (0, .ref t)] dJ4_fixAfterInsertion_200 rfl (by decide) rfl ?_
                  refine z_goto C 255 dJ4_fixAfterInsertion_201 (by decide) ?_
                  refine z_goto C 5 dJ4_fixAfterInsertion_255 (by decide) ?_
                  refine z_pick [(0, .ref t), (1, .ref y52)] [2, 0] rfl ?_
                  have q1 := (hlp_1.mp hlp_3 hp).2
                  have q2 := (hlp_1.mp hm30 hy53).2
                  exact ih_lp V578 rt1 lf1 rg1 pa1 cl584 lo1 hi1 y52 hW580 hlp_1 hU582 hm178 (by omega)
            · skip
              have k594 : lf1 y52 = (some p) := Eq.symm c41
              obtain ⟨hm595, hp596, nx597⟩ := hlp_1.ml hm178 k594
              refine z_aload_n C 1 rfl dJ4_fixAfterInsertion_44 rfl ?_
              refine z_callS C (As := [.ref x1]) (mJ4_parentOf (o := (some x1)) hlp_0 (oM hlp_3)) (lw_S q706 q707 q64 q708) hd_J4_parentOf rfl (Nat.le_of_ble_eq_true rfl) (by decide) (by decide) (by decide) (by decide) rfl dJ4_fixAfterInsertion_45 (fun _ _ h => h.elim) (fun r598 V599 hP600 => ?_)
              rw [hP600.1, hP600.2]
              refine z_st (st' := [va_rf (pa1 x1)]) rfl ?_
              refine z_top (v := .ref p) (congrArg va_rf (show (pa1 x1) = (some p) from (by rw [hp]))) ?_
              refine z_callS C (As := [.ref p]) (mJ4_parentOf (o := (some p)) hlp_0 (oM hm30)) (lw_S q706 q707 q64 q708) hd_J4_parentOf rfl (Nat.le_of_ble_eq_true rfl) (by decide) (by decide) (by decide) (by decide) rfl dJ4_fixAfterInsertion_48 (fun _ _ h => h.elim) (fun r601 V602 hP603 => ?_)
              rw [hP603.1, hP603.2]
              refine z_st (st' := [va_rf (pa1 p)]) rfl ?_
              refine z_top (v := .ref y52) (congrArg va_rf (show (pa1 p) = (some y52) from (by rw [hy53]))) ?_
              refine z_callS C (As := [.ref y52]) (mJ4_rightOf (o := (some y52)) hlp_0 (oM hm178)) (lw_S q712 q713 q64 q714) hd_J4_rightOf rfl (Nat.le_of_ble_eq_true rfl) (by decide) (by decide) (by decide) (by decide) rfl dJ4_fixAfterInsertion_51 (fun _ _ h => h.elim) (fun r604 V605 hP606 => ?_)
              rw [hP606.1, hP606.2]
              refine z_st (st' := [va_rf (rg1 y52)]) rfl ?_
              refine z_astore_nQ C (r := (rg1 y52)) [(2, va_rf (rg1 y52)), (0, .ref t), (1, .ref x1)] dJ4_fixAfterInsertion_54 rfl (by decide) rfl ?_
              refine z_aload_nQ C 0 (r := (rg1 y52)) rfl dJ4_fixAfterInsertion_55 rfl ?_
              rcases hy608 : rg1 y52 with _ | y607
              · skip
                refine z_callS C (As := [.null]) (mJ4_colorOf (o := none) hlp_0 oN) (lw_S q703 q704 q64 q705) hd_J4_colorOf rfl (Nat.le_of_ble_eq_true rfl) (by decide) (by decide) (by decide) (by decide) rfl dJ4_fixAfterInsertion_56 (fun _ _ h => h.elim) (fun r609 V610 hP611 => ?_)
                rw [hP611.1, hP611.2]
                refine z_st (st' := [.int (zb true)]) rfl ?_
                refine z_if_neB C 97 dJ4_fixAfterInsertion_59 (by decide) (fun c59 => ?_) (fun c59 => ?_)
                · skip
                  have k612 : true = true := c59
                  refine z_aload_n C 2 rfl dJ4_fixAfterInsertion_97 rfl ?_
                  refine z_aload_n C 2 rfl dJ4_fixAfterInsertion_98 rfl ?_
                  refine z_callS C (As := [.ref x1]) (mJ4_parentOf (o := (some x1)) hlp_0 (oM hlp_3)) (lw_S q706 q707 q64 q708) hd_J4_parentOf rfl (Nat.le_of_ble_eq_true rfl) (by decide) (by decide) (by decide) (by decide) rfl dJ4_fixAfterInsertion_99 (fun _ _ h => h.elim) (fun r613 V614 hP615 => ?_)
                  rw [hP615.1, hP615.2]
                  refine z_st (st' := [va_rf (pa1 x1), .ref x1]) rfl ?_
                  refine z_top (v := .ref p) (congrArg va_rf (show (pa1 x1) = (some p) from (by rw [hp]))) ?_
                  refine z_callS C (As := [.ref p]) (mJ4_rightOf (o := (some p)) hlp_0 (oM hm30)) (lw_S q712 q713 q64 q714) hd_J4_rightOf rfl (Nat.le_of_ble_eq_true rfl) (by decide) (by decide) (by decide) (by decide) rfl dJ4_fixAfterInsertion_102 (fun _ _ h => h.elim) (fun r616 V617 hP618 => ?_)
                  rw [hP618.1, hP618.2]
                  refine z_st (st' := [va_rf (rg1 p), .ref x1]) rfl ?_
                  refine z_acmp_ne C (some x1) (rg1 p) 118 dJ4_fixAfterInsertion_105 (by decide) (fun c105 => ?_) (fun c105 => ?_)
                  · skip
                    have k619 : ¬ rg1 p = (some x1) := fun z => c105 (Eq.symm z)
                    have k620 := hlp_1.sdL hlp_3 hp k619
                    obtain ⟨hm621, hp622, nx623⟩ := hlp_1.ml hm30 k620
                    refine z_aload_n C 2 rfl dJ4_fixAfterInsertion_118 rfl ?_
                    refine z_callS C (As := [.ref x1]) (mJ4_parentOf (o := (some x1)) hlp_0 (oM hlp_3)) (lw_S q706 q707 q64 q708) hd_J4_parentOf rfl (Nat.le_of_ble_eq_true rfl) (by decide) (by decide) (by decide) (by decide) rfl dJ4_fixAfterInsertion_119 (fun _ _ h => h.elim) (fun r624 V625 hP626 => ?_)
                    rw [hP626.1, hP626.2]
                    refine z_st (st' := [va_rf (pa1 x1)]) rfl ?_
                    refine z_top (v := .ref p) (congrArg va_rf (show (pa1 x1) = (some p) from (by rw [hp]))) ?_
                    refine z_iconst C (v := (nI 1)) dJ4_fixAfterInsertion_122 rfl ?_
                    refine z_st (st' := [.int (zb true), .ref p]) rfl ?_
                    refine z_callS C (As := [.ref p, .int (zb true)]) (mJ4_setColor (o := (some p)) (c := true) hlp_0 (oM hm30)) (lw_S q715 q716 q64 q717) hd_J4_setColor rfl (Nat.le_of_ble_eq_true rfl) (by decide) (by decide) (by decide) (by decide) rfl dJ4_fixAfterInsertion_123 (fun _ _ h => h.elim) (fun r627 V628 hP629 => ?_)
                    obtain ⟨hW630, hU631⟩ := hP629
                    refine z_st (st' := []) rfl ?_
                    have hU632 := zUnc.tr (S := tC t L) hlp_2 hU631 (fun _ h => Or.inl h)
                    change tW _ _ _ _ _ _ _ (va_up cl1 p true) _ _ _ _ at hW630
                    obtain ⟨cl634, ec633⟩ : ∃ q, q = va_up cl1 p true := ⟨_, rfl⟩
                    rw [← ec633] at hW630
                    have k635 : cl634 p = true := by rw [ec633, zvs]
                    refine z_aload_n C 2 rfl dJ4_fixAfterInsertion_126 rfl ?_
                    refine z_callS C (As := [.ref x1]) (mJ4_parentOf (o := (some x1)) hW630 (oM hlp_3)) (lw_S q706 q707 q64 q708) hd_J4_parentOf rfl (Nat.le_of_ble_eq_true rfl) (by decide) (by decide) (by decide) (by decide) rfl dJ4_fixAfterInsertion_127 (fun _ _ h => h.elim) (fun r636 V637 hP638 => ?_)
                    rw [hP638.1, hP638.2]
                    refine z_st (st' := [va_rf (pa1 x1)]) rfl ?_
                    refine z_top (v := .ref p) (congrArg va_rf (show (pa1 x1) = (some p) from (by rw [hp]))) ?_
                    refine z_callS C (As := [.ref p]) (mJ4_parentOf (o := (some p)) hW630 (oM hm30)) (lw_S q706 q707 q64 q708) hd_J4_parentOf rfl (Nat.le_of_ble_eq_true rfl) (by decide) (by decide) (by decide) (by decide) rfl dJ4_fixAfterInsertion_130 (fun _ _ h => h.elim) (fun r639 V640 hP641 => ?_)
                    rw [hP641.1, hP641.2]
                    refine z_st (st' := [va_rf (pa1 p)]) rfl ?_
                    refine z_top (v := .ref y52) (congrArg va_rf (show (pa1 p) = (some y52) from (by rw [hy53]))) ?_
                    refine z_iconst C (v := (nI 0)) dJ4_fixAfterInsertion_133 rfl ?_
                    refine z_st (st' := [.int (zb false), .ref y52]) rfl ?_
                    refine z_callS C (As := [.ref y52, .int (zb false)]) (mJ4_setColor (o := (some y52)) (c := false) hW630 (oM hm178)) (lw_S q715 q716 q64 q717) hd_J4_setColor rfl (Nat.le_of_ble_eq_true rfl) (by decide) (by decide) (by decide) (by decide) rfl dJ4_fixAfterInsertion_134 (fun _ _ h => h.elim) (fun r642 V643 hP644 => ?_)
                    obtain ⟨hW645, hU646⟩ := hP644
                    refine z_st (st' := []) rfl ?_
                    have hU647 := zUnc.tr (S := tC t L) hU632 hU646 (fun _ h => Or.inl h)
                    change tW _ _ _ _ _ _ _ (va_up cl634 y52 false) _ _ _ _ at hW645
                    obtain ⟨cl649, ec648⟩ : ∃ q, q = va_up cl634 y52 false := ⟨_, rfl⟩
                    rw [← ec648] at hW645
                    have k650 : cl649 y52 = false := by rw [ec648, zvs]
                    have k651 : cl649 p = true := by rw [ec648, zvn nx597]; exact k635
                    refine z_aload_n C 1 rfl dJ4_fixAfterInsertion_137 rfl ?_
                    refine z_aload_n C 2 rfl dJ4_fixAfterInsertion_138 rfl ?_
                    refine z_callS C (As := [.ref x1]) (mJ4_parentOf (o := (some x1)) hW645 (oM hlp_3)) (lw_S q706 q707 q64 q708) hd_J4_parentOf rfl (Nat.le_of_ble_eq_true rfl) (by decide) (by decide) (by decide) (by decide) rfl dJ4_fixAfterInsertion_139 (fun _ _ h => h.elim) (fun r652 V653 hP654 => ?_)
                    rw [hP654.1, hP654.2]
                    refine z_st (st' := [va_rf (pa1 x1), .ref t]) rfl ?_
                    refine z_top (v := .ref p) (congrArg va_rf (show (pa1 x1) = (some p) from (by rw [hp]))) ?_
                    refine z_callS C (As := [.ref p]) (mJ4_parentOf (o := (some p)) hW645 (oM hm30)) (lw_S q706 q707 q64 q708) hd_J4_parentOf rfl (Nat.le_of_ble_eq_true rfl) (by decide) (by decide) (by decide) (by decide) rfl dJ4_fixAfterInsertion_142 (fun _ _ h => h.elim) (fun r655 V656 hP657 => ?_)
                    rw [hP657.1, hP657.2]
                    refine z_st (st' := [va_rf (pa1 p), .ref t]) rfl ?_
                    refine z_top (v := .ref y52) (congrArg va_rf (show (pa1 p) = (some y52) from (by rw [hy53]))) ?_
                    refine z_callV C k_TM hW645.1 (As := [.ref y52]) (mJ4_rotateRight hW645 hlp_1 hm178 k594) (lw_V q722 q724 qs9 q64 q725) rfl hd_J4_rotateRight rfl (Nat.le_of_ble_eq_true rfl) (by decide) (by decide) (by decide) (by decide) rfl dJ4_fixAfterInsertion_145 (fun _ _ h => h.elim) (fun r658 V659 hP660 => ?_)
                    obtain ⟨hW661, hU662⟩ := hP660
                    refine z_st (st' := []) rfl ?_
                    have hU663 := zUnc.tr (S := tC t L) hU647 hU662 (fun _ h => Or.inl h)
                    have hI664 := tI_rotR hlp_1 hm178 k594
                    obtain ⟨lf671, eB666⟩ : ∃ q, q = xR rg1 lf1 y52 p := ⟨_, rfl⟩
                    rw [← eB666] at hW661 hI664
                    obtain ⟨pa672, eP667⟩ : ∃ q, q = xP rg1 pa1 y52 p := ⟨_, rfl⟩
                    rw [← eP667] at hW661 hI664
                    obtain ⟨rg673, eA665⟩ : ∃ q, q = xL rg1 y52 p := ⟨_, rfl⟩
                    rw [← eA665] at hW661 hI664
                    obtain ⟨rt674, eT668⟩ : ∃ q, q = xT rt1 y52 p := ⟨_, rfl⟩
                    rw [← eT668] at hW661 hI664
                    obtain ⟨lo675, elo669⟩ : ∃ q, q = va_up lo1 y52 (ps p + 1) := ⟨_, rfl⟩
                    rw [← elo669] at hI664
                    obtain ⟨hi676, ehi670⟩ : ∃ q, q = va_up hi1 p (hi1 y52) := ⟨_, rfl⟩
                    rw [← ehi670] at hI664
                    have k677 : rg673 p = (some y52) := by rw [eA665]; exact xL_r
                    have k678 : pa672 y52 = (some p) := by rw [eP667]; exact xP_p
                    have nx679 : x1 ≠ y52 := (tI.gg hlp_1 hlp_3 hp hm30 hy53)
                    have k680 : pa672 x1 = (some p) := by rw [eP667, xP_o nx679 nx623 (hlp_1.lr hm30 k620)]; exact hp
                    have k681 : rg673 y52 = none := by rw [eA665, xL_o nx180 (sn_ne hy608)]; exact hy608
                    have k682 : lf671 p = (some x1) := by rw [eB666, xR_o nx597 (so_ne k620 nx679)]; exact k620
                    refine z_goto C 5 dJ4_fixAfterInsertion_148 (by decide) ?_
                    refine z_pick [(0, .ref t), (1, .ref x1)] [1, 2] rfl ?_
                    exact hexit V659 rt674 lf671 rg673 pa672 cl649 lo675 hi676 x1 hW661 hI664 hU663 hlp_3 (Or.inr ⟨p, k680, k651⟩)
                  · skip
                    have k683 : rg1 p = (some x1) := Eq.symm c105
                    obtain ⟨hm684, hp685, nx686⟩ := hlp_1.mr hm30 k683
                    refine z_aload_n C 2 rfl dJ4_fixAfterInsertion_108 rfl ?_
                    refine z_callS C (As := [.ref x1]) (mJ4_parentOf (o := (some x1)) hlp_0 (oM hlp_3)) (lw_S q706 q707 q64 q708) hd_J4_parentOf rfl (Nat.le_of_ble_eq_true rfl) (by decide) (by decide) (by decide) (by decide) rfl dJ4_fixAfterInsertion_109 (fun _ _ h => h.elim) (fun r687 V688 hP689 => ?_)
                    rw [hP689.1, hP689.2]
                    refine z_st (st' := [va_rf (pa1 x1)]) rfl ?_
                    refine z_top (v := .ref p) (congrArg va_rf (show (pa1 x1) = (some p) from (by rw [hp]))) ?_
                    refine z_astore_n C [(1, .ref p), (2, .null), (0, .ref t)] dJ4_fixAfterInsertion_112 rfl (by decide) rfl ?_
                    refine z_aload_n C 2 rfl dJ4_fixAfterInsertion_113 rfl ?_
                    refine z_aload_n C 0 rfl dJ4_fixAfterInsertion_114 rfl ?_
                    refine z_callV C k_TM hlp_0.1 (As := [.ref p]) (mJ4_rotateLeft hlp_0 hlp_1 hm30 k683) (lw_V q718 q720 qs8 q64 q721) rfl hd_J4_rotateLeft rfl (Nat.le_of_ble_eq_true rfl) (by decide) (by decide) (by decide) (by decide) rfl dJ4_fixAfterInsertion_115 (fun _ _ h => h.elim) (fun r690 V691 hP692 => ?_)
                    obtain ⟨hW693, hU694⟩ := hP692
                    refine z_st (st' := []) rfl ?_
                    have hU695 := zUnc.tr (S := tC t L) hlp_2 hU694 (fun _ h => Or.inl h)
                    have hI696 := tI_rotL hlp_1 hm30 k683
                    obtain ⟨rg703, eB698⟩ : ∃ q, q = xR lf1 rg1 p x1 := ⟨_, rfl⟩
                    rw [← eB698] at hW693 hI696
                    obtain ⟨pa704, eP699⟩ : ∃ q, q = xP lf1 pa1 p x1 := ⟨_, rfl⟩
                    rw [← eP699] at hW693 hI696
                    obtain ⟨lf705, eA697⟩ : ∃ q, q = xL lf1 p x1 := ⟨_, rfl⟩
                    rw [← eA697] at hW693 hI696
                    obtain ⟨rt706, eT700⟩ : ∃ q, q = xT rt1 p x1 := ⟨_, rfl⟩
                    rw [← eT700] at hW693 hI696
                    obtain ⟨lo707, elo701⟩ : ∃ q, q = va_up lo1 x1 (lo1 p) := ⟨_, rfl⟩
                    rw [← elo701] at hI696
                    obtain ⟨hi708, ehi702⟩ : ∃ q, q = va_up hi1 p (ps x1) := ⟨_, rfl⟩
                    rw [← ehi702] at hI696
                    have k709 : lf705 x1 = (some p) := by rw [eA697]; exact xL_r
                    have k710 : pa704 p = (some x1) := by rw [eP699]; exact xP_p
                    have k711 : pa704 x1 = (some y52) := by rw [eP699, xP_r nx686]; exact hy53
                    have nx712 : y52 ≠ x1 := (Ne.symm (tI.gg hlp_1 hlp_3 hp hm30 hy53))
                    have k713 : lf705 y52 = (some x1) := by rw [eA697]; exact xL_u nx712 k594
                    have k714 : rg703 y52 = none := by rw [eB698, xR_o nx180 (sn_ne hy608)]; exact hy608
                    refine z_aload_n C 0 rfl dJ4_fixAfterInsertion_118 rfl ?_
                    refine z_callS C (As := [.ref p]) (mJ4_parentOf (o := (some p)) hW693 (oM hm30)) (lw_S q706 q707 q64 q708) hd_J4_parentOf rfl (Nat.le_of_ble_eq_true rfl) (by decide) (by decide) (by decide) (by decide) rfl dJ4_fixAfterInsertion_119 (fun _ _ h => h.elim) (fun r715 V716 hP717 => ?_)
                    rw [hP717.1, hP717.2]
                    refine z_st (st' := [va_rf (pa704 p)]) rfl ?_
                    refine z_top (v := .ref x1) (congrArg va_rf (show (pa704 p) = (some x1) from (by rw [k710]))) ?_
                    refine z_iconst C (v := (nI 1)) dJ4_fixAfterInsertion_122 rfl ?_
                    refine z_st (st' := [.int (zb true), .ref x1]) rfl ?_
                    refine z_callS C (As := [.ref x1, .int (zb true)]) (mJ4_setColor (o := (some x1)) (c := true) hW693 (oM hlp_3)) (lw_S q715 q716 q64 q717) hd_J4_setColor rfl (Nat.le_of_ble_eq_true rfl) (by decide) (by decide) (by decide) (by decide) rfl dJ4_fixAfterInsertion_123 (fun _ _ h => h.elim) (fun r718 V719 hP720 => ?_)
                    obtain ⟨hW721, hU722⟩ := hP720
                    refine z_st (st' := []) rfl ?_
                    have hU723 := zUnc.tr (S := tC t L) hU695 hU722 (fun _ h => Or.inl h)
                    change tW _ _ _ _ _ _ _ (va_up cl1 x1 true) _ _ _ _ at hW721
                    obtain ⟨cl725, ec724⟩ : ∃ q, q = va_up cl1 x1 true := ⟨_, rfl⟩
                    rw [← ec724] at hW721
                    have k726 : cl725 x1 = true := by rw [ec724, zvs]
                    have k727 : cl725 p = false := by rw [ec724, zvn nx32]; exact k42
                    refine z_aload_n C 0 rfl dJ4_fixAfterInsertion_126 rfl ?_
                    refine z_callS C (As := [.ref p]) (mJ4_parentOf (o := (some p)) hW721 (oM hm30)) (lw_S q706 q707 q64 q708) hd_J4_parentOf rfl (Nat.le_of_ble_eq_true rfl) (by decide) (by decide) (by decide) (by decide) rfl dJ4_fixAfterInsertion_127 (fun _ _ h => h.elim) (fun r728 V729 hP730 => ?_)
                    rw [hP730.1, hP730.2]
                    refine z_st (st' := [va_rf (pa704 p)]) rfl ?_
                    refine z_top (v := .ref x1) (congrArg va_rf (show (pa704 p) = (some x1) from (by rw [k710]))) ?_
                    refine z_callS C (As := [.ref x1]) (mJ4_parentOf (o := (some x1)) hW721 (oM hlp_3)) (lw_S q706 q707 q64 q708) hd_J4_parentOf rfl (Nat.le_of_ble_eq_true rfl) (by decide) (by decide) (by decide) (by decide) rfl dJ4_fixAfterInsertion_130 (fun _ _ h => h.elim) (fun r731 V732 hP733 => ?_)
                    rw [hP733.1, hP733.2]
                    refine z_st (st' := [va_rf (pa704 x1)]) rfl ?_
                    refine z_top (v := .ref y52) (congrArg va_rf (show (pa704 x1) = (some y52) from (by rw [k711]))) ?_
                    refine z_iconst C (v := (nI 0)) dJ4_fixAfterInsertion_133 rfl ?_
                    refine z_st (st' := [.int (zb false), .ref y52]) rfl ?_
                    refine z_callS C (As := [.ref y52, .int (zb false)]) (mJ4_setColor (o := (some y52)) (c := false) hW721 (oM hm178)) (lw_S q715 q716 q64 q717) hd_J4_setColor rfl (Nat.le_of_ble_eq_true rfl) (by decide) (by decide) (by decide) (by decide) rfl dJ4_fixAfterInsertion_134 (fun _ _ h => h.elim) (fun r734 V735 hP736 => ?_)
                    obtain ⟨hW737, hU738⟩ := hP736
                    refine z_st (st' := []) rfl ?_
                    have hU739 := zUnc.tr (S := tC t L) hU723 hU738 (fun _ h => Or.inl h)
                    change tW _ _ _ _ _ _ _ (va_up cl725 y52 false) _ _ _ _ at hW737
                    obtain ⟨cl741, ec740⟩ : ∃ q, q = va_up cl725 y52 false := ⟨_, rfl⟩
                    rw [← ec740] at hW737
                    have k742 : cl741 y52 = false := by rw [ec740, zvs]
                    have k743 : cl741 x1 = true := by rw [ec740, zvn (Ne.symm nx712)]; exact k726
                    have k744 : cl741 p = false := by rw [ec740, zvn nx597]; exact k727
                    refine z_aload_n C 2 rfl dJ4_fixAfterInsertion_137 rfl ?_
                    refine z_aload_n C 0 rfl dJ4_fixAfterInsertion_138 rfl ?_
                    refine z_callS C (As := [.ref p]) (mJ4_parentOf (o := (some p)) hW737 (oM hm30)) (lw_S q706 q707 q64 q708) hd_J4_parentOf rfl (Nat.le_of_ble_eq_true rfl) (by decide) (by decide) (by decide) (by decide) rfl dJ4_fixAfterInsertion_139 (fun _ _ h => h.elim) (fun r745 V746 hP747 => ?_)
                    rw [hP747.1, hP747.2]
                    refine z_st (st' := [va_rf (pa704 p), .ref t]) rfl ?_
                    refine z_top (v := .ref x1) (congrArg va_rf (show (pa704 p) = (some x1) from (by rw [k710]))) ?_
                    refine z_callS C (As := [.ref x1]) (mJ4_parentOf (o := (some x1)) hW737 (oM hlp_3)) (lw_S q706 q707 q64 q708) hd_J4_parentOf rfl (Nat.le_of_ble_eq_true rfl) (by decide) (by decide) (by decide) (by decide) rfl dJ4_fixAfterInsertion_142 (fun _ _ h => h.elim) (fun r748 V749 hP750 => ?_)
                    rw [hP750.1, hP750.2]
                    refine z_st (st' := [va_rf (pa704 x1), .ref t]) rfl ?_
                    refine z_top (v := .ref y52) (congrArg va_rf (show (pa704 x1) = (some y52) from (by rw [k711]))) ?_
                    refine z_callV C k_TM hW737.1 (As := [.ref y52]) (mJ4_rotateRight hW737 hI696 hm178 k713) (lw_V q722 q724 qs9 q64 q725) rfl hd_J4_rotateRight rfl (Nat.le_of_ble_eq_true rfl) (by decide) (by decide) (by decide) (by decide) rfl dJ4_fixAfterInsertion_145 (fun _ _ h => h.elim) (fun r751 V752 hP753 => ?_)
                    obtain ⟨hW754, hU755⟩ := hP753
                    refine z_st (st' := []) rfl ?_
                    have hU756 := zUnc.tr (S := tC t L) hU739 hU755 (fun _ h => Or.inl h)
                    have hI757 := tI_rotR hI696 hm178 k713
                    obtain ⟨lf764, eB759⟩ : ∃ q, q = xR rg703 lf705 y52 x1 := ⟨_, rfl⟩
                    rw [← eB759] at hW754 hI757
                    obtain ⟨pa765, eP760⟩ : ∃ q, q = xP rg703 pa704 y52 x1 := ⟨_, rfl⟩
                    rw [← eP760] at hW754 hI757
                    obtain ⟨rg766, eA758⟩ : ∃ q, q = xL rg703 y52 x1 := ⟨_, rfl⟩
                    rw [← eA758] at hW754 hI757
                    obtain ⟨rt767, eT761⟩ : ∃ q, q = xT rt706 y52 x1 := ⟨_, rfl⟩
                    rw [← eT761] at hW754 hI757
                    obtain ⟨lo768, elo762⟩ : ∃ q, q = va_up lo707 y52 (ps x1 + 1) := ⟨_, rfl⟩
                    rw [← elo762] at hI757
                    obtain ⟨hi769, ehi763⟩ : ∃ q, q = va_up hi708 x1 (hi708 y52) := ⟨_, rfl⟩
                    rw [← ehi763] at hI757
                    have k770 : rg766 x1 = (some y52) := by rw [eA758]; exact xL_r
                    have k771 : pa765 y52 = (some x1) := by rw [eP760]; exact xP_p
                    have k772 : lf764 x1 = (some p) := by rw [eB759, xR_o (Ne.symm nx712) (so_ne k709 nx597)]; exact k709
                    have k773 : pa765 p = (some x1) := by rw [eP760, xP_o nx597 nx32 (hI696.lr hlp_3 k709)]; exact k710
                    have k774 : rg766 y52 = none := by rw [eA758, xL_o nx712 (sn_ne k714)]; exact k714
                    refine z_goto C 5 dJ4_fixAfterInsertion_148 (by decide) ?_
                    refine z_pick [(0, .ref t), (1, .ref p)] [2, 0] rfl ?_
                    exact hexit V752 rt767 lf764 rg766 pa765 cl741 lo768 hi769 p hW754 hI757 hU756 hm30 (Or.inr ⟨x1, k773, k743⟩)
                · skip
                  have k775 : true = false := c59
                  cases k775
              · skip
                obtain ⟨hm776, hp777, nx778⟩ := hlp_1.mr hm178 hy608
                refine z_callS C (As := [.ref y607]) (mJ4_colorOf (o := (some y607)) hlp_0 (oM hm776)) (lw_S q703 q704 q64 q705) hd_J4_colorOf rfl (Nat.le_of_ble_eq_true rfl) (by decide) (by decide) (by decide) (by decide) rfl dJ4_fixAfterInsertion_56 (fun _ _ h => h.elim) (fun r779 V780 hP781 => ?_)
                rw [hP781.1, hP781.2]
                refine z_st (st' := [.int (zb (cl1 y607))]) rfl ?_
                refine z_if_neB C 97 dJ4_fixAfterInsertion_59 (by decide) (fun c59 => ?_) (fun c59 => ?_)
                · skip
                  have k782 : (cl1 y607) = true := c59
                  refine z_aload_n C 2 rfl dJ4_fixAfterInsertion_97 rfl ?_
                  refine z_aload_n C 2 rfl dJ4_fixAfterInsertion_98 rfl ?_
                  refine z_callS C (As := [.ref x1]) (mJ4_parentOf (o := (some x1)) hlp_0 (oM hlp_3)) (lw_S q706 q707 q64 q708) hd_J4_parentOf rfl (Nat.le_of_ble_eq_true rfl) (by decide) (by decide) (by decide) (by decide) rfl dJ4_fixAfterInsertion_99 (fun _ _ h => h.elim) (fun r783 V784 hP785 => ?_)
                  rw [hP785.1, hP785.2]
                  refine z_st (st' := [va_rf (pa1 x1), .ref x1]) rfl ?_
                  refine z_top (v := .ref p) (congrArg va_rf (show (pa1 x1) = (some p) from (by rw [hp]))) ?_
                  refine z_callS C (As := [.ref p]) (mJ4_rightOf (o := (some p)) hlp_0 (oM hm30)) (lw_S q712 q713 q64 q714) hd_J4_rightOf rfl (Nat.le_of_ble_eq_true rfl) (by decide) (by decide) (by decide) (by decide) rfl dJ4_fixAfterInsertion_102 (fun _ _ h => h.elim) (fun r786 V787 hP788 => ?_)
                  rw [hP788.1, hP788.2]
                  refine z_st (st' := [va_rf (rg1 p), .ref x1]) rfl ?_
                  refine z_acmp_ne C (some x1) (rg1 p) 118 dJ4_fixAfterInsertion_105 (by decide) (fun c105 => ?_) (fun c105 => ?_)
                  · skip
                    have k789 : ¬ rg1 p = (some x1) := fun z => c105 (Eq.symm z)
                    have k790 := hlp_1.sdL hlp_3 hp k789
                    obtain ⟨hm791, hp792, nx793⟩ := hlp_1.ml hm30 k790
                    refine z_aload_n C 2 rfl dJ4_fixAfterInsertion_118 rfl ?_
                    refine z_callS C (As := [.ref x1]) (mJ4_parentOf (o := (some x1)) hlp_0 (oM hlp_3)) (lw_S q706 q707 q64 q708) hd_J4_parentOf rfl (Nat.le_of_ble_eq_true rfl) (by decide) (by decide) (by decide) (by decide) rfl dJ4_fixAfterInsertion_119 (fun _ _ h => h.elim) (fun r794 V795 hP796 => ?_)
                    rw [hP796.1, hP796.2]
                    refine z_st (st' := [va_rf (pa1 x1)]) rfl ?_
                    refine z_top (v := .ref p) (congrArg va_rf (show (pa1 x1) = (some p) from (by rw [hp]))) ?_
                    refine z_iconst C (v := (nI 1)) dJ4_fixAfterInsertion_122 rfl ?_
                    refine z_st (st' := [.int (zb true), .ref p]) rfl ?_
                    refine z_callS C (As := [.ref p, .int (zb true)]) (mJ4_setColor (o := (some p)) (c := true) hlp_0 (oM hm30)) (lw_S q715 q716 q64 q717) hd_J4_setColor rfl (Nat.le_of_ble_eq_true rfl) (by decide) (by decide) (by decide) (by decide) rfl dJ4_fixAfterInsertion_123 (fun _ _ h => h.elim) (fun r797 V798 hP799 => ?_)
                    obtain ⟨hW800, hU801⟩ := hP799
                    refine z_st (st' := []) rfl ?_
                    have hU802 := zUnc.tr (S := tC t L) hlp_2 hU801 (fun _ h => Or.inl h)
                    change tW _ _ _ _ _ _ _ (va_up cl1 p true) _ _ _ _ at hW800
                    obtain ⟨cl804, ec803⟩ : ∃ q, q = va_up cl1 p true := ⟨_, rfl⟩
                    rw [← ec803] at hW800
                    have k805 : cl804 p = true := by rw [ec803, zvs]
                    have nx806 : y607 ≠ p := (Ne.symm (tI.sib hlp_1 hm178 k594 hy608))
                    have k807 : cl804 y607 = true := by rw [ec803, zvn nx806]; exact k782
                    refine z_aload_n C 2 rfl dJ4_fixAfterInsertion_126 rfl ?_
                    refine z_callS C (As := [.ref x1]) (mJ4_parentOf (o := (some x1)) hW800 (oM hlp_3)) (lw_S q706 q707 q64 q708) hd_J4_parentOf rfl (Nat.le_of_ble_eq_true rfl) (by decide) (by decide) (by decide) (by decide) rfl dJ4_fixAfterInsertion_127 (fun _ _ h => h.elim) (fun r808 V809 hP810 => ?_)
                    rw [hP810.1, hP810.2]
                    refine z_st (st' := [va_rf (pa1 x1)]) rfl ?_
                    refine z_top (v := .ref p) (congrArg va_rf (show (pa1 x1) = (some p) from (by rw [hp]))) ?_
                    refine z_callS C (As := [.ref p]) (mJ4_parentOf (o := (some p)) hW800 (oM hm30)) (lw_S q706 q707 q64 q708) hd_J4_parentOf rfl (Nat.le_of_ble_eq_true rfl) (by decide) (by decide) (by decide) (by decide) rfl dJ4_fixAfterInsertion_130 (fun _ _ h => h.elim) (fun r811 V812 hP813 => ?_)
                    rw [hP813.1, hP813.2]
                    refine z_st (st' := [va_rf (pa1 p)]) rfl ?_
                    refine z_top (v := .ref y52) (congrArg va_rf (show (pa1 p) = (some y52) from (by rw [hy53]))) ?_
                    refine z_iconst C (v := (nI 0)) dJ4_fixAfterInsertion_133 rfl ?_
                    refine z_st (st' := [.int (zb false), .ref y52]) rfl ?_
                    refine z_callS C (As := [.ref y52, .int (zb false)]) (mJ4_setColor (o := (some y52)) (c := false) hW800 (oM hm178)) (lw_S q715 q716 q64 q717) hd_J4_setColor rfl (Nat.le_of_ble_eq_true rfl) (by decide) (by decide) (by decide) (by decide) rfl dJ4_fixAfterInsertion_134 (fun _ _ h => h.elim) (fun r814 V815 hP816 => ?_)
                    obtain ⟨hW817, hU818⟩ := hP816
                    refine z_st (st' := []) rfl ?_
                    have hU819 := zUnc.tr (S := tC t L) hU802 hU818 (fun _ h => Or.inl h)
                    change tW _ _ _ _ _ _ _ (va_up cl804 y52 false) _ _ _ _ at hW817
                    obtain ⟨cl821, ec820⟩ : ∃ q, q = va_up cl804 y52 false := ⟨_, rfl⟩
                    rw [← ec820] at hW817
                    have k822 : cl821 y52 = false := by rw [ec820, zvs]
                    have k823 : cl821 p = true := by rw [ec820, zvn nx597]; exact k805
                    have k824 : cl821 y607 = true := by rw [ec820, zvn nx778]; exact k807
                    refine z_aload_n C 1 rfl dJ4_fixAfterInsertion_137 rfl ?_
                    refine z_aload_n C 2 rfl dJ4_fixAfterInsertion_138 rfl ?_
                    refine z_callS C (As := [.ref x1]) (mJ4_parentOf (o := (some x1)) hW817 (oM hlp_3)) (lw_S q706 q707 q64 q708) hd_J4_parentOf rfl (Nat.le_of_ble_eq_true rfl) (by decide) (by decide) (by decide) (by decide) rfl dJ4_fixAfterInsertion_139 (fun _ _ h => h.elim) (fun r825 V826 hP827 => ?_)
                    rw [hP827.1, hP827.2]
                    refine z_st (st' := [va_rf (pa1 x1), .ref t]) rfl ?_
                    refine z_top (v := .ref p) (congrArg va_rf (show (pa1 x1) = (some p) from (by rw [hp]))) ?_
                    refine z_callS C (As := [.ref p]) (mJ4_parentOf (o := (some p)) hW817 (oM hm30)) (lw_S q706 q707 q64 q708) hd_J4_parentOf rfl (Nat.le_of_ble_eq_true rfl) (by decide) (by decide) (by decide) (by decide) rfl dJ4_fixAfterInsertion_142 (fun _ _ h => h.elim) (fun r828 V829 hP830 => ?_)
                    rw [hP830.1, hP830.2]
                    refine z_st (st' := [va_rf (pa1 p), .ref t]) rfl ?_
                    refine z_top (v := .ref y52) (congrArg va_rf (show (pa1 p) = (some y52) from (by rw [hy53]))) ?_
                    refine z_callV C k_TM hW817.1 (As := [.ref y52]) (mJ4_rotateRight hW817 hlp_1 hm178 k594) (lw_V q722 q724 qs9 q64 q725) rfl hd_J4_rotateRight rfl (Nat.le_of_ble_eq_true rfl) (by decide) (by decide) (by decide) (by decide) rfl dJ4_fixAfterInsertion_145 (fun _ _ h => h.elim) (fun r831 V832 hP833 => ?_)
                    obtain ⟨hW834, hU835⟩ := hP833
                    refine z_st (st' := []) rfl ?_
                    have hU836 := zUnc.tr (S := tC t L) hU819 hU835 (fun _ h => Or.inl h)
                    have hI837 := tI_rotR hlp_1 hm178 k594
                    obtain ⟨lf844, eB839⟩ : ∃ q, q = xR rg1 lf1 y52 p := ⟨_, rfl⟩
                    rw [← eB839] at hW834 hI837
                    obtain ⟨pa845, eP840⟩ : ∃ q, q = xP rg1 pa1 y52 p := ⟨_, rfl⟩
                    rw [← eP840] at hW834 hI837
                    obtain ⟨rg846, eA838⟩ : ∃ q, q = xL rg1 y52 p := ⟨_, rfl⟩
                    rw [← eA838] at hW834 hI837
                    obtain ⟨rt847, eT841⟩ : ∃ q, q = xT rt1 y52 p := ⟨_, rfl⟩
                    rw [← eT841] at hW834 hI837
                    obtain ⟨lo848, elo842⟩ : ∃ q, q = va_up lo1 y52 (ps p + 1) := ⟨_, rfl⟩
                    rw [← elo842] at hI837
                    obtain ⟨hi849, ehi843⟩ : ∃ q, q = va_up hi1 p (hi1 y52) := ⟨_, rfl⟩
                    rw [← ehi843] at hI837
                    have k850 : rg846 p = (some y52) := by rw [eA838]; exact xL_r
                    have k851 : pa845 y52 = (some p) := by rw [eP840]; exact xP_p
                    have nx852 : x1 ≠ y52 := (tI.gg hlp_1 hlp_3 hp hm30 hy53)
                    have k853 : pa845 x1 = (some p) := by rw [eP840, xP_o nx852 nx793 (hlp_1.lr hm30 k790)]; exact hp
                    have k854 : rg846 y52 = (some y607) := by rw [eA838, xL_o nx180 (so_ne hy608 nx778)]; exact hy608
                    have k855 : pa845 y607 = (some y52) := by rw [eP840, xP_o nx778 nx806 (fun z => nx180 (Option.some.inj (hp777.symm.trans (hlp_1.mr hm30 z).2.1)))]; exact hp777
                    have k856 : lf844 p = (some x1) := by rw [eB839, xR_o nx597 (so_ne k790 nx852)]; exact k790
                    refine z_goto C 5 dJ4_fixAfterInsertion_148 (by decide) ?_
                    refine z_pick [(0, .ref t), (1, .ref x1)] [1, 2] rfl ?_
                    exact hexit V832 rt847 lf844 rg846 pa845 cl821 lo848 hi849 x1 hW834 hI837 hU836 hlp_3 (Or.inr ⟨p, k853, k823⟩)
                  · skip
                    have k857 : rg1 p = (some x1) := Eq.symm c105
                    obtain ⟨hm858, hp859, nx860⟩ := hlp_1.mr hm30 k857
                    refine z_aload_n C 2 rfl dJ4_fixAfterInsertion_108 rfl ?_
                    refine z_callS C (As := [.ref x1]) (mJ4_parentOf (o := (some x1)) hlp_0 (oM hlp_3)) (lw_S q706 q707 q64 q708) hd_J4_parentOf rfl (Nat.le_of_ble_eq_true rfl) (by decide) (by decide) (by decide) (by decide) rfl dJ4_fixAfterInsertion_109 (fun _ _ h => h.elim) (fun r861 V862 hP863 => ?_)
                    rw [hP863.1, hP863.2]
                    refine z_st (st' := [va_rf (pa1 x1)]) rfl ?_
                    refine z_top (v := .ref p) (congrArg va_rf (show (pa1 x1) = (some p) from (by rw [hp]))) ?_
                    refine z_astore_n C [(1, .ref p), (2, .ref y607), (0, .ref t)] dJ4_fixAfterInsertion_112 rfl (by decide) rfl ?_
                    refine z_aload_n C 2 rfl dJ4_fixAfterInsertion_113 rfl ?_
                    refine z_aload_n C 0 rfl dJ4_fixAfterInsertion_114 rfl ?_
                    refine z_callV C k_TM hlp_0.1 (As := [.ref p]) (mJ4_rotateLeft hlp_0 hlp_1 hm30 k857) (lw_V q718 q720 qs8 q64 q721) rfl hd_J4_rotateLeft rfl (Nat.le_of_ble_eq_true rfl) (by decide) (by decide) (by decide) (by decide) rfl dJ4_fixAfterInsertion_115 (fun _ _ h => h.elim) (fun r864 V865 hP866 => ?_)
                    obtain ⟨hW867, hU868⟩ := hP866
                    refine z_st (st' := []) rfl ?_
                    have hU869 := zUnc.tr (S := tC t L) hlp_2 hU868 (fun _ h => Or.inl h)
                    have hI870 := tI_rotL hlp_1 hm30 k857
                    obtain ⟨rg877, eB872⟩ : ∃ q, q = xR lf1 rg1 p x1 := ⟨_, rfl⟩
                    rw [← eB872] at hW867 hI870
                    obtain ⟨pa878, eP873⟩ : ∃ q, q = xP lf1 pa1 p x1 := ⟨_, rfl⟩
                    rw [← eP873] at hW867 hI870
                    obtain ⟨lf879, eA871⟩ : ∃ q, q = xL lf1 p x1 := ⟨_, rfl⟩
                    rw [← eA871] at hW867 hI870
                    obtain ⟨rt880, eT874⟩ : ∃ q, q = xT rt1 p x1 := ⟨_, rfl⟩
                    rw [← eT874] at hW867 hI870
                    obtain ⟨lo881, elo875⟩ : ∃ q, q = va_up lo1 x1 (lo1 p) := ⟨_, rfl⟩
                    rw [← elo875] at hI870
                    obtain ⟨hi882, ehi876⟩ : ∃ q, q = va_up hi1 p (ps x1) := ⟨_, rfl⟩
                    rw [← ehi876] at hI870
                    have k883 : lf879 x1 = (some p) := by rw [eA871]; exact xL_r
                    have k884 : pa878 p = (some x1) := by rw [eP873]; exact xP_p
                    have k885 : pa878 x1 = (some y52) := by rw [eP873, xP_r nx860]; exact hy53
                    have nx886 : y52 ≠ x1 := (Ne.symm (tI.gg hlp_1 hlp_3 hp hm30 hy53))
                    have k887 : lf879 y52 = (some x1) := by rw [eA871]; exact xL_u nx886 k594
                    have nx888 : y607 ≠ p := (Ne.symm (tI.sib hlp_1 hm178 k594 hy608))
                    have k889 : rg877 y52 = (some y607) := by rw [eB872, xR_o nx180 (so_ne hy608 nx888)]; exact hy608
                    have nx890 : y607 ≠ x1 := (ne_pa hp777 hp nx180)
                    have k891 : pa878 y607 = (some y52) := by rw [eP873, xP_o nx888 nx890 (fun z => nx886 (Option.some.inj (hp777.symm.trans (hlp_1.ml hlp_3 z).2.1)))]; exact hp777
                    refine z_aload_n C 0 rfl dJ4_fixAfterInsertion_118 rfl ?_
                    refine z_callS C (As := [.ref p]) (mJ4_parentOf (o := (some p)) hW867 (oM hm30)) (lw_S q706 q707 q64 q708) hd_J4_parentOf rfl (Nat.le_of_ble_eq_true rfl) (by decide) (by decide) (by decide) (by decide) rfl dJ4_fixAfterInsertion_119 (fun _ _ h => h.elim) (fun r892 V893 hP894 => ?_)
                    rw [hP894.1, hP894.2]
                    refine z_st (st' := [va_rf (pa878 p)]) rfl ?_
                    refine z_top (v := .ref x1) (congrArg va_rf (show (pa878 p) = (some x1) from (by rw [k884]))) ?_
                    refine z_iconst C (v := (nI 1)) dJ4_fixAfterInsertion_122 rfl ?_
                    refine z_st (st' := [.int (zb true), .ref x1]) rfl ?_
                    refine z_callS C (As := [.ref x1, .int (zb true)]) (mJ4_setColor (o := (some x1)) (c := true) hW867 (oM hlp_3)) (lw_S q715 q716 q64 q717) hd_J4_setColor rfl (Nat.le_of_ble_eq_true rfl) (by decide) (by decide) (by decide) (by decide) rfl dJ4_fixAfterInsertion_123 (fun _ _ h => h.elim) (fun r895 V896 hP897 => ?_)
                    obtain ⟨hW898, hU899⟩ := hP897
                    refine z_st (st' := []) rfl ?_
                    have hU900 := zUnc.tr (S := tC t L) hU869 hU899 (fun _ h => Or.inl h)
                    change tW _ _ _ _ _ _ _ (va_up cl1 x1 true) _ _ _ _ at hW898
                    obtain ⟨cl902, ec901⟩ : ∃ q, q = va_up cl1 x1 true := ⟨_, rfl⟩
                    rw [← ec901] at hW898
                    have k903 : cl902 x1 = true := by rw [ec901, zvs]
                    have k904 : cl902 p = false := by rw [ec901, zvn nx32]; exact k42
                    have k905 : cl902 y607 = true := by rw [ec901, zvn nx890]; exact k782
                    refine z_aload_n C 0 rfl dJ4_fixAfterInsertion_126 rfl ?_
                    refine z_callS C (As := [.ref p]) (mJ4_parentOf (o := (some p)) hW898 (oM hm30)) (lw_S q706 q707 q64 q708) hd_J4_parentOf rfl (Nat.le_of_ble_eq_true rfl) (by decide) (by decide) (by decide) (by decide) rfl dJ4_fixAfterInsertion_127 (fun _ _ h => h.elim) (fun r906 V907 hP908 => ?_)
                    rw [hP908.1, hP908.2]
                    refine z_st (st' := [va_rf (pa878 p)]) rfl ?_
                    refine z_top (v := .ref x1) (congrArg va_rf (show (pa878 p) = (some x1) from (by rw [k884]))) ?_
                    refine z_callS C (As := [.ref x1]) (mJ4_parentOf (o := (some x1)) hW898 (oM hlp_3)) (lw_S q706 q707 q64 q708) hd_J4_parentOf rfl (Nat.le_of_ble_eq_true rfl) (by decide) (by decide) (by decide) (by decide) rfl dJ4_fixAfterInsertion_130 (fun _ _ h => h.elim) (fun r909 V910 hP911 => ?_)
                    rw [hP911.1, hP911.2]
                    refine z_st (st' := [va_rf (pa878 x1)]) rfl ?_
                    refine z_top (v := .ref y52) (congrArg va_rf (show (pa878 x1) = (some y52) from (by rw [k885]))) ?_
                    refine z_iconst C (v := (nI 0)) dJ4_fixAfterInsertion_133 rfl ?_
                    refine z_st (st' := [.int (zb false), .ref y52]) rfl ?_
                    refine z_callS C (As := [.ref y52, .int (zb false)]) (mJ4_setColor (o := (some y52)) (c := false) hW898 (oM hm178)) (lw_S q715 q716 q64 q717) hd_J4_setColor rfl (Nat.le_of_ble_eq_true rfl) (by decide) (by decide) (by decide) (by decide) rfl dJ4_fixAfterInsertion_134 (fun _ _ h => h.elim) (fun r912 V913 hP914 => ?_)
                    obtain ⟨hW915, hU916⟩ := hP914
                    refine z_st (st' := []) rfl ?_
                    have hU917 := zUnc.tr (S := tC t L) hU900 hU916 (fun _ h => Or.inl h)
                    change tW _ _ _ _ _ _ _ (va_up cl902 y52 false) _ _ _ _ at hW915
                    obtain ⟨cl919, ec918⟩ : ∃ q, q = va_up cl902 y52 false := ⟨_, rfl⟩
                    rw [← ec918] at hW915
                    have k920 : cl919 y52 = false := by rw [ec918, zvs]
                    have k921 : cl919 x1 = true := by rw [ec918, zvn (Ne.symm nx886)]; exact k903
                    have k922 : cl919 p = false := by rw [ec918, zvn nx597]; exact k904
                    have k923 : cl919 y607 = true := by rw [ec918, zvn nx778]; exact k905
                    refine z_aload_n C 2 rfl dJ4_fixAfterInsertion_137 rfl ?_
                    refine z_aload_n C 0 rfl dJ4_fixAfterInsertion_138 rfl ?_
                    refine z_callS C (As := [.ref p]) (mJ4_parentOf (o := (some p)) hW915 (oM hm30)) (lw_S q706 q707 q64 q708) hd_J4_parentOf rfl (Nat.le_of_ble_eq_true rfl) (by decide) (by decide) (by decide) (by decide) rfl dJ4_fixAfterInsertion_139 (fun _ _ h => h.elim) (fun r924 V925 hP926 => ?_)
                    rw [hP926.1, hP926.2]
                    refine z_st (st' := [va_rf (pa878 p), .ref t]) rfl ?_
                    refine z_top (v := .ref x1) (congrArg va_rf (show (pa878 p) = (some x1) from (by rw [k884]))) ?_
                    refine z_callS C (As := [.ref x1]) (mJ4_parentOf (o := (some x1)) hW915 (oM hlp_3)) (lw_S q706 q707 q64 q708) hd_J4_parentOf rfl (Nat.le_of_ble_eq_true rfl) (by decide) (by decide) (by decide) (by decide) rfl dJ4_fixAfterInsertion_142 (fun _ _ h => h.elim) (fun r927 V928 hP929 => ?_)
                    rw [hP929.1, hP929.2]
                    refine z_st (st' := [va_rf (pa878 x1), .ref t]) rfl ?_
                    refine z_top (v := .ref y52) (congrArg va_rf (show (pa878 x1) = (some y52) from (by rw [k885]))) ?_
                    refine z_callV C k_TM hW915.1 (As := [.ref y52]) (mJ4_rotateRight hW915 hI870 hm178 k887) (lw_V q722 q724 qs9 q64 q725) rfl hd_J4_rotateRight rfl (Nat.le_of_ble_eq_true rfl) (by decide) (by decide) (by decide) (by decide) rfl dJ4_fixAfterInsertion_145 (fun _ _ h => h.elim) (fun r930 V931 hP932 => ?_)
                    obtain ⟨hW933, hU934⟩ := hP932
                    refine z_st (st' := []) rfl ?_
                    have hU935 := zUnc.tr (S := tC t L) hU917 hU934 (fun _ h => Or.inl h)
                    have hI936 := tI_rotR hI870 hm178 k887
                    obtain ⟨lf943, eB938⟩ : ∃ q, q = xR rg877 lf879 y52 x1 := ⟨_, rfl⟩
                    rw [← eB938] at hW933 hI936
                    obtain ⟨pa944, eP939⟩ : ∃ q, q = xP rg877 pa878 y52 x1 := ⟨_, rfl⟩
                    rw [← eP939] at hW933 hI936
                    obtain ⟨rg945, eA937⟩ : ∃ q, q = xL rg877 y52 x1 := ⟨_, rfl⟩
                    rw [← eA937] at hW933 hI936
                    obtain ⟨rt946, eT940⟩ : ∃ q, q = xT rt880 y52 x1 := ⟨_, rfl⟩
                    rw [← eT940] at hW933 hI936
                    obtain ⟨lo947, elo941⟩ : ∃ q, q = va_up lo881 y52 (ps x1 + 1) := ⟨_, rfl⟩
                    rw [← elo941] at hI936
                    obtain ⟨hi948, ehi942⟩ : ∃ q, q = va_up hi882 x1 (hi882 y52) := ⟨_, rfl⟩
                    rw [← ehi942] at hI936
                    have k949 : rg945 x1 = (some y52) := by rw [eA937]; exact xL_r
                    have k950 : pa944 y52 = (some x1) := by rw [eP939]; exact xP_p
                    have k951 : lf943 x1 = (some p) := by rw [eB938, xR_o (Ne.symm nx886) (so_ne k883 nx597)]; exact k883
                    have k952 : pa944 p = (some x1) := by rw [eP939, xP_o nx597 nx32 (hI870.lr hlp_3 k883)]; exact k884
                    have k953 : rg945 y52 = (some y607) := by rw [eA937, xL_o nx886 (so_ne k889 nx778)]; exact k889
                    have k954 : pa944 y607 = (some y52) := by rw [eP939, xP_o nx778 nx890 (fun z => nx886 (Option.some.inj (k891.symm.trans (hI870.mr hlp_3 z).2.1)))]; exact k891
                    refine z_goto C 5 dJ4_fixAfterInsertion_148 (by decide) ?_
                    refine z_pick [(0, .ref t), (1, .ref p)] [2, 0] rfl ?_
                    exact hexit V931 rt946 lf943 rg945 pa944 cl919 lo947 hi948 p hW933 hI936 hU935 hm30 (Or.inr ⟨x1, k952, k921⟩)
                · skip
                  have k955 : (cl1 y607) = false := c59
                  refine z_aload_n C 2 rfl dJ4_fixAfterInsertion_62 rfl ?_
                  refine z_callS C (As := [.ref x1]) (mJ4_parentOf (o := (some x1)) hlp_0 (oM hlp_3)) (lw_S q706 q707 q64 q708) hd_J4_parentOf rfl (Nat.le_of_ble_eq_true rfl) (by decide) (by decide) (by decide) (by decide) rfl dJ4_fixAfterInsertion_63 (fun _ _ h => h.elim) (fun r956 V957 hP958 => ?_)
                  rw [hP958.1, hP958.2]
                  refine z_st (st' := [va_rf (pa1 x1)]) rfl ?_
                  refine z_top (v := .ref p) (congrArg va_rf (show (pa1 x1) = (some p) from (by rw [hp]))) ?_
                  refine z_iconst C (v := (nI 1)) dJ4_fixAfterInsertion_66 rfl ?_
                  refine z_st (st' := [.int (zb true), .ref p]) rfl ?_
                  refine z_callS C (As := [.ref p, .int (zb true)]) (mJ4_setColor (o := (some p)) (c := true) hlp_0 (oM hm30)) (lw_S q715 q716 q64 q717) hd_J4_setColor rfl (Nat.le_of_ble_eq_true rfl) (by decide) (by decide) (by decide) (by decide) rfl dJ4_fixAfterInsertion_67 (fun _ _ h => h.elim) (fun r959 V960 hP961 => ?_)
                  obtain ⟨hW962, hU963⟩ := hP961
                  refine z_st (st' := []) rfl ?_
                  have hU964 := zUnc.tr (S := tC t L) hlp_2 hU963 (fun _ h => Or.inl h)
                  change tW _ _ _ _ _ _ _ (va_up cl1 p true) _ _ _ _ at hW962
                  obtain ⟨cl966, ec965⟩ : ∃ q, q = va_up cl1 p true := ⟨_, rfl⟩
                  rw [← ec965] at hW962
                  have k967 : cl966 p = true := by rw [ec965, zvs]
                  have nx968 : y607 ≠ p := (Ne.symm (tI.sib hlp_1 hm178 k594 hy608))
                  have k969 : cl966 y607 = false := by rw [ec965, zvn nx968]; exact k955
                  refine z_aload_n C 0 rfl dJ4_fixAfterInsertion_70 rfl ?_
                  refine z_iconst C (v := (nI 1)) dJ4_fixAfterInsertion_71 rfl ?_
                  refine z_st (st' := [.int (zb true), .ref y607]) rfl ?_
                  refine z_callS C (As := [.ref y607, .int (zb true)]) (mJ4_setColor (o := (some y607)) (c := true) hW962 (oM hm776)) (lw_S q715 q716 q64 q717) hd_J4_setColor rfl (Nat.le_of_ble_eq_true rfl) (by decide) (by decide) (by decide) (by decide) rfl dJ4_fixAfterInsertion_72 (fun _ _ h => h.elim) (fun r970 V971 hP972 => ?_)
                  obtain ⟨hW973, hU974⟩ := hP972
                  refine z_st (st' := []) rfl ?_
                  have hU975 := zUnc.tr (S := tC t L) hU964 hU974 (fun _ h => Or.inl h)
                  change tW _ _ _ _ _ _ _ (va_up cl966 y607 true) _ _ _ _ at hW973
                  obtain ⟨cl977, ec976⟩ : ∃ q, q = va_up cl966 y607 true := ⟨_, rfl⟩
                  rw [← ec976] at hW973
                  have k978 : cl977 y607 = true := by rw [ec976, zvs]
                  have k979 : cl977 p = true := by rw [ec976, zvn (Ne.symm nx968)]; exact k967
                  refine z_aload_n C 2 rfl dJ4_fixAfterInsertion_75 rfl ?_
                  refine z_callS C (As := [.ref x1]) (mJ4_parentOf (o := (some x1)) hW973 (oM hlp_3)) (lw_S q706 q707 q64 q708) hd_J4_parentOf rfl (Nat.le_of_ble_eq_true rfl) (by decide) (by decide) (by decide) (by decide) rfl dJ4_fixAfterInsertion_76 (fun _ _ h => h.elim) (fun r980 V981 hP982 => ?_)
                  rw [hP982.1, hP982.2]
                  refine z_st (st' := [va_rf (pa1 x1)]) rfl ?_
                  refine z_top (v := .ref p) (congrArg va_rf (show (pa1 x1) = (some p) from (by rw [hp]))) ?_
                  refine z_callS C (As := [.ref p]) (mJ4_parentOf (o := (some p)) hW973 (oM hm30)) (lw_S q706 q707 q64 q708) hd_J4_parentOf rfl (Nat.le_of_ble_eq_true rfl) (by decide) (by decide) (by decide) (by decide) rfl dJ4_fixAfterInsertion_79 (fun _ _ h => h.elim) (fun r983 V984 hP985 => ?_)
                  rw [hP985.1, hP985.2]
                  refine z_st (st' := [va_rf (pa1 p)]) rfl ?_
                  refine z_top (v := .ref y52) (congrArg va_rf (show (pa1 p) = (some y52) from (by rw [hy53]))) ?_
                  refine z_iconst C (v := (nI 0)) dJ4_fixAfterInsertion_82 rfl ?_
                  refine z_st (st' := [.int (zb false), .ref y52]) rfl ?_
                  refine z_callS C (As := [.ref y52, .int (zb false)]) (mJ4_setColor (o := (some y52)) (c := false) hW973 (oM hm178)) (lw_S q715 q716 q64 q717) hd_J4_setColor rfl (Nat.le_of_ble_eq_true rfl) (by decide) (by decide) (by decide) (by decide) rfl dJ4_fixAfterInsertion_83 (fun _ _ h => h.elim) (fun r986 V987 hP988 => ?_)
                  obtain ⟨hW989, hU990⟩ := hP988
                  refine z_st (st' := []) rfl ?_
                  have hU991 := zUnc.tr (S := tC t L) hU975 hU990 (fun _ h => Or.inl h)
                  change tW _ _ _ _ _ _ _ (va_up cl977 y52 false) _ _ _ _ at hW989
                  obtain ⟨cl993, ec992⟩ : ∃ q, q = va_up cl977 y52 false := ⟨_, rfl⟩
                  rw [← ec992] at hW989
                  have k994 : cl993 y52 = false := by rw [ec992, zvs]
                  have k995 : cl993 y607 = true := by rw [ec992, zvn nx778]; exact k978
                  have k996 : cl993 p = true := by rw [ec992, zvn nx597]; exact k979
                  refine z_aload_n C 2 rfl dJ4_fixAfterInsertion_86 rfl ?_
                  refine z_callS C (As := [.ref x1]) (mJ4_parentOf (o := (some x1)) hW989 (oM hlp_3)) (lw_S q706 q707 q64 q708) hd_J4_parentOf rfl (Nat.le_of_ble_eq_true rfl) (by decide) (by decide) (by decide) (by decide) rfl dJ4_fixAfterInsertion_87 (fun _ _ h => h.elim) (fun r997 V998 hP999 => ?_)
                  rw [hP999.1, hP999.2]
                  refine z_st (st' := [va_rf (pa1 x1)]) rfl ?_
                  refine z_top (v := .ref p) (congrArg va_rf (show (pa1 x1) = (some p) from (by rw [hp]))) ?_
                  refine z_callS C (As := [.ref p]) (mJ4_parentOf (o := (some p)) hW989 (oM hm30)) (lw_S q706 q707 q64 q708) hd_J4_parentOf rfl (Nat.le_of_ble_eq_true rfl) (by decide) (by decide) (by decide) (by decide) rfl dJ4_fixAfterInsertion_90 (fun _ _ h => h.elim) (fun r1000 V1001 hP1002 => ?_)
                  rw [hP1002.1, hP1002.2]
                  refine z_st (st' := [va_rf (pa1 p)]) rfl ?_
                  refine z_top (v := .ref y52) (congrArg va_rf (show (pa1 p) = (some y52) from (by rw [hy53]))) ?_
                  refine z_astore_n C [(1, .ref y52), (2, .ref y607), (0, .ref t)] dJ4_fixAfterInsertion_93 rfl (by decide) rfl ?_
                  refine z_goto C 148 dJ4_fixAfterInsertion_94 (by decide) ?_
                  refine z_goto C 5 dJ4_fixAfterInsertion_148 (by decide) ?_
                  refine z_pick [(0, .ref t), (1, .ref y52)] [2, 0] rfl ?_
                  have q1 := (hlp_1.mp hlp_3 hp).2
                  have q2 := (hlp_1.mp hm30 hy53).2
                  exact ih_lp V987 rt1 lf1 rg1 pa1 cl993 lo1 hi1 y52 hW989 hlp_1 hU991 hm178 (by omega)
  exact lp _ V1 rt lf rg pa (va_up cl x false) lo hi x hW3 hI hU4 hx (Nat.lt_succ_self _)
set_option maxHeartbeats 4000000 in
set_option maxRecDepth 100000 in
theorem mJ4_fixAfterDeletion {l : Launch} {D : ZD} {V : ZV} {t : Nat} {L : List Nat} {rt : Option Nat} {lf rg pa : Nat → Option Nat} {cl : Nat → Bool} {ky vl : Nat → Nat} {sz : Nat} {mc : Int32} (hW : tW V t L rt lf rg pa cl ky vl sz mc) {ps lo hi : Nat → Nat} (hI : tI L rt lf rg pa ps lo hi) {x : Nat} (hx : x ∈ L) : ZM l D yJ4_fixAfterDeletion (ws_ yJ4_fixAfterDeletion cJ4_fixAfterDeletion 3 none) 2 0 0 eU V [.ref t, .ref x] (fun r V' => tF V V' t L ky vl sz mc ps) zno_x := by
  refine z_enter (by decide +kernel) [(0, .ref t), (1, .ref x)] rfl (Nat.le_of_ble_eq_true rfl) (zcat_cons rfl (zcat_cons rfl zcat_nil)) (fun Γ C hQ => ?_)
  have hU0 : zUnc V V (tC t L) := zUnc.rf
  have hexit : ∀ (V1 : ZV) (rt1 : Option Nat) (lf1 rg1 pa1 : Nat → Option Nat) (cl1 : Nat → Bool) (lo1 hi1 : Nat → Nat) (x1 : Nat), tW V1 t L rt1 lf1 rg1 pa1 cl1 ky vl sz mc → tI L rt1 lf1 rg1 pa1 ps lo1 hi1 → zUnc V V1 (tC t L) → x1 ∈ L → rt1 = some x1 → ZW l D Γ (zr 2 0 0) 0 [(0, .ref t), (1, .ref x1)] [] V1 0 0 := by
    intro V1 rt1 lf1 rg1 pa1 cl1 lo1 hi1 x1 hhexit_0 hhexit_1 hhexit_2 hhexit_3 hhexit_4
    refine z_aload_n C 1 rfl dJ4_fixAfterDeletion_0 rfl ?_
    refine z_aload_n C 0 rfl dJ4_fixAfterDeletion_1 rfl ?_
    refine z_get C k_TM hhexit_0.1 3 (by decide) rfl q162 dJ4_fixAfterDeletion_2 ?_
    refine z_top (v := .ref x1) (congrArg va_rf (show rt1 = (some x1) from hhexit_4)) ?_
    refine z_acmp_eq C (some x1) (some x1) 345 dJ4_fixAfterDeletion_5 (by decide) (fun c5 => ?_) (fun c5 => ?_)
    · skip
      refine z_aload_n C 1 rfl dJ4_fixAfterDeletion_345 rfl ?_
      refine z_iconst C (v := (nI 1)) dJ4_fixAfterDeletion_346 rfl ?_
      refine z_st (st' := [.int (zb true), .ref x1]) rfl ?_
      refine z_callS C (As := [.ref x1, .int (zb true)]) (mJ4_setColor (o := (some x1)) (c := true) hhexit_0 (oM hhexit_3)) (lw_S q715 q716 q64 q717) hd_J4_setColor rfl (Nat.le_of_ble_eq_true rfl) (by decide) (by decide) (by decide) (by decide) rfl dJ4_fixAfterDeletion_347 (fun _ _ h => h.elim) (fun r1 V2 hP3 => ?_)
      obtain ⟨hW4, hU5⟩ := hP3
      refine z_st (st' := []) rfl ?_
      have hU6 := zUnc.tr (S := tC t L) hhexit_2 hU5 (fun _ h => Or.inl h)
      change tW _ _ _ _ _ _ _ (va_up cl1 x1 true) _ _ _ _ at hW4
      obtain ⟨cl8, ec7⟩ : ∃ q, q = va_up cl1 x1 true := ⟨_, rfl⟩
      rw [← ec7] at hW4
      have k9 : cl8 x1 = true := by rw [ec7, zvs]
      exact z_vret C hQ () rfl ⟨_, _, _, _, _, _, _, hW4, hhexit_1, hU6⟩ (by decide) (by decide) dJ4_fixAfterDeletion_350
    · skip
      exact absurd rfl c5
  have lp : ∀ (n_lp : Nat) (V1 : ZV) (rt1 : Option Nat) (lf1 rg1 pa1 : Nat → Option Nat) (cl1 : Nat → Bool) (lo1 hi1 : Nat → Nat) (x1 : Nat), tW V1 t L rt1 lf1 rg1 pa1 cl1 ky vl sz mc → tI L rt1 lf1 rg1 pa1 ps lo1 hi1 → zUnc V V1 (tC t L) → x1 ∈ L → L.length - (hi1 x1 - lo1 x1) < n_lp → ZW l D Γ (zr 2 0 0) 0 [(0, .ref t), (1, .ref x1)] [] V1 0 0 := by
    intro n_lp
    induction n_lp with
    | zero => intro V1 rt1 lf1 rg1 pa1 cl1 lo1 hi1 x1 _ _ _ _ hm; exact absurd hm (Nat.not_lt_zero _)
    | succ n_lp ih_lp =>
      intro V1 rt1 lf1 rg1 pa1 cl1 lo1 hi1 x1 hlp_0 hlp_1 hlp_2 hlp_3 hm
      refine z_aload_n C 1 rfl dJ4_fixAfterDeletion_0 rfl ?_
      refine z_aload_n C 0 rfl dJ4_fixAfterDeletion_1 rfl ?_
      refine z_get C k_TM hlp_0.1 3 (by decide) rfl q162 dJ4_fixAfterDeletion_2 ?_
      refine z_acmp_eq C (some x1) rt1 345 dJ4_fixAfterDeletion_5 (by decide) (fun c5 => ?_) (fun c5 => ?_)
      · skip
        have k10 : rt1 = (some x1) := Eq.symm c5
        refine z_aload_n C 1 rfl dJ4_fixAfterDeletion_345 rfl ?_
        refine z_iconst C (v := (nI 1)) dJ4_fixAfterDeletion_346 rfl ?_
        refine z_st (st' := [.int (zb true), .ref x1]) rfl ?_
        refine z_callS C (As := [.ref x1, .int (zb true)]) (mJ4_setColor (o := (some x1)) (c := true) hlp_0 (oM hlp_3)) (lw_S q715 q716 q64 q717) hd_J4_setColor rfl (Nat.le_of_ble_eq_true rfl) (by decide) (by decide) (by decide) (by decide) rfl dJ4_fixAfterDeletion_347 (fun _ _ h => h.elim) (fun r11 V12 hP13 => ?_)
        obtain ⟨hW14, hU15⟩ := hP13
        refine z_st (st' := []) rfl ?_
        have hU16 := zUnc.tr (S := tC t L) hlp_2 hU15 (fun _ h => Or.inl h)
        change tW _ _ _ _ _ _ _ (va_up cl1 x1 true) _ _ _ _ at hW14
        obtain ⟨cl18, ec17⟩ : ∃ q, q = va_up cl1 x1 true := ⟨_, rfl⟩
        rw [← ec17] at hW14
        have k19 : cl18 x1 = true := by rw [ec17, zvs]
        exact z_vret C hQ () rfl ⟨_, _, _, _, _, _, _, hW14, hlp_1, hU16⟩ (by decide) (by decide) dJ4_fixAfterDeletion_350
      · skip
        have k20 : ¬ rt1 = (some x1) := fun z => c5 (Eq.symm z)
        obtain ⟨p, hp⟩ := hlp_1.up hlp_3 k20
        obtain ⟨hm21, -, nx23, -⟩ := hlp_1.mp hlp_3 hp
        refine z_aload_n C 1 rfl dJ4_fixAfterDeletion_8 rfl ?_
        refine z_callS C (As := [.ref x1]) (mJ4_colorOf (o := (some x1)) hlp_0 (oM hlp_3)) (lw_S q703 q704 q64 q705) hd_J4_colorOf rfl (Nat.le_of_ble_eq_true rfl) (by decide) (by decide) (by decide) (by decide) rfl dJ4_fixAfterDeletion_9 (fun _ _ h => h.elim) (fun r24 V25 hP26 => ?_)
        rw [hP26.1, hP26.2]
        refine z_st (st' := [.int (zb (cl1 x1))]) rfl ?_
        refine z_iconst C (v := (nI 1)) dJ4_fixAfterDeletion_12 rfl ?_
        refine z_icmp_ne C 345 dJ4_fixAfterDeletion_13 (by decide) (fun c13 => ?_) (fun c13 => ?_)
        · skip
          have k27 : (cl1 x1) = false := zb1f c13
          refine z_aload_n C 1 rfl dJ4_fixAfterDeletion_345 rfl ?_
          refine z_iconst C (v := (nI 1)) dJ4_fixAfterDeletion_346 rfl ?_
          refine z_st (st' := [.int (zb true), .ref x1]) rfl ?_
          refine z_callS C (As := [.ref x1, .int (zb true)]) (mJ4_setColor (o := (some x1)) (c := true) hlp_0 (oM hlp_3)) (lw_S q715 q716 q64 q717) hd_J4_setColor rfl (Nat.le_of_ble_eq_true rfl) (by decide) (by decide) (by decide) (by decide) rfl dJ4_fixAfterDeletion_347 (fun _ _ h => h.elim) (fun r28 V29 hP30 => ?_)
          obtain ⟨hW31, hU32⟩ := hP30
          refine z_st (st' := []) rfl ?_
          have hU33 := zUnc.tr (S := tC t L) hlp_2 hU32 (fun _ h => Or.inl h)
          change tW _ _ _ _ _ _ _ (va_up cl1 x1 true) _ _ _ _ at hW31
          obtain ⟨cl35, ec34⟩ : ∃ q, q = va_up cl1 x1 true := ⟨_, rfl⟩
          rw [← ec34] at hW31
          have k36 : cl35 x1 = true := by rw [ec34, zvs]
          exact z_vret C hQ () rfl ⟨_, _, _, _, _, _, _, hW31, hlp_1, hU33⟩ (by decide) (by decide) dJ4_fixAfterDeletion_350
        · skip
          have k37 : (cl1 x1) = true := zb1 c13
          refine z_aload_n C 1 rfl dJ4_fixAfterDeletion_16 rfl ?_
          refine z_aload_n C 1 rfl dJ4_fixAfterDeletion_17 rfl ?_
          refine z_callS C (As := [.ref x1]) (mJ4_parentOf (o := (some x1)) hlp_0 (oM hlp_3)) (lw_S q706 q707 q64 q708) hd_J4_parentOf rfl (Nat.le_of_ble_eq_true rfl) (by decide) (by decide) (by decide) (by decide) rfl dJ4_fixAfterDeletion_18 (fun _ _ h => h.elim) (fun r38 V39 hP40 => ?_)
          rw [hP40.1, hP40.2]
          refine z_st (st' := [va_rf (pa1 x1), .ref x1]) rfl ?_
          refine z_top (v := .ref p) (congrArg va_rf (show (pa1 x1) = (some p) from (by rw [hp]))) ?_
          refine z_callS C (As := [.ref p]) (mJ4_leftOf (o := (some p)) hlp_0 (oM hm21)) (lw_S q709 q710 q64 q711) hd_J4_leftOf rfl (Nat.le_of_ble_eq_true rfl) (by decide) (by decide) (by decide) (by decide) rfl dJ4_fixAfterDeletion_21 (fun _ _ h => h.elim) (fun r41 V42 hP43 => ?_)
          rw [hP43.1, hP43.2]
          refine z_st (st' := [va_rf (lf1 p), .ref x1]) rfl ?_
          refine z_acmp_ne C (some x1) (lf1 p) 186 dJ4_fixAfterDeletion_24 (by decide) (fun c24 => ?_) (fun c24 => ?_)
          · skip
            have k44 : ¬ lf1 p = (some x1) := fun z => c24 (Eq.symm z)
            have k45 := hlp_1.sdR hlp_3 hp k44
            obtain ⟨hm46, hp47, nx48⟩ := hlp_1.mr hm21 k45
            refine z_aload_n C 1 rfl dJ4_fixAfterDeletion_186 rfl ?_
            refine z_callS C (As := [.ref x1]) (mJ4_parentOf (o := (some x1)) hlp_0 (oM hlp_3)) (lw_S q706 q707 q64 q708) hd_J4_parentOf rfl (Nat.le_of_ble_eq_true rfl) (by decide) (by decide) (by decide) (by decide) rfl dJ4_fixAfterDeletion_187 (fun _ _ h => h.elim) (fun r49 V50 hP51 => ?_)
            rw [hP51.1, hP51.2]
            refine z_st (st' := [va_rf (pa1 x1)]) rfl ?_
            refine z_top (v := .ref p) (congrArg va_rf (show (pa1 x1) = (some p) from (by rw [hp]))) ?_
            refine z_callS C (As := [.ref p]) (mJ4_leftOf (o := (some p)) hlp_0 (oM hm21)) (lw_S q709 q710 q64 q711) hd_J4_leftOf rfl (Nat.le_of_ble_eq_true rfl) (by decide) (by decide) (by decide) (by decide) rfl dJ4_fixAfterDeletion_190 (fun _ _ h => h.elim) (fun r52 V53 hP54 => ?_)
            rw [hP54.1, hP54.2]
            refine z_st (st' := [va_rf (lf1 p)]) rfl ?_
            refine z_astore_nQ C (r := (lf1 p)) [(2, va_rf (lf1 p)), (0, .ref t), (1, .ref x1)] dJ4_fixAfterDeletion_193 rfl (by decide) rfl ?_
            refine z_aload_nQ C 0 (r := (lf1 p)) rfl dJ4_fixAfterDeletion_194 rfl ?_
            rcases hy56 : lf1 p with _ | y55
            · skip
              refine z_callS C (As := [.null]) (mJ4_colorOf (o := none) hlp_0 oN) (lw_S q703 q704 q64 q705) hd_J4_colorOf rfl (Nat.le_of_ble_eq_true rfl) (by decide) (by decide) (by decide) (by decide) rfl dJ4_fixAfterDeletion_195 (fun _ _ h => h.elim) (fun r57 V58 hP59 => ?_)
              rw [hP59.1, hP59.2]
              refine z_st (st' := [.int (zb true)]) rfl ?_
              refine z_if_neB C 230 dJ4_fixAfterDeletion_198 (by decide) (fun c198 => ?_) (fun c198 => ?_)
              · skip
                have k60 : true = true := c198
                refine z_aload_nQ C 0 (r := none) rfl dJ4_fixAfterDeletion_230 rfl ?_
                refine z_callS C (As := [.null]) (mJ4_rightOf (o := none) hlp_0 oN) (lw_S q712 q713 q64 q714) hd_J4_rightOf rfl (Nat.le_of_ble_eq_true rfl) (by decide) (by decide) (by decide) (by decide) rfl dJ4_fixAfterDeletion_231 (fun _ _ h => h.elim) (fun r61 V62 hP63 => ?_)
                rw [hP63.1, hP63.2]
                refine z_st (st' := [.null]) rfl ?_
                refine z_callS C (As := [.null]) (mJ4_colorOf (o := none) hlp_0 oN) (lw_S q703 q704 q64 q705) hd_J4_colorOf rfl (Nat.le_of_ble_eq_true rfl) (by decide) (by decide) (by decide) (by decide) rfl dJ4_fixAfterDeletion_234 (fun _ _ h => h.elim) (fun r64 V65 hP66 => ?_)
                rw [hP66.1, hP66.2]
                refine z_st (st' := [.int (zb true)]) rfl ?_
                refine z_iconst C (v := (nI 1)) dJ4_fixAfterDeletion_237 rfl ?_
                refine z_icmp_ne C 265 dJ4_fixAfterDeletion_238 (by decide) (fun c238 => ?_) (fun c238 => ?_)
                · skip
                  have k67 : true = false := zb1f c238
                  cases k67
                · skip
                  have k68 : true = true := zb1 c238
                  refine z_aload_nQ C 0 (r := none) rfl dJ4_fixAfterDeletion_241 rfl ?_
                  refine z_callS C (As := [.null]) (mJ4_leftOf (o := none) hlp_0 oN) (lw_S q709 q710 q64 q711) hd_J4_leftOf rfl (Nat.le_of_ble_eq_true rfl) (by decide) (by decide) (by decide) (by decide) rfl dJ4_fixAfterDeletion_242 (fun _ _ h => h.elim) (fun r69 V70 hP71 => ?_)
                  rw [hP71.1, hP71.2]
                  refine z_st (st' := [.null]) rfl ?_
                  refine z_callS C (As := [.null]) (mJ4_colorOf (o := none) hlp_0 oN) (lw_S q703 q704 q64 q705) hd_J4_colorOf rfl (Nat.le_of_ble_eq_true rfl) (by decide) (by decide) (by decide) (by decide) rfl dJ4_fixAfterDeletion_245 (fun _ _ h => h.elim) (fun r72 V73 hP74 => ?_)
                  rw [hP74.1, hP74.2]
                  refine z_st (st' := [.int (zb true)]) rfl ?_
                  refine z_iconst C (v := (nI 1)) dJ4_fixAfterDeletion_248 rfl ?_
                  refine z_icmp_ne C 265 dJ4_fixAfterDeletion_249 (by decide) (fun c249 => ?_) (fun c249 => ?_)
                  · skip
                    have k75 : true = false := zb1f c249
                    cases k75
                  · skip
                    have k76 : true = true := zb1 c249
                    refine z_aload_nQ C 0 (r := none) rfl dJ4_fixAfterDeletion_252 rfl ?_
                    refine z_iconst C (v := (nI 0)) dJ4_fixAfterDeletion_253 rfl ?_
                    refine z_st (st' := [.int (zb false), .null]) rfl ?_
                    refine z_callS C (As := [.null, .int (zb false)]) (mJ4_setColor (o := none) (c := false) hlp_0 oN) (lw_S q715 q716 q64 q717) hd_J4_setColor rfl (Nat.le_of_ble_eq_true rfl) (by decide) (by decide) (by decide) (by decide) rfl dJ4_fixAfterDeletion_254 (fun _ _ h => h.elim) (fun r77 V78 hP79 => ?_)
                    obtain ⟨hW80, hU81⟩ := hP79
                    refine z_st (st' := []) rfl ?_
                    have hU82 := zUnc.tr (S := tC t L) hlp_2 hU81 (fun _ h => Or.inl h)
                    change tW _ _ _ _ _ _ _ cl1 _ _ _ _ at hW80
                    refine z_aload_n C 2 rfl dJ4_fixAfterDeletion_257 rfl ?_
                    refine z_callS C (As := [.ref x1]) (mJ4_parentOf (o := (some x1)) hW80 (oM hlp_3)) (lw_S q706 q707 q64 q708) hd_J4_parentOf rfl (Nat.le_of_ble_eq_true rfl) (by decide) (by decide) (by decide) (by decide) rfl dJ4_fixAfterDeletion_258 (fun _ _ h => h.elim) (fun r83 V84 hP85 => ?_)
                    rw [hP85.1, hP85.2]
                    refine z_st (st' := [va_rf (pa1 x1)]) rfl ?_
                    refine z_top (v := .ref p) (congrArg va_rf (show (pa1 x1) = (some p) from (by rw [hp]))) ?_
                    refine z_astore_n C [(1, .ref p), (2, .null), (0, .ref t)] dJ4_fixAfterDeletion_261 rfl (by decide) rfl ?_
                    refine z_goto C 342 dJ4_fixAfterDeletion_262 (by decide) ?_
                    refine z_goto C 0 dJ4_fixAfterDeletion_342 (by decide) ?_
                    refine z_pick [(0, .ref t), (1, .ref p)] [2, 0] rfl ?_
                    have q1 := (hlp_1.mp hlp_3 hp).2
                    exact ih_lp V78 rt1 lf1 rg1 pa1 cl1 lo1 hi1 p hW80 hlp_1 hU82 hm21 (by omega)
              · skip
                have k86 : true = false := c198
                cases k86
            · skip
              obtain ⟨hm87, hp88, nx89⟩ := hlp_1.ml hm21 hy56
              refine z_callS C (As := [.ref y55]) (mJ4_colorOf (o := (some y55)) hlp_0 (oM hm87)) (lw_S q703 q704 q64 q705) hd_J4_colorOf rfl (Nat.le_of_ble_eq_true rfl) (by decide) (by decide) (by decide) (by decide) rfl dJ4_fixAfterDeletion_195 (fun _ _ h => h.elim) (fun r90 V91 hP92 => ?_)
              rw [hP92.1, hP92.2]
              refine z_st (st' := [.int (zb (cl1 y55))]) rfl ?_
              refine z_if_neB C 230 dJ4_fixAfterDeletion_198 (by decide) (fun c198 => ?_) (fun c198 => ?_)
              · skip
                have k93 : (cl1 y55) = true := c198
                refine z_aload_n C 0 rfl dJ4_fixAfterDeletion_230 rfl ?_
                refine z_callS C (As := [.ref y55]) (mJ4_rightOf (o := (some y55)) hlp_0 (oM hm87)) (lw_S q712 q713 q64 q714) hd_J4_rightOf rfl (Nat.le_of_ble_eq_true rfl) (by decide) (by decide) (by decide) (by decide) rfl dJ4_fixAfterDeletion_231 (fun _ _ h => h.elim) (fun r94 V95 hP96 => ?_)
                rw [hP96.1, hP96.2]
                refine z_st (st' := [va_rf (rg1 y55)]) rfl ?_
                rcases hy98 : rg1 y55 with _ | y97
                · skip
                  refine z_callS C (As := [.null]) (mJ4_colorOf (o := none) hlp_0 oN) (lw_S q703 q704 q64 q705) hd_J4_colorOf rfl (Nat.le_of_ble_eq_true rfl) (by decide) (by decide) (by decide) (by decide) rfl dJ4_fixAfterDeletion_234 (fun _ _ h => h.elim) (fun r99 V100 hP101 => ?_)
                  rw [hP101.1, hP101.2]
                  refine z_st (st' := [.int (zb true)]) rfl ?_
                  refine z_iconst C (v := (nI 1)) dJ4_fixAfterDeletion_237 rfl ?_
                  refine z_icmp_ne C 265 dJ4_fixAfterDeletion_238 (by decide) (fun c238 => ?_) (fun c238 => ?_)
                  · skip
                    have k102 : true = false := zb1f c238
                    cases k102
                  · skip
                    have k103 : true = true := zb1 c238
                    refine z_aload_n C 0 rfl dJ4_fixAfterDeletion_241 rfl ?_
                    refine z_callS C (As := [.ref y55]) (mJ4_leftOf (o := (some y55)) hlp_0 (oM hm87)) (lw_S q709 q710 q64 q711) hd_J4_leftOf rfl (Nat.le_of_ble_eq_true rfl) (by decide) (by decide) (by decide) (by decide) rfl dJ4_fixAfterDeletion_242 (fun _ _ h => h.elim) (fun r104 V105 hP106 => ?_)
                    rw [hP106.1, hP106.2]
                    refine z_st (st' := [va_rf (lf1 y55)]) rfl ?_
                    rcases hy108 : lf1 y55 with _ | y107
                    · skip
                      refine z_callS C (As := [.null]) (mJ4_colorOf (o := none) hlp_0 oN) (lw_S q703 q704 q64 q705) hd_J4_colorOf rfl (Nat.le_of_ble_eq_true rfl) (by decide) (by decide) (by decide) (by decide) rfl dJ4_fixAfterDeletion_245 (fun _ _ h => h.elim) (fun r109 V110 hP111 => ?_)
                      rw [hP111.1, hP111.2]
                      refine z_st (st' := [.int (zb true)]) rfl ?_
                      refine z_iconst C (v := (nI 1)) dJ4_fixAfterDeletion_248 rfl ?_
                      refine z_icmp_ne C 265 dJ4_fixAfterDeletion_249 (by decide) (fun c249 => ?_) (fun c249 => ?_)
                      · skip
                        have k112 : true = false := zb1f c249
                        cases k112
                      · skip
                        have k113 : true = true := zb1 c249
                        refine z_aload_n C 0 rfl dJ4_fixAfterDeletion_252 rfl ?_
                        refine z_iconst C (v := (nI 0)) dJ4_fixAfterDeletion_253 rfl ?_
                        refine z_st (st' := [.int (zb false), .ref y55]) rfl ?_
                        refine z_callS C (As := [.ref y55, .int (zb false)]) (mJ4_setColor (o := (some y55)) (c := false) hlp_0 (oM hm87)) (lw_S q715 q716 q64 q717) hd_J4_setColor rfl (Nat.le_of_ble_eq_true rfl) (by decide) (by decide) (by decide) (by decide) rfl dJ4_fixAfterDeletion_254 (fun _ _ h => h.elim) (fun r114 V115 hP116 => ?_)
                        obtain ⟨hW117, hU118⟩ := hP116
                        refine z_st (st' := []) rfl ?_
                        have hU119 := zUnc.tr (S := tC t L) hlp_2 hU118 (fun _ h => Or.inl h)
                        change tW _ _ _ _ _ _ _ (va_up cl1 y55 false) _ _ _ _ at hW117
                        obtain ⟨cl121, ec120⟩ : ∃ q, q = va_up cl1 y55 false := ⟨_, rfl⟩
                        rw [← ec120] at hW117
                        have k122 : cl121 y55 = false := by rw [ec120, zvs]
                        have nx123 : x1 ≠ y55 := (Ne.symm (tI.sib hlp_1 hm21 hy56 k45))
                        have k124 : cl121 x1 = true := by rw [ec120, zvn nx123]; exact k37
                        refine z_aload_n C 2 rfl dJ4_fixAfterDeletion_257 rfl ?_
                        refine z_callS C (As := [.ref x1]) (mJ4_parentOf (o := (some x1)) hW117 (oM hlp_3)) (lw_S q706 q707 q64 q708) hd_J4_parentOf rfl (Nat.le_of_ble_eq_true rfl) (by decide) (by decide) (by decide) (by decide) rfl dJ4_fixAfterDeletion_258 (fun _ _ h => h.elim) (fun r125 V126 hP127 => ?_)
                        rw [hP127.1, hP127.2]
                        refine z_st (st' := [va_rf (pa1 x1)]) rfl ?_
                        refine z_top (v := .ref p) (congrArg va_rf (show (pa1 x1) = (some p) from (by rw [hp]))) ?_
                        refine z_astore_n C [(1, .ref p), (2, .ref y55), (0, .ref t)] dJ4_fixAfterDeletion_261 rfl (by decide) rfl ?_
                        refine z_goto C 342 dJ4_fixAfterDeletion_262 (by decide) ?_
                        refine z_goto C 0 dJ4_fixAfterDeletion_342 (by decide) ?_
                        refine z_pick [(0, .ref t), (1, .ref p)] [2, 0] rfl ?_
                        have q1 := (hlp_1.mp hlp_3 hp).2
                        exact ih_lp V115 rt1 lf1 rg1 pa1 cl121 lo1 hi1 p hW117 hlp_1 hU119 hm21 (by omega)
                    · skip
                      obtain ⟨hm128, hp129, nx130⟩ := hlp_1.ml hm87 hy108
                      refine z_callS C (As := [.ref y107]) (mJ4_colorOf (o := (some y107)) hlp_0 (oM hm128)) (lw_S q703 q704 q64 q705) hd_J4_colorOf rfl (Nat.le_of_ble_eq_true rfl) (by decide) (by decide) (by decide) (by decide) rfl dJ4_fixAfterDeletion_245 (fun _ _ h => h.elim) (fun r131 V132 hP133 => ?_)
                      rw [hP133.1, hP133.2]
                      refine z_st (st' := [.int (zb (cl1 y107))]) rfl ?_
                      refine z_iconst C (v := (nI 1)) dJ4_fixAfterDeletion_248 rfl ?_
                      refine z_icmp_ne C 265 dJ4_fixAfterDeletion_249 (by decide) (fun c249 => ?_) (fun c249 => ?_)
                      · skip
                        have k134 : (cl1 y107) = false := zb1f c249
                        refine z_aload_n C 0 rfl dJ4_fixAfterDeletion_265 rfl ?_
                        refine z_callS C (As := [.ref y55]) (mJ4_leftOf (o := (some y55)) hlp_0 (oM hm87)) (lw_S q709 q710 q64 q711) hd_J4_leftOf rfl (Nat.le_of_ble_eq_true rfl) (by decide) (by decide) (by decide) (by decide) rfl dJ4_fixAfterDeletion_266 (fun _ _ h => h.elim) (fun r135 V136 hP137 => ?_)
                        rw [hP137.1, hP137.2]
                        refine z_st (st' := [va_rf (lf1 y55)]) rfl ?_
                        refine z_top (v := .ref y107) (congrArg va_rf (show (lf1 y55) = (some y107) from (by rw [hy108]))) ?_
                        refine z_callS C (As := [.ref y107]) (mJ4_colorOf (o := (some y107)) hlp_0 (oM hm128)) (lw_S q703 q704 q64 q705) hd_J4_colorOf rfl (Nat.le_of_ble_eq_true rfl) (by decide) (by decide) (by decide) (by decide) rfl dJ4_fixAfterDeletion_269 (fun _ _ h => h.elim) (fun r138 V139 hP140 => ?_)
                        rw [hP140.1, hP140.2]
                        refine z_st (st' := [.int (zb (cl1 y107))]) rfl ?_
                        refine z_top (v := .int (zb false)) (congrArg (fun c => Value.int (zb c)) (show (cl1 y107) = false from (by rw [k134]))) ?_
                        refine z_iconst C (v := (nI 1)) dJ4_fixAfterDeletion_272 rfl ?_
                        refine z_icmp_ne C 302 dJ4_fixAfterDeletion_273 (by decide) (fun c273 => ?_) (fun c273 => ?_)
                        · skip
                          have k141 : false = false := zb1f c273
                          refine z_aload_n C 0 rfl dJ4_fixAfterDeletion_302 rfl ?_
                          refine z_aload_n C 2 rfl dJ4_fixAfterDeletion_303 rfl ?_
                          refine z_callS C (As := [.ref x1]) (mJ4_parentOf (o := (some x1)) hlp_0 (oM hlp_3)) (lw_S q706 q707 q64 q708) hd_J4_parentOf rfl (Nat.le_of_ble_eq_true rfl) (by decide) (by decide) (by decide) (by decide) rfl dJ4_fixAfterDeletion_304 (fun _ _ h => h.elim) (fun r142 V143 hP144 => ?_)
                          rw [hP144.1, hP144.2]
                          refine z_st (st' := [va_rf (pa1 x1), .ref y55]) rfl ?_
                          refine z_top (v := .ref p) (congrArg va_rf (show (pa1 x1) = (some p) from (by rw [hp]))) ?_
                          refine z_callS C (As := [.ref p]) (mJ4_colorOf (o := (some p)) hlp_0 (oM hm21)) (lw_S q703 q704 q64 q705) hd_J4_colorOf rfl (Nat.le_of_ble_eq_true rfl) (by decide) (by decide) (by decide) (by decide) rfl dJ4_fixAfterDeletion_307 (fun _ _ h => h.elim) (fun r145 V146 hP147 => ?_)
                          rw [hP147.1, hP147.2]
                          refine z_st (st' := [.int (zb (cl1 p)), .ref y55]) rfl ?_
                          refine z_callS C (As := [.ref y55, .int (zb (cl1 p))]) (mJ4_setColor (o := (some y55)) (c := (cl1 p)) hlp_0 (oM hm87)) (lw_S q715 q716 q64 q717) hd_J4_setColor rfl (Nat.le_of_ble_eq_true rfl) (by decide) (by decide) (by decide) (by decide) rfl dJ4_fixAfterDeletion_310 (fun _ _ h => h.elim) (fun r148 V149 hP150 => ?_)
                          obtain ⟨hW151, hU152⟩ := hP150
                          refine z_st (st' := []) rfl ?_
                          have hU153 := zUnc.tr (S := tC t L) hlp_2 hU152 (fun _ h => Or.inl h)
                          change tW _ _ _ _ _ _ _ (va_up cl1 y55 (cl1 p)) _ _ _ _ at hW151
                          obtain ⟨cl155, ec154⟩ : ∃ q, q = va_up cl1 y55 (cl1 p) := ⟨_, rfl⟩
                          rw [← ec154] at hW151
                          have k156 : cl155 y55 = (cl1 p) := by rw [ec154, zvs]
                          have nx157 : x1 ≠ y55 := (Ne.symm (tI.sib hlp_1 hm21 hy56 k45))
                          have k158 : cl155 x1 = true := by rw [ec154, zvn nx157]; exact k37
                          have k159 : cl155 y107 = false := by rw [ec154, zvn nx130]; exact k134
                          refine z_aload_n C 2 rfl dJ4_fixAfterDeletion_313 rfl ?_
                          refine z_callS C (As := [.ref x1]) (mJ4_parentOf (o := (some x1)) hW151 (oM hlp_3)) (lw_S q706 q707 q64 q708) hd_J4_parentOf rfl (Nat.le_of_ble_eq_true rfl) (by decide) (by decide) (by decide) (by decide) rfl dJ4_fixAfterDeletion_314 (fun _ _ h => h.elim) (fun r160 V161 hP162 => ?_)
                          rw [hP162.1, hP162.2]
                          refine z_st (st' := [va_rf (pa1 x1)]) rfl ?_
                          refine z_top (v := .ref p) (congrArg va_rf (show (pa1 x1) = (some p) from (by rw [hp]))) ?_
                          refine z_iconst C (v := (nI 1)) dJ4_fixAfterDeletion_317 rfl ?_
                          refine z_st (st' := [.int (zb true), .ref p]) rfl ?_
                          refine z_callS C (As := [.ref p, .int (zb true)]) (mJ4_setColor (o := (some p)) (c := true) hW151 (oM hm21)) (lw_S q715 q716 q64 q717) hd_J4_setColor rfl (Nat.le_of_ble_eq_true rfl) (by decide) (by decide) (by decide) (by decide) rfl dJ4_fixAfterDeletion_318 (fun _ _ h => h.elim) (fun r163 V164 hP165 => ?_)
                          obtain ⟨hW166, hU167⟩ := hP165
                          refine z_st (st' := []) rfl ?_
                          have hU168 := zUnc.tr (S := tC t L) hU153 hU167 (fun _ h => Or.inl h)
                          change tW _ _ _ _ _ _ _ (va_up cl155 p true) _ _ _ _ at hW166
                          obtain ⟨cl170, ec169⟩ : ∃ q, q = va_up cl155 p true := ⟨_, rfl⟩
                          rw [← ec169] at hW166
                          have k171 : cl170 p = true := by rw [ec169, zvs]
                          have k172 : cl170 x1 = true := by rw [ec169, zvn nx48]; exact k158
                          have nx173 : y107 ≠ p := (tI.gg hlp_1 hm128 hp129 hm87 hp88)
                          have k174 : cl170 y107 = false := by rw [ec169, zvn nx173]; exact k159
                          refine z_aload_n C 0 rfl dJ4_fixAfterDeletion_321 rfl ?_
                          refine z_callS C (As := [.ref y55]) (mJ4_leftOf (o := (some y55)) hW166 (oM hm87)) (lw_S q709 q710 q64 q711) hd_J4_leftOf rfl (Nat.le_of_ble_eq_true rfl) (by decide) (by decide) (by decide) (by decide) rfl dJ4_fixAfterDeletion_322 (fun _ _ h => h.elim) (fun r175 V176 hP177 => ?_)
                          rw [hP177.1, hP177.2]
                          refine z_st (st' := [va_rf (lf1 y55)]) rfl ?_
                          refine z_top (v := .ref y107) (congrArg va_rf (show (lf1 y55) = (some y107) from (by rw [hy108]))) ?_
                          refine z_iconst C (v := (nI 1)) dJ4_fixAfterDeletion_325 rfl ?_
                          refine z_st (st' := [.int (zb true), .ref y107]) rfl ?_
                          refine z_callS C (As := [.ref y107, .int (zb true)]) (mJ4_setColor (o := (some y107)) (c := true) hW166 (oM hm128)) (lw_S q715 q716 q64 q717) hd_J4_setColor rfl (Nat.le_of_ble_eq_true rfl) (by decide) (by decide) (by decide) (by decide) rfl dJ4_fixAfterDeletion_326 (fun _ _ h => h.elim) (fun r178 V179 hP180 => ?_)
                          obtain ⟨hW181, hU182⟩ := hP180
                          refine z_st (st' := []) rfl ?_
                          have hU183 := zUnc.tr (S := tC t L) hU168 hU182 (fun _ h => Or.inl h)
                          change tW _ _ _ _ _ _ _ (va_up cl170 y107 true) _ _ _ _ at hW181
                          obtain ⟨cl185, ec184⟩ : ∃ q, q = va_up cl170 y107 true := ⟨_, rfl⟩
                          rw [← ec184] at hW181
                          have k186 : cl185 y107 = true := by rw [ec184, zvs]
                          have k187 : cl185 p = true := by rw [ec184, zvn (Ne.symm nx173)]; exact k171
                          have nx188 : x1 ≠ y107 := (ne_pa hp hp129 (Ne.symm nx89))
                          have k189 : cl185 x1 = true := by rw [ec184, zvn nx188]; exact k172
                          refine z_aload_n C 1 rfl dJ4_fixAfterDeletion_329 rfl ?_
                          refine z_aload_n C 2 rfl dJ4_fixAfterDeletion_330 rfl ?_
                          refine z_callS C (As := [.ref x1]) (mJ4_parentOf (o := (some x1)) hW181 (oM hlp_3)) (lw_S q706 q707 q64 q708) hd_J4_parentOf rfl (Nat.le_of_ble_eq_true rfl) (by decide) (by decide) (by decide) (by decide) rfl dJ4_fixAfterDeletion_331 (fun _ _ h => h.elim) (fun r190 V191 hP192 => ?_)
                          rw [hP192.1, hP192.2]
                          refine z_st (st' := [va_rf (pa1 x1), .ref t]) rfl ?_
                          refine z_top (v := .ref p) (congrArg va_rf (show (pa1 x1) = (some p) from (by rw [hp]))) ?_
                          refine z_callV C k_TM hW181.1 (As := [.ref p]) (mJ4_rotateRight hW181 hlp_1 hm21 hy56) (lw_V q722 q724 qs9 q64 q725) rfl hd_J4_rotateRight rfl (Nat.le_of_ble_eq_true rfl) (by decide) (by decide) (by decide) (by decide) rfl dJ4_fixAfterDeletion_334 (fun _ _ h => h.elim) (fun r193 V194 hP195 => ?_)
                          obtain ⟨hW196, hU197⟩ := hP195
                          refine z_st (st' := []) rfl ?_
                          have hU198 := zUnc.tr (S := tC t L) hU183 hU197 (fun _ h => Or.inl h)
                          have hI199 := tI_rotR hlp_1 hm21 hy56
                          obtain ⟨lf206, eB201⟩ : ∃ q, q = xR rg1 lf1 p y55 := ⟨_, rfl⟩
                          rw [← eB201] at hW196 hI199
                          obtain ⟨pa207, eP202⟩ : ∃ q, q = xP rg1 pa1 p y55 := ⟨_, rfl⟩
                          rw [← eP202] at hW196 hI199
                          obtain ⟨rg208, eA200⟩ : ∃ q, q = xL rg1 p y55 := ⟨_, rfl⟩
                          rw [← eA200] at hW196 hI199
                          obtain ⟨rt209, eT203⟩ : ∃ q, q = xT rt1 p y55 := ⟨_, rfl⟩
                          rw [← eT203] at hW196 hI199
                          obtain ⟨lo210, elo204⟩ : ∃ q, q = va_up lo1 p (ps y55 + 1) := ⟨_, rfl⟩
                          rw [← elo204] at hI199
                          obtain ⟨hi211, ehi205⟩ : ∃ q, q = va_up hi1 y55 (hi1 p) := ⟨_, rfl⟩
                          rw [← ehi205] at hI199
                          have k212 : rg208 y55 = (some p) := by rw [eA200]; exact xL_r
                          have k213 : pa207 p = (some y55) := by rw [eP202]; exact xP_p
                          have k214 : lf206 p = none := by rw [eB201, xR_p]; exact hy98
                          have k215 : pa207 x1 = (some p) := by rw [eP202, xP_o nx48 nx157 (sn_ne hy98)]; exact hp
                          have k216 : rg208 p = (some x1) := by rw [eA200, xL_o (Ne.symm nx89) (so_ne k45 nx48)]; exact k45
                          have k217 : lf206 y55 = (some y107) := by rw [eB201, xR_o nx89 (so_ne hy108 nx173)]; exact hy108
                          have k218 : pa207 y107 = (some y55) := by rw [eP202, xP_o nx173 nx130 (sn_ne hy98)]; exact hp129
                          refine z_aload_n C 1 rfl dJ4_fixAfterDeletion_337 rfl ?_
                          refine z_get C k_TM hW196.1 3 (by decide) rfl q162 dJ4_fixAfterDeletion_338 ?_
                          refine z_astore_nQ C (r := rt209) [(1, va_rf rt209), (2, .ref y55), (0, .ref t)] dJ4_fixAfterDeletion_341 rfl (by decide) rfl ?_
                          refine z_goto C 0 dJ4_fixAfterDeletion_342 (by decide) ?_
                          refine z_pick [(0, .ref t), (1, va_rf rt209)] [2, 0] rfl ?_
                          obtain ⟨r0219, hr220⟩ := hI199.rtm hlp_3
                          obtain ⟨hm221, hp222, -, -⟩ := hI199.2.1.1 r0219 hr220
                          have e223 : (va_rf rt209 : Value) = .ref r0219 := (congrArg va_rf hr220)
                          refine z_lv (lv' := [(0, .ref t), (1, .ref r0219)]) (by rw [e223]) ?_
                          exact hexit V194 rt209 lf206 rg208 pa207 cl185 lo210 hi211 r0219 hW196 hI199 hU198 hm221 hr220
                        · skip
                          have k224 : false = true := zb1 c273
                          cases k224
                      · skip
                        have k225 : (cl1 y107) = true := zb1 c249
                        refine z_aload_n C 0 rfl dJ4_fixAfterDeletion_252 rfl ?_
                        refine z_iconst C (v := (nI 0)) dJ4_fixAfterDeletion_253 rfl ?_
                        refine z_st (st' := [.int (zb false), .ref y55]) rfl ?_
                        refine z_callS C (As := [.ref y55, .int (zb false)]) (mJ4_setColor (o := (some y55)) (c := false) hlp_0 (oM hm87)) (lw_S q715 q716 q64 q717) hd_J4_setColor rfl (Nat.le_of_ble_eq_true rfl) (by decide) (by decide) (by decide) (by decide) rfl dJ4_fixAfterDeletion_254 (fun _ _ h => h.elim) (fun r226 V227 hP228 => ?_)
                        obtain ⟨hW229, hU230⟩ := hP228
                        refine z_st (st' := []) rfl ?_
                        have hU231 := zUnc.tr (S := tC t L) hlp_2 hU230 (fun _ h => Or.inl h)
                        change tW _ _ _ _ _ _ _ (va_up cl1 y55 false) _ _ _ _ at hW229
                        obtain ⟨cl233, ec232⟩ : ∃ q, q = va_up cl1 y55 false := ⟨_, rfl⟩
                        rw [← ec232] at hW229
                        have k234 : cl233 y55 = false := by rw [ec232, zvs]
                        have nx235 : x1 ≠ y55 := (Ne.symm (tI.sib hlp_1 hm21 hy56 k45))
                        have k236 : cl233 x1 = true := by rw [ec232, zvn nx235]; exact k37
                        have k237 : cl233 y107 = true := by rw [ec232, zvn nx130]; exact k225
                        refine z_aload_n C 2 rfl dJ4_fixAfterDeletion_257 rfl ?_
                        refine z_callS C (As := [.ref x1]) (mJ4_parentOf (o := (some x1)) hW229 (oM hlp_3)) (lw_S q706 q707 q64 q708) hd_J4_parentOf rfl (Nat.le_of_ble_eq_true rfl) (by decide) (by decide) (by decide) (by decide) rfl dJ4_fixAfterDeletion_258 (fun _ _ h => h.elim) (fun r238 V239 hP240 => ?_)
                        rw [hP240.1, hP240.2]
                        refine z_st (st' := [va_rf (pa1 x1)]) rfl ?_
                        refine z_top (v := .ref p) (congrArg va_rf (show (pa1 x1) = (some p) from (by rw [hp]))) ?_
                        refine z_astore_n C [(1, .ref p), (2, .ref y55), (0, .ref t)] dJ4_fixAfterDeletion_261 rfl (by decide) rfl ?_
                        refine z_goto C 342 dJ4_fixAfterDeletion_262 (by decide) ?_
                        refine z_goto C 0 dJ4_fixAfterDeletion_342 (by decide) ?_
                        refine z_pick [(0, .ref t), (1, .ref p)] [2, 0] rfl ?_
                        have q1 := (hlp_1.mp hlp_3 hp).2
                        exact ih_lp V227 rt1 lf1 rg1 pa1 cl233 lo1 hi1 p hW229 hlp_1 hU231 hm21 (by omega)
                · skip
                  obtain ⟨hm241, hp242, nx243⟩ := hlp_1.mr hm87 hy98
                  refine z_callS C (As := [.ref y97]) (mJ4_colorOf (o := (some y97)) hlp_0 (oM hm241)) (lw_S q703 q704 q64 q705) hd_J4_colorOf rfl (Nat.le_of_ble_eq_true rfl) (by decide) (by decide) (by decide) (by decide) rfl dJ4_fixAfterDeletion_234 (fun _ _ h => h.elim) (fun r244 V245 hP246 => ?_)
                  rw [hP246.1, hP246.2]
                  refine z_st (st' := [.int (zb (cl1 y97))]) rfl ?_
                  refine z_iconst C (v := (nI 1)) dJ4_fixAfterDeletion_237 rfl ?_
                  refine z_icmp_ne C 265 dJ4_fixAfterDeletion_238 (by decide) (fun c238 => ?_) (fun c238 => ?_)
                  · skip
                    have k247 : (cl1 y97) = false := zb1f c238
                    refine z_aload_n C 0 rfl dJ4_fixAfterDeletion_265 rfl ?_
                    refine z_callS C (As := [.ref y55]) (mJ4_leftOf (o := (some y55)) hlp_0 (oM hm87)) (lw_S q709 q710 q64 q711) hd_J4_leftOf rfl (Nat.le_of_ble_eq_true rfl) (by decide) (by decide) (by decide) (by decide) rfl dJ4_fixAfterDeletion_266 (fun _ _ h => h.elim) (fun r248 V249 hP250 => ?_)
                    rw [hP250.1, hP250.2]
                    refine z_st (st' := [va_rf (lf1 y55)]) rfl ?_
                    rcases hy252 : lf1 y55 with _ | y251
                    · skip
                      refine z_callS C (As := [.null]) (mJ4_colorOf (o := none) hlp_0 oN) (lw_S q703 q704 q64 q705) hd_J4_colorOf rfl (Nat.le_of_ble_eq_true rfl) (by decide) (by decide) (by decide) (by decide) rfl dJ4_fixAfterDeletion_269 (fun _ _ h => h.elim) (fun r253 V254 hP255 => ?_)
                      rw [hP255.1, hP255.2]
                      refine z_st (st' := [.int (zb true)]) rfl ?_
                      refine z_iconst C (v := (nI 1)) dJ4_fixAfterDeletion_272 rfl ?_
                      refine z_icmp_ne C 302 dJ4_fixAfterDeletion_273 (by decide) (fun c273 => ?_) (fun c273 => ?_)
                      · skip
                        have k256 : true = false := zb1f c273
                        cases k256
                      · skip
                        have k257 : true = true := zb1 c273
                        refine z_aload_n C 0 rfl dJ4_fixAfterDeletion_276 rfl ?_
                        refine z_callS C (As := [.ref y55]) (mJ4_rightOf (o := (some y55)) hlp_0 (oM hm87)) (lw_S q712 q713 q64 q714) hd_J4_rightOf rfl (Nat.le_of_ble_eq_true rfl) (by decide) (by decide) (by decide) (by decide) rfl dJ4_fixAfterDeletion_277 (fun _ _ h => h.elim) (fun r258 V259 hP260 => ?_)
                        rw [hP260.1, hP260.2]
                        refine z_st (st' := [va_rf (rg1 y55)]) rfl ?_
                        refine z_top (v := .ref y97) (congrArg va_rf (show (rg1 y55) = (some y97) from (by rw [hy98]))) ?_
                        refine z_iconst C (v := (nI 1)) dJ4_fixAfterDeletion_280 rfl ?_
                        refine z_st (st' := [.int (zb true), .ref y97]) rfl ?_
                        refine z_callS C (As := [.ref y97, .int (zb true)]) (mJ4_setColor (o := (some y97)) (c := true) hlp_0 (oM hm241)) (lw_S q715 q716 q64 q717) hd_J4_setColor rfl (Nat.le_of_ble_eq_true rfl) (by decide) (by decide) (by decide) (by decide) rfl dJ4_fixAfterDeletion_281 (fun _ _ h => h.elim) (fun r261 V262 hP263 => ?_)
                        obtain ⟨hW264, hU265⟩ := hP263
                        refine z_st (st' := []) rfl ?_
                        have hU266 := zUnc.tr (S := tC t L) hlp_2 hU265 (fun _ h => Or.inl h)
                        change tW _ _ _ _ _ _ _ (va_up cl1 y97 true) _ _ _ _ at hW264
                        obtain ⟨cl268, ec267⟩ : ∃ q, q = va_up cl1 y97 true := ⟨_, rfl⟩
                        rw [← ec267] at hW264
                        have k269 : cl268 y97 = true := by rw [ec267, zvs]
                        have nx270 : x1 ≠ y97 := (ne_pa hp hp242 (Ne.symm nx89))
                        have k271 : cl268 x1 = true := by rw [ec267, zvn nx270]; exact k37
                        have k272 : cl268 y55 = true := by rw [ec267, zvn (Ne.symm nx243)]; exact k93
                        refine z_aload_n C 0 rfl dJ4_fixAfterDeletion_284 rfl ?_
                        refine z_iconst C (v := (nI 0)) dJ4_fixAfterDeletion_285 rfl ?_
                        refine z_st (st' := [.int (zb false), .ref y55]) rfl ?_
                        refine z_callS C (As := [.ref y55, .int (zb false)]) (mJ4_setColor (o := (some y55)) (c := false) hW264 (oM hm87)) (lw_S q715 q716 q64 q717) hd_J4_setColor rfl (Nat.le_of_ble_eq_true rfl) (by decide) (by decide) (by decide) (by decide) rfl dJ4_fixAfterDeletion_286 (fun _ _ h => h.elim) (fun r273 V274 hP275 => ?_)
                        obtain ⟨hW276, hU277⟩ := hP275
                        refine z_st (st' := []) rfl ?_
                        have hU278 := zUnc.tr (S := tC t L) hU266 hU277 (fun _ h => Or.inl h)
                        change tW _ _ _ _ _ _ _ (va_up cl268 y55 false) _ _ _ _ at hW276
                        obtain ⟨cl280, ec279⟩ : ∃ q, q = va_up cl268 y55 false := ⟨_, rfl⟩
                        rw [← ec279] at hW276
                        have k281 : cl280 y55 = false := by rw [ec279, zvs]
                        have k282 : cl280 y97 = true := by rw [ec279, zvn nx243]; exact k269
                        have nx283 : x1 ≠ y55 := (Ne.symm (tI.sib hlp_1 hm21 hy56 k45))
                        have k284 : cl280 x1 = true := by rw [ec279, zvn nx283]; exact k271
                        refine z_aload_n C 1 rfl dJ4_fixAfterDeletion_289 rfl ?_
                        refine z_aload_n C 0 rfl dJ4_fixAfterDeletion_290 rfl ?_
                        refine z_callV C k_TM hW276.1 (As := [.ref y55]) (mJ4_rotateLeft hW276 hlp_1 hm87 hy98) (lw_V q718 q720 qs8 q64 q721) rfl hd_J4_rotateLeft rfl (Nat.le_of_ble_eq_true rfl) (by decide) (by decide) (by decide) (by decide) rfl dJ4_fixAfterDeletion_291 (fun _ _ h => h.elim) (fun r285 V286 hP287 => ?_)
                        obtain ⟨hW288, hU289⟩ := hP287
                        refine z_st (st' := []) rfl ?_
                        have hU290 := zUnc.tr (S := tC t L) hU278 hU289 (fun _ h => Or.inl h)
                        have hI291 := tI_rotL hlp_1 hm87 hy98
                        obtain ⟨rg298, eB293⟩ : ∃ q, q = xR lf1 rg1 y55 y97 := ⟨_, rfl⟩
                        rw [← eB293] at hW288 hI291
                        obtain ⟨pa299, eP294⟩ : ∃ q, q = xP lf1 pa1 y55 y97 := ⟨_, rfl⟩
                        rw [← eP294] at hW288 hI291
                        obtain ⟨lf300, eA292⟩ : ∃ q, q = xL lf1 y55 y97 := ⟨_, rfl⟩
                        rw [← eA292] at hW288 hI291
                        obtain ⟨rt301, eT295⟩ : ∃ q, q = xT rt1 y55 y97 := ⟨_, rfl⟩
                        rw [← eT295] at hW288 hI291
                        obtain ⟨lo302, elo296⟩ : ∃ q, q = va_up lo1 y97 (lo1 y55) := ⟨_, rfl⟩
                        rw [← elo296] at hI291
                        obtain ⟨hi303, ehi297⟩ : ∃ q, q = va_up hi1 y55 (ps y97) := ⟨_, rfl⟩
                        rw [← ehi297] at hI291
                        have k304 : lf300 y97 = (some y55) := by rw [eA292]; exact xL_r
                        have k305 : pa299 y55 = (some y97) := by rw [eP294]; exact xP_p
                        have k306 : pa299 y97 = (some p) := by rw [eP294, xP_r nx243]; exact hp88
                        have nx307 : p ≠ y97 := (Ne.symm (tI.gg hlp_1 hm241 hp242 hm87 hp88))
                        have k308 : pa299 x1 = (some p) := by rw [eP294, xP_o nx283 nx270 (fun z => nx307 (Option.some.inj (hp.symm.trans (hlp_1.ml hm241 z).2.1)))]; exact hp
                        have k309 : rg298 p = (some x1) := by rw [eB293, xR_o (Ne.symm nx89) (so_ne k45 nx283)]; exact k45
                        have k310 : lf300 p = (some y97) := by rw [eA292]; exact xL_u nx307 hy56
                        have k311 : lf300 y55 = none := by rw [eA292, xL_o (Ne.symm nx243) (sn_ne hy252)]; exact hy252
                        refine z_aload_n C 2 rfl dJ4_fixAfterDeletion_294 rfl ?_
                        refine z_callS C (As := [.ref x1]) (mJ4_parentOf (o := (some x1)) hW288 (oM hlp_3)) (lw_S q706 q707 q64 q708) hd_J4_parentOf rfl (Nat.le_of_ble_eq_true rfl) (by decide) (by decide) (by decide) (by decide) rfl dJ4_fixAfterDeletion_295 (fun _ _ h => h.elim) (fun r312 V313 hP314 => ?_)
                        rw [hP314.1, hP314.2]
                        refine z_st (st' := [va_rf (pa299 x1)]) rfl ?_
                        refine z_top (v := .ref p) (congrArg va_rf (show (pa299 x1) = (some p) from (by rw [k308]))) ?_
                        refine z_callS C (As := [.ref p]) (mJ4_leftOf (o := (some p)) hW288 (oM hm21)) (lw_S q709 q710 q64 q711) hd_J4_leftOf rfl (Nat.le_of_ble_eq_true rfl) (by decide) (by decide) (by decide) (by decide) rfl dJ4_fixAfterDeletion_298 (fun _ _ h => h.elim) (fun r315 V316 hP317 => ?_)
                        rw [hP317.1, hP317.2]
                        refine z_st (st' := [va_rf (lf300 p)]) rfl ?_
                        refine z_top (v := .ref y97) (congrArg va_rf (show (lf300 p) = (some y97) from (by rw [k310]))) ?_
                        refine z_astore_n C [(2, .ref y97), (0, .ref t), (1, .ref x1)] dJ4_fixAfterDeletion_301 rfl (by decide) rfl ?_
                        refine z_aload_n C 0 rfl dJ4_fixAfterDeletion_302 rfl ?_
                        refine z_aload_n C 2 rfl dJ4_fixAfterDeletion_303 rfl ?_
                        refine z_callS C (As := [.ref x1]) (mJ4_parentOf (o := (some x1)) hW288 (oM hlp_3)) (lw_S q706 q707 q64 q708) hd_J4_parentOf rfl (Nat.le_of_ble_eq_true rfl) (by decide) (by decide) (by decide) (by decide) rfl dJ4_fixAfterDeletion_304 (fun _ _ h => h.elim) (fun r318 V319 hP320 => ?_)
                        rw [hP320.1, hP320.2]
                        refine z_st (st' := [va_rf (pa299 x1), .ref y97]) rfl ?_
                        refine z_top (v := .ref p) (congrArg va_rf (show (pa299 x1) = (some p) from (by rw [k308]))) ?_
                        refine z_callS C (As := [.ref p]) (mJ4_colorOf (o := (some p)) hW288 (oM hm21)) (lw_S q703 q704 q64 q705) hd_J4_colorOf rfl (Nat.le_of_ble_eq_true rfl) (by decide) (by decide) (by decide) (by decide) rfl dJ4_fixAfterDeletion_307 (fun _ _ h => h.elim) (fun r321 V322 hP323 => ?_)
                        rw [hP323.1, hP323.2]
                        refine z_st (st' := [.int (zb (cl280 p)), .ref y97]) rfl ?_
                        refine z_callS C (As := [.ref y97, .int (zb (cl280 p))]) (mJ4_setColor (o := (some y97)) (c := (cl280 p)) hW288 (oM hm241)) (lw_S q715 q716 q64 q717) hd_J4_setColor rfl (Nat.le_of_ble_eq_true rfl) (by decide) (by decide) (by decide) (by decide) rfl dJ4_fixAfterDeletion_310 (fun _ _ h => h.elim) (fun r324 V325 hP326 => ?_)
                        obtain ⟨hW327, hU328⟩ := hP326
                        refine z_st (st' := []) rfl ?_
                        have hU329 := zUnc.tr (S := tC t L) hU290 hU328 (fun _ h => Or.inl h)
                        change tW _ _ _ _ _ _ _ (va_up cl280 y97 (cl280 p)) _ _ _ _ at hW327
                        obtain ⟨cl331, ec330⟩ : ∃ q, q = va_up cl280 y97 (cl280 p) := ⟨_, rfl⟩
                        rw [← ec330] at hW327
                        have k332 : cl331 y97 = (cl280 p) := by rw [ec330, zvs]
                        have k333 : cl331 y55 = false := by rw [ec330, zvn (Ne.symm nx243)]; exact k281
                        have k334 : cl331 x1 = true := by rw [ec330, zvn nx270]; exact k284
                        refine z_aload_n C 2 rfl dJ4_fixAfterDeletion_313 rfl ?_
                        refine z_callS C (As := [.ref x1]) (mJ4_parentOf (o := (some x1)) hW327 (oM hlp_3)) (lw_S q706 q707 q64 q708) hd_J4_parentOf rfl (Nat.le_of_ble_eq_true rfl) (by decide) (by decide) (by decide) (by decide) rfl dJ4_fixAfterDeletion_314 (fun _ _ h => h.elim) (fun r335 V336 hP337 => ?_)
                        rw [hP337.1, hP337.2]
                        refine z_st (st' := [va_rf (pa299 x1)]) rfl ?_
                        refine z_top (v := .ref p) (congrArg va_rf (show (pa299 x1) = (some p) from (by rw [k308]))) ?_
                        refine z_iconst C (v := (nI 1)) dJ4_fixAfterDeletion_317 rfl ?_
                        refine z_st (st' := [.int (zb true), .ref p]) rfl ?_
                        refine z_callS C (As := [.ref p, .int (zb true)]) (mJ4_setColor (o := (some p)) (c := true) hW327 (oM hm21)) (lw_S q715 q716 q64 q717) hd_J4_setColor rfl (Nat.le_of_ble_eq_true rfl) (by decide) (by decide) (by decide) (by decide) rfl dJ4_fixAfterDeletion_318 (fun _ _ h => h.elim) (fun r338 V339 hP340 => ?_)
                        obtain ⟨hW341, hU342⟩ := hP340
                        refine z_st (st' := []) rfl ?_
                        have hU343 := zUnc.tr (S := tC t L) hU329 hU342 (fun _ h => Or.inl h)
                        change tW _ _ _ _ _ _ _ (va_up cl331 p true) _ _ _ _ at hW341
                        obtain ⟨cl345, ec344⟩ : ∃ q, q = va_up cl331 p true := ⟨_, rfl⟩
                        rw [← ec344] at hW341
                        have k346 : cl345 p = true := by rw [ec344, zvs]
                        have k347 : cl345 y55 = false := by rw [ec344, zvn nx89]; exact k333
                        have k348 : cl345 x1 = true := by rw [ec344, zvn nx48]; exact k334
                        refine z_aload_n C 0 rfl dJ4_fixAfterDeletion_321 rfl ?_
                        refine z_callS C (As := [.ref y97]) (mJ4_leftOf (o := (some y97)) hW341 (oM hm241)) (lw_S q709 q710 q64 q711) hd_J4_leftOf rfl (Nat.le_of_ble_eq_true rfl) (by decide) (by decide) (by decide) (by decide) rfl dJ4_fixAfterDeletion_322 (fun _ _ h => h.elim) (fun r349 V350 hP351 => ?_)
                        rw [hP351.1, hP351.2]
                        refine z_st (st' := [va_rf (lf300 y97)]) rfl ?_
                        refine z_top (v := .ref y55) (congrArg va_rf (show (lf300 y97) = (some y55) from (by rw [k304]))) ?_
                        refine z_iconst C (v := (nI 1)) dJ4_fixAfterDeletion_325 rfl ?_
                        refine z_st (st' := [.int (zb true), .ref y55]) rfl ?_
                        refine z_callS C (As := [.ref y55, .int (zb true)]) (mJ4_setColor (o := (some y55)) (c := true) hW341 (oM hm87)) (lw_S q715 q716 q64 q717) hd_J4_setColor rfl (Nat.le_of_ble_eq_true rfl) (by decide) (by decide) (by decide) (by decide) rfl dJ4_fixAfterDeletion_326 (fun _ _ h => h.elim) (fun r352 V353 hP354 => ?_)
                        obtain ⟨hW355, hU356⟩ := hP354
                        refine z_st (st' := []) rfl ?_
                        have hU357 := zUnc.tr (S := tC t L) hU343 hU356 (fun _ h => Or.inl h)
                        change tW _ _ _ _ _ _ _ (va_up cl345 y55 true) _ _ _ _ at hW355
                        obtain ⟨cl359, ec358⟩ : ∃ q, q = va_up cl345 y55 true := ⟨_, rfl⟩
                        rw [← ec358] at hW355
                        have k360 : cl359 y55 = true := by rw [ec358, zvs]
                        have k361 : cl359 p = true := by rw [ec358, zvn (Ne.symm nx89)]; exact k346
                        have k362 : cl359 x1 = true := by rw [ec358, zvn nx283]; exact k348
                        refine z_aload_n C 1 rfl dJ4_fixAfterDeletion_329 rfl ?_
                        refine z_aload_n C 2 rfl dJ4_fixAfterDeletion_330 rfl ?_
                        refine z_callS C (As := [.ref x1]) (mJ4_parentOf (o := (some x1)) hW355 (oM hlp_3)) (lw_S q706 q707 q64 q708) hd_J4_parentOf rfl (Nat.le_of_ble_eq_true rfl) (by decide) (by decide) (by decide) (by decide) rfl dJ4_fixAfterDeletion_331 (fun _ _ h => h.elim) (fun r363 V364 hP365 => ?_)
                        rw [hP365.1, hP365.2]
                        refine z_st (st' := [va_rf (pa299 x1), .ref t]) rfl ?_
                        refine z_top (v := .ref p) (congrArg va_rf (show (pa299 x1) = (some p) from (by rw [k308]))) ?_
                        refine z_callV C k_TM hW355.1 (As := [.ref p]) (mJ4_rotateRight hW355 hI291 hm21 k310) (lw_V q722 q724 qs9 q64 q725) rfl hd_J4_rotateRight rfl (Nat.le_of_ble_eq_true rfl) (by decide) (by decide) (by decide) (by decide) rfl dJ4_fixAfterDeletion_334 (fun _ _ h => h.elim) (fun r366 V367 hP368 => ?_)
                        obtain ⟨hW369, hU370⟩ := hP368
                        refine z_st (st' := []) rfl ?_
                        have hU371 := zUnc.tr (S := tC t L) hU357 hU370 (fun _ h => Or.inl h)
                        have hI372 := tI_rotR hI291 hm21 k310
                        obtain ⟨lf379, eB374⟩ : ∃ q, q = xR rg298 lf300 p y97 := ⟨_, rfl⟩
                        rw [← eB374] at hW369 hI372
                        obtain ⟨pa380, eP375⟩ : ∃ q, q = xP rg298 pa299 p y97 := ⟨_, rfl⟩
                        rw [← eP375] at hW369 hI372
                        obtain ⟨rg381, eA373⟩ : ∃ q, q = xL rg298 p y97 := ⟨_, rfl⟩
                        rw [← eA373] at hW369 hI372
                        obtain ⟨rt382, eT376⟩ : ∃ q, q = xT rt301 p y97 := ⟨_, rfl⟩
                        rw [← eT376] at hW369 hI372
                        obtain ⟨lo383, elo377⟩ : ∃ q, q = va_up lo302 p (ps y97 + 1) := ⟨_, rfl⟩
                        rw [← elo377] at hI372
                        obtain ⟨hi384, ehi378⟩ : ∃ q, q = va_up hi303 y97 (hi303 p) := ⟨_, rfl⟩
                        rw [← ehi378] at hI372
                        have k385 : rg381 y97 = (some p) := by rw [eA373]; exact xL_r
                        have k386 : pa380 p = (some y97) := by rw [eP375]; exact xP_p
                        have k387 : lf379 y97 = (some y55) := by rw [eB374, xR_o (Ne.symm nx307) (so_ne k304 nx89)]; exact k304
                        have k388 : pa380 y55 = (some y97) := by rw [eP375, xP_o nx89 (Ne.symm nx243) (hI291.lr hm241 k304)]; exact k305
                        have k389 : pa380 x1 = (some p) := by rw [eP375, xP_o nx48 nx270 (fun z => nx307 (Option.some.inj (k308.symm.trans (hI291.mr hm241 z).2.1)))]; exact k308
                        have k390 : rg381 p = (some x1) := by rw [eA373, xL_o nx307 (so_ne k309 nx48)]; exact k309
                        have k391 : lf379 y55 = none := by rw [eB374, xR_o nx89 (sn_ne k311)]; exact k311
                        refine z_aload_n C 1 rfl dJ4_fixAfterDeletion_337 rfl ?_
                        refine z_get C k_TM hW369.1 3 (by decide) rfl q162 dJ4_fixAfterDeletion_338 ?_
                        refine z_astore_nQ C (r := rt382) [(1, va_rf rt382), (2, .ref y97), (0, .ref t)] dJ4_fixAfterDeletion_341 rfl (by decide) rfl ?_
                        refine z_goto C 0 dJ4_fixAfterDeletion_342 (by decide) ?_
                        refine z_pick [(0, .ref t), (1, va_rf rt382)] [2, 0] rfl ?_
                        obtain ⟨r0392, hr393⟩ := hI372.rtm hlp_3
                        obtain ⟨hm394, hp395, -, -⟩ := hI372.2.1.1 r0392 hr393
                        have e396 : (va_rf rt382 : Value) = .ref r0392 := (congrArg va_rf hr393)
                        refine z_lv (lv' := [(0, .ref t), (1, .ref r0392)]) (by rw [e396]) ?_
                        exact hexit V367 rt382 lf379 rg381 pa380 cl359 lo383 hi384 r0392 hW369 hI372 hU371 hm394 hr393
                    · skip
                      obtain ⟨hm397, hp398, nx399⟩ := hlp_1.ml hm87 hy252
                      refine z_callS C (As := [.ref y251]) (mJ4_colorOf (o := (some y251)) hlp_0 (oM hm397)) (lw_S q703 q704 q64 q705) hd_J4_colorOf rfl (Nat.le_of_ble_eq_true rfl) (by decide) (by decide) (by decide) (by decide) rfl dJ4_fixAfterDeletion_269 (fun _ _ h => h.elim) (fun r400 V401 hP402 => ?_)
                      rw [hP402.1, hP402.2]
                      refine z_st (st' := [.int (zb (cl1 y251))]) rfl ?_
                      refine z_iconst C (v := (nI 1)) dJ4_fixAfterDeletion_272 rfl ?_
                      refine z_icmp_ne C 302 dJ4_fixAfterDeletion_273 (by decide) (fun c273 => ?_) (fun c273 => ?_)
                      · skip
                        have k403 : (cl1 y251) = false := zb1f c273
                        refine z_aload_n C 0 rfl dJ4_fixAfterDeletion_302 rfl ?_
                        refine z_aload_n C 2 rfl dJ4_fixAfterDeletion_303 rfl ?_
                        refine z_callS C (As := [.ref x1]) (mJ4_parentOf (o := (some x1)) hlp_0 (oM hlp_3)) (lw_S q706 q707 q64 q708) hd_J4_parentOf rfl (Nat.le_of_ble_eq_true rfl) (by decide) (by decide) (by decide) (by decide) rfl dJ4_fixAfterDeletion_304 (fun _ _ h => h.elim) (fun r404 V405 hP406 => ?_)
                        rw [hP406.1, hP406.2]
                        refine z_st (st' := [va_rf (pa1 x1), .ref y55]) rfl ?_
                        refine z_top (v := .ref p) (congrArg va_rf (show (pa1 x1) = (some p) from (by rw [hp]))) ?_
                        refine z_callS C (As := [.ref p]) (mJ4_colorOf (o := (some p)) hlp_0 (oM hm21)) (lw_S q703 q704 q64 q705) hd_J4_colorOf rfl (Nat.le_of_ble_eq_true rfl) (by decide) (by decide) (by decide) (by decide) rfl dJ4_fixAfterDeletion_307 (fun _ _ h => h.elim) (fun r407 V408 hP409 => ?_)
                        rw [hP409.1, hP409.2]
                        refine z_st (st' := [.int (zb (cl1 p)), .ref y55]) rfl ?_
                        refine z_callS C (As := [.ref y55, .int (zb (cl1 p))]) (mJ4_setColor (o := (some y55)) (c := (cl1 p)) hlp_0 (oM hm87)) (lw_S q715 q716 q64 q717) hd_J4_setColor rfl (Nat.le_of_ble_eq_true rfl) (by decide) (by decide) (by decide) (by decide) rfl dJ4_fixAfterDeletion_310 (fun _ _ h => h.elim) (fun r410 V411 hP412 => ?_)
                        obtain ⟨hW413, hU414⟩ := hP412
                        refine z_st (st' := []) rfl ?_
                        have hU415 := zUnc.tr (S := tC t L) hlp_2 hU414 (fun _ h => Or.inl h)
                        change tW _ _ _ _ _ _ _ (va_up cl1 y55 (cl1 p)) _ _ _ _ at hW413
                        obtain ⟨cl417, ec416⟩ : ∃ q, q = va_up cl1 y55 (cl1 p) := ⟨_, rfl⟩
                        rw [← ec416] at hW413
                        have k418 : cl417 y55 = (cl1 p) := by rw [ec416, zvs]
                        have nx419 : x1 ≠ y55 := (Ne.symm (tI.sib hlp_1 hm21 hy56 k45))
                        have k420 : cl417 x1 = true := by rw [ec416, zvn nx419]; exact k37
                        have k421 : cl417 y97 = false := by rw [ec416, zvn nx243]; exact k247
                        have k422 : cl417 y251 = false := by rw [ec416, zvn nx399]; exact k403
                        refine z_aload_n C 2 rfl dJ4_fixAfterDeletion_313 rfl ?_
                        refine z_callS C (As := [.ref x1]) (mJ4_parentOf (o := (some x1)) hW413 (oM hlp_3)) (lw_S q706 q707 q64 q708) hd_J4_parentOf rfl (Nat.le_of_ble_eq_true rfl) (by decide) (by decide) (by decide) (by decide) rfl dJ4_fixAfterDeletion_314 (fun _ _ h => h.elim) (fun r423 V424 hP425 => ?_)
                        rw [hP425.1, hP425.2]
                        refine z_st (st' := [va_rf (pa1 x1)]) rfl ?_
                        refine z_top (v := .ref p) (congrArg va_rf (show (pa1 x1) = (some p) from (by rw [hp]))) ?_
                        refine z_iconst C (v := (nI 1)) dJ4_fixAfterDeletion_317 rfl ?_
                        refine z_st (st' := [.int (zb true), .ref p]) rfl ?_
                        refine z_callS C (As := [.ref p, .int (zb true)]) (mJ4_setColor (o := (some p)) (c := true) hW413 (oM hm21)) (lw_S q715 q716 q64 q717) hd_J4_setColor rfl (Nat.le_of_ble_eq_true rfl) (by decide) (by decide) (by decide) (by decide) rfl dJ4_fixAfterDeletion_318 (fun _ _ h => h.elim) (fun r426 V427 hP428 => ?_)
                        obtain ⟨hW429, hU430⟩ := hP428
                        refine z_st (st' := []) rfl ?_
                        have hU431 := zUnc.tr (S := tC t L) hU415 hU430 (fun _ h => Or.inl h)
                        change tW _ _ _ _ _ _ _ (va_up cl417 p true) _ _ _ _ at hW429
                        obtain ⟨cl433, ec432⟩ : ∃ q, q = va_up cl417 p true := ⟨_, rfl⟩
                        rw [← ec432] at hW429
                        have k434 : cl433 p = true := by rw [ec432, zvs]
                        have k435 : cl433 x1 = true := by rw [ec432, zvn nx48]; exact k420
                        have nx436 : y97 ≠ p := (tI.gg hlp_1 hm241 hp242 hm87 hp88)
                        have k437 : cl433 y97 = false := by rw [ec432, zvn nx436]; exact k421
                        have nx438 : y251 ≠ p := (tI.gg hlp_1 hm397 hp398 hm87 hp88)
                        have k439 : cl433 y251 = false := by rw [ec432, zvn nx438]; exact k422
                        refine z_aload_n C 0 rfl dJ4_fixAfterDeletion_321 rfl ?_
                        refine z_callS C (As := [.ref y55]) (mJ4_leftOf (o := (some y55)) hW429 (oM hm87)) (lw_S q709 q710 q64 q711) hd_J4_leftOf rfl (Nat.le_of_ble_eq_true rfl) (by decide) (by decide) (by decide) (by decide) rfl dJ4_fixAfterDeletion_322 (fun _ _ h => h.elim) (fun r440 V441 hP442 => ?_)
                        rw [hP442.1, hP442.2]
                        refine z_st (st' := [va_rf (lf1 y55)]) rfl ?_
                        refine z_top (v := .ref y251) (congrArg va_rf (show (lf1 y55) = (some y251) from (by rw [hy252]))) ?_
                        refine z_iconst C (v := (nI 1)) dJ4_fixAfterDeletion_325 rfl ?_
                        refine z_st (st' := [.int (zb true), .ref y251]) rfl ?_
                        refine z_callS C (As := [.ref y251, .int (zb true)]) (mJ4_setColor (o := (some y251)) (c := true) hW429 (oM hm397)) (lw_S q715 q716 q64 q717) hd_J4_setColor rfl (Nat.le_of_ble_eq_true rfl) (by decide) (by decide) (by decide) (by decide) rfl dJ4_fixAfterDeletion_326 (fun _ _ h => h.elim) (fun r443 V444 hP445 => ?_)
                        obtain ⟨hW446, hU447⟩ := hP445
                        refine z_st (st' := []) rfl ?_
                        have hU448 := zUnc.tr (S := tC t L) hU431 hU447 (fun _ h => Or.inl h)
                        change tW _ _ _ _ _ _ _ (va_up cl433 y251 true) _ _ _ _ at hW446
                        obtain ⟨cl450, ec449⟩ : ∃ q, q = va_up cl433 y251 true := ⟨_, rfl⟩
                        rw [← ec449] at hW446
                        have k451 : cl450 y251 = true := by rw [ec449, zvs]
                        have k452 : cl450 p = true := by rw [ec449, zvn (Ne.symm nx438)]; exact k434
                        have nx453 : x1 ≠ y251 := (ne_pa hp hp398 (Ne.symm nx89))
                        have k454 : cl450 x1 = true := by rw [ec449, zvn nx453]; exact k435
                        have nx455 : y97 ≠ y251 := (Ne.symm (tI.sib hlp_1 hm87 hy252 hy98))
                        have k456 : cl450 y97 = false := by rw [ec449, zvn nx455]; exact k437
                        refine z_aload_n C 1 rfl dJ4_fixAfterDeletion_329 rfl ?_
                        refine z_aload_n C 2 rfl dJ4_fixAfterDeletion_330 rfl ?_
                        refine z_callS C (As := [.ref x1]) (mJ4_parentOf (o := (some x1)) hW446 (oM hlp_3)) (lw_S q706 q707 q64 q708) hd_J4_parentOf rfl (Nat.le_of_ble_eq_true rfl) (by decide) (by decide) (by decide) (by decide) rfl dJ4_fixAfterDeletion_331 (fun _ _ h => h.elim) (fun r457 V458 hP459 => ?_)
                        rw [hP459.1, hP459.2]
                        refine z_st (st' := [va_rf (pa1 x1), .ref t]) rfl ?_
                        refine z_top (v := .ref p) (congrArg va_rf (show (pa1 x1) = (some p) from (by rw [hp]))) ?_
                        refine z_callV C k_TM hW446.1 (As := [.ref p]) (mJ4_rotateRight hW446 hlp_1 hm21 hy56) (lw_V q722 q724 qs9 q64 q725) rfl hd_J4_rotateRight rfl (Nat.le_of_ble_eq_true rfl) (by decide) (by decide) (by decide) (by decide) rfl dJ4_fixAfterDeletion_334 (fun _ _ h => h.elim) (fun r460 V461 hP462 => ?_)
                        obtain ⟨hW463, hU464⟩ := hP462
                        refine z_st (st' := []) rfl ?_
                        have hU465 := zUnc.tr (S := tC t L) hU448 hU464 (fun _ h => Or.inl h)
                        have hI466 := tI_rotR hlp_1 hm21 hy56
                        obtain ⟨lf473, eB468⟩ : ∃ q, q = xR rg1 lf1 p y55 := ⟨_, rfl⟩
                        rw [← eB468] at hW463 hI466
                        obtain ⟨pa474, eP469⟩ : ∃ q, q = xP rg1 pa1 p y55 := ⟨_, rfl⟩
                        rw [← eP469] at hW463 hI466
                        obtain ⟨rg475, eA467⟩ : ∃ q, q = xL rg1 p y55 := ⟨_, rfl⟩
                        rw [← eA467] at hW463 hI466
                        obtain ⟨rt476, eT470⟩ : ∃ q, q = xT rt1 p y55 := ⟨_, rfl⟩
                        rw [← eT470] at hW463 hI466
                        obtain ⟨lo477, elo471⟩ : ∃ q, q = va_up lo1 p (ps y55 + 1) := ⟨_, rfl⟩
                        rw [← elo471] at hI466
                        obtain ⟨hi478, ehi472⟩ : ∃ q, q = va_up hi1 y55 (hi1 p) := ⟨_, rfl⟩
                        rw [← ehi472] at hI466
                        have k479 : rg475 y55 = (some p) := by rw [eA467]; exact xL_r
                        have k480 : pa474 p = (some y55) := by rw [eP469]; exact xP_p
                        have k481 : lf473 p = (some y97) := by rw [eB468, xR_p]; exact hy98
                        have nx482 : y97 ≠ x1 := (ne_pa hp242 hp nx89)
                        have k483 : pa474 x1 = (some p) := by rw [eP469, xP_o nx48 nx419 (so_ne hy98 nx482)]; exact hp
                        have k484 : rg475 p = (some x1) := by rw [eA467, xL_o (Ne.symm nx89) (so_ne k45 nx48)]; exact k45
                        have k485 : pa474 y97 = (some p) := by rw [eP469]; exact xP_c nx436 nx243 hy98
                        have k486 : lf473 y55 = (some y251) := by rw [eB468, xR_o nx89 (so_ne hy252 nx438)]; exact hy252
                        have k487 : pa474 y251 = (some y55) := by rw [eP469, xP_o nx438 nx399 (so_ne hy98 nx455)]; exact hp398
                        refine z_aload_n C 1 rfl dJ4_fixAfterDeletion_337 rfl ?_
                        refine z_get C k_TM hW463.1 3 (by decide) rfl q162 dJ4_fixAfterDeletion_338 ?_
                        refine z_astore_nQ C (r := rt476) [(1, va_rf rt476), (2, .ref y55), (0, .ref t)] dJ4_fixAfterDeletion_341 rfl (by decide) rfl ?_
                        refine z_goto C 0 dJ4_fixAfterDeletion_342 (by decide) ?_
                        refine z_pick [(0, .ref t), (1, va_rf rt476)] [2, 0] rfl ?_
                        obtain ⟨r0488, hr489⟩ := hI466.rtm hlp_3
                        obtain ⟨hm490, hp491, -, -⟩ := hI466.2.1.1 r0488 hr489
                        have e492 : (va_rf rt476 : Value) = .ref r0488 := (congrArg va_rf hr489)
                        refine z_lv (lv' := [(0, .ref t), (1, .ref r0488)]) (by rw [e492]) ?_
                        exact hexit V461 rt476 lf473 rg475 pa474 cl450 lo477 hi478 r0488 hW463 hI466 hU465 hm490 hr489
                      · skip
                        have k493 : (cl1 y251) = true := zb1 c273
                        refine z_aload_n C 0 rfl dJ4_fixAfterDeletion_276 rfl ?_
                        refine z_callS C (As := [.ref y55]) (mJ4_rightOf (o := (some y55)) hlp_0 (oM hm87)) (lw_S q712 q713 q64 q714) hd_J4_rightOf rfl (Nat.le_of_ble_eq_true rfl) (by decide) (by decide) (by decide) (by decide) rfl dJ4_fixAfterDeletion_277 (fun _ _ h => h.elim) (fun r494 V495 hP496 => ?_)
                        rw [hP496.1, hP496.2]
                        refine z_st (st' := [va_rf (rg1 y55)]) rfl ?_
                        refine z_top (v := .ref y97) (congrArg va_rf (show (rg1 y55) = (some y97) from (by rw [hy98]))) ?_
                        refine z_iconst C (v := (nI 1)) dJ4_fixAfterDeletion_280 rfl ?_
                        refine z_st (st' := [.int (zb true), .ref y97]) rfl ?_
                        refine z_callS C (As := [.ref y97, .int (zb true)]) (mJ4_setColor (o := (some y97)) (c := true) hlp_0 (oM hm241)) (lw_S q715 q716 q64 q717) hd_J4_setColor rfl (Nat.le_of_ble_eq_true rfl) (by decide) (by decide) (by decide) (by decide) rfl dJ4_fixAfterDeletion_281 (fun _ _ h => h.elim) (fun r497 V498 hP499 => ?_)
                        obtain ⟨hW500, hU501⟩ := hP499
                        refine z_st (st' := []) rfl ?_
                        have hU502 := zUnc.tr (S := tC t L) hlp_2 hU501 (fun _ h => Or.inl h)
                        change tW _ _ _ _ _ _ _ (va_up cl1 y97 true) _ _ _ _ at hW500
                        obtain ⟨cl504, ec503⟩ : ∃ q, q = va_up cl1 y97 true := ⟨_, rfl⟩
                        rw [← ec503] at hW500
                        have k505 : cl504 y97 = true := by rw [ec503, zvs]
                        have nx506 : x1 ≠ y97 := (ne_pa hp hp242 (Ne.symm nx89))
                        have k507 : cl504 x1 = true := by rw [ec503, zvn nx506]; exact k37
                        have k508 : cl504 y55 = true := by rw [ec503, zvn (Ne.symm nx243)]; exact k93
                        have nx509 : y251 ≠ y97 := (tI.sib hlp_1 hm87 hy252 hy98)
                        have k510 : cl504 y251 = true := by rw [ec503, zvn nx509]; exact k493
                        refine z_aload_n C 0 rfl dJ4_fixAfterDeletion_284 rfl ?_
                        refine z_iconst C (v := (nI 0)) dJ4_fixAfterDeletion_285 rfl ?_
                        refine z_st (st' := [.int (zb false), .ref y55]) rfl ?_
                        refine z_callS C (As := [.ref y55, .int (zb false)]) (mJ4_setColor (o := (some y55)) (c := false) hW500 (oM hm87)) (lw_S q715 q716 q64 q717) hd_J4_setColor rfl (Nat.le_of_ble_eq_true rfl) (by decide) (by decide) (by decide) (by decide) rfl dJ4_fixAfterDeletion_286 (fun _ _ h => h.elim) (fun r511 V512 hP513 => ?_)
                        obtain ⟨hW514, hU515⟩ := hP513
                        refine z_st (st' := []) rfl ?_
                        have hU516 := zUnc.tr (S := tC t L) hU502 hU515 (fun _ h => Or.inl h)
                        change tW _ _ _ _ _ _ _ (va_up cl504 y55 false) _ _ _ _ at hW514
                        obtain ⟨cl518, ec517⟩ : ∃ q, q = va_up cl504 y55 false := ⟨_, rfl⟩
                        rw [← ec517] at hW514
                        have k519 : cl518 y55 = false := by rw [ec517, zvs]
                        have k520 : cl518 y97 = true := by rw [ec517, zvn nx243]; exact k505
                        have nx521 : x1 ≠ y55 := (Ne.symm (tI.sib hlp_1 hm21 hy56 k45))
                        have k522 : cl518 x1 = true := by rw [ec517, zvn nx521]; exact k507
                        have k523 : cl518 y251 = true := by rw [ec517, zvn nx399]; exact k510
                        refine z_aload_n C 1 rfl dJ4_fixAfterDeletion_289 rfl ?_
                        refine z_aload_n C 0 rfl dJ4_fixAfterDeletion_290 rfl ?_
                        refine z_callV C k_TM hW514.1 (As := [.ref y55]) (mJ4_rotateLeft hW514 hlp_1 hm87 hy98) (lw_V q718 q720 qs8 q64 q721) rfl hd_J4_rotateLeft rfl (Nat.le_of_ble_eq_true rfl) (by decide) (by decide) (by decide) (by decide) rfl dJ4_fixAfterDeletion_291 (fun _ _ h => h.elim) (fun r524 V525 hP526 => ?_)
                        obtain ⟨hW527, hU528⟩ := hP526
                        refine z_st (st' := []) rfl ?_
                        have hU529 := zUnc.tr (S := tC t L) hU516 hU528 (fun _ h => Or.inl h)
                        have hI530 := tI_rotL hlp_1 hm87 hy98
                        obtain ⟨rg537, eB532⟩ : ∃ q, q = xR lf1 rg1 y55 y97 := ⟨_, rfl⟩
                        rw [← eB532] at hW527 hI530
                        obtain ⟨pa538, eP533⟩ : ∃ q, q = xP lf1 pa1 y55 y97 := ⟨_, rfl⟩
                        rw [← eP533] at hW527 hI530
                        obtain ⟨lf539, eA531⟩ : ∃ q, q = xL lf1 y55 y97 := ⟨_, rfl⟩
                        rw [← eA531] at hW527 hI530
                        obtain ⟨rt540, eT534⟩ : ∃ q, q = xT rt1 y55 y97 := ⟨_, rfl⟩
                        rw [← eT534] at hW527 hI530
                        obtain ⟨lo541, elo535⟩ : ∃ q, q = va_up lo1 y97 (lo1 y55) := ⟨_, rfl⟩
                        rw [← elo535] at hI530
                        obtain ⟨hi542, ehi536⟩ : ∃ q, q = va_up hi1 y55 (ps y97) := ⟨_, rfl⟩
                        rw [← ehi536] at hI530
                        have k543 : lf539 y97 = (some y55) := by rw [eA531]; exact xL_r
                        have k544 : pa538 y55 = (some y97) := by rw [eP533]; exact xP_p
                        have k545 : pa538 y97 = (some p) := by rw [eP533, xP_r nx243]; exact hp88
                        have nx546 : p ≠ y97 := (Ne.symm (tI.gg hlp_1 hm241 hp242 hm87 hp88))
                        have k547 : pa538 x1 = (some p) := by rw [eP533, xP_o nx521 nx506 (fun z => nx546 (Option.some.inj (hp.symm.trans (hlp_1.ml hm241 z).2.1)))]; exact hp
                        have k548 : rg537 p = (some x1) := by rw [eB532, xR_o (Ne.symm nx89) (so_ne k45 nx521)]; exact k45
                        have k549 : lf539 p = (some y97) := by rw [eA531]; exact xL_u nx546 hy56
                        have k550 : lf539 y55 = (some y251) := by rw [eA531, xL_o (Ne.symm nx243) (so_ne hy252 nx399)]; exact hy252
                        have k551 : pa538 y251 = (some y55) := by rw [eP533, xP_o nx399 nx509 (fun z => (Ne.symm nx243) (Option.some.inj (hp398.symm.trans (hlp_1.ml hm241 z).2.1)))]; exact hp398
                        refine z_aload_n C 2 rfl dJ4_fixAfterDeletion_294 rfl ?_
                        refine z_callS C (As := [.ref x1]) (mJ4_parentOf (o := (some x1)) hW527 (oM hlp_3)) (lw_S q706 q707 q64 q708) hd_J4_parentOf rfl (Nat.le_of_ble_eq_true rfl) (by decide) (by decide) (by decide) (by decide) rfl dJ4_fixAfterDeletion_295 (fun _ _ h => h.elim) (fun r552 V553 hP554 => ?_)
                        rw [hP554.1, hP554.2]
                        refine z_st (st' := [va_rf (pa538 x1)]) rfl ?_
                        refine z_top (v := .ref p) (congrArg va_rf (show (pa538 x1) = (some p) from (by rw [k547]))) ?_
                        refine z_callS C (As := [.ref p]) (mJ4_leftOf (o := (some p)) hW527 (oM hm21)) (lw_S q709 q710 q64 q711) hd_J4_leftOf rfl (Nat.le_of_ble_eq_true rfl) (by decide) (by decide) (by decide) (by decide) rfl dJ4_fixAfterDeletion_298 (fun _ _ h => h.elim) (fun r555 V556 hP557 => ?_)
                        rw [hP557.1, hP557.2]
                        refine z_st (st' := [va_rf (lf539 p)]) rfl ?_
                        refine z_top (v := .ref y97) (congrArg va_rf (show (lf539 p) = (some y97) from (by rw [k549]))) ?_
                        refine z_astore_n C [(2, .ref y97), (0, .ref t), (1, .ref x1)] dJ4_fixAfterDeletion_301 rfl (by decide) rfl ?_
                        refine z_aload_n C 0 rfl dJ4_fixAfterDeletion_302 rfl ?_
                        refine z_aload_n C 2 rfl dJ4_fixAfterDeletion_303 rfl ?_
                        refine z_callS C (As := [.ref x1]) (mJ4_parentOf (o := (some x1)) hW527 (oM hlp_3)) (lw_S q706 q707 q64 q708) hd_J4_parentOf rfl (Nat.le_of_ble_eq_true rfl) (by decide) (by decide) (by decide) (by decide) rfl dJ4_fixAfterDeletion_304 (fun _ _ h => h.elim) (fun r558 V559 hP560 => ?_)
                        rw [hP560.1, hP560.2]
                        refine z_st (st' := [va_rf (pa538 x1), .ref y97]) rfl ?_
                        refine z_top (v := .ref p) (congrArg va_rf (show (pa538 x1) = (some p) from (by rw [k547]))) ?_
                        refine z_callS C (As := [.ref p]) (mJ4_colorOf (o := (some p)) hW527 (oM hm21)) (lw_S q703 q704 q64 q705) hd_J4_colorOf rfl (Nat.le_of_ble_eq_true rfl) (by decide) (by decide) (by decide) (by decide) rfl dJ4_fixAfterDeletion_307 (fun _ _ h => h.elim) (fun r561 V562 hP563 => ?_)
                        rw [hP563.1, hP563.2]
                        refine z_st (st' := [.int (zb (cl518 p)), .ref y97]) rfl ?_
                        refine z_callS C (As := [.ref y97, .int (zb (cl518 p))]) (mJ4_setColor (o := (some y97)) (c := (cl518 p)) hW527 (oM hm241)) (lw_S q715 q716 q64 q717) hd_J4_setColor rfl (Nat.le_of_ble_eq_true rfl) (by decide) (by decide) (by decide) (by decide) rfl dJ4_fixAfterDeletion_310 (fun _ _ h => h.elim) (fun r564 V565 hP566 => ?_)
                        obtain ⟨hW567, hU568⟩ := hP566
                        refine z_st (st' := []) rfl ?_
                        have hU569 := zUnc.tr (S := tC t L) hU529 hU568 (fun _ h => Or.inl h)
                        change tW _ _ _ _ _ _ _ (va_up cl518 y97 (cl518 p)) _ _ _ _ at hW567
                        obtain ⟨cl571, ec570⟩ : ∃ q, q = va_up cl518 y97 (cl518 p) := ⟨_, rfl⟩
                        rw [← ec570] at hW567
                        have k572 : cl571 y97 = (cl518 p) := by rw [ec570, zvs]
                        have k573 : cl571 y55 = false := by rw [ec570, zvn (Ne.symm nx243)]; exact k519
                        have k574 : cl571 x1 = true := by rw [ec570, zvn nx506]; exact k522
                        have k575 : cl571 y251 = true := by rw [ec570, zvn nx509]; exact k523
                        refine z_aload_n C 2 rfl dJ4_fixAfterDeletion_313 rfl ?_
                        refine z_callS C (As := [.ref x1]) (mJ4_parentOf (o := (some x1)) hW567 (oM hlp_3)) (lw_S q706 q707 q64 q708) hd_J4_parentOf rfl (Nat.le_of_ble_eq_true rfl) (by decide) (by decide) (by decide) (by decide) rfl dJ4_fixAfterDeletion_314 (fun _ _ h => h.elim) (fun r576 V577 hP578 => ?_)
                        rw [hP578.1, hP578.2]
                        refine z_st (st' := [va_rf (pa538 x1)]) rfl ?_
                        refine z_top (v := .ref p) (congrArg va_rf (show (pa538 x1) = (some p) from (by rw [k547]))) ?_
                        refine z_iconst C (v := (nI 1)) dJ4_fixAfterDeletion_317 rfl ?_
                        refine z_st (st' := [.int (zb true), .ref p]) rfl ?_
                        refine z_callS C (As := [.ref p, .int (zb true)]) (mJ4_setColor (o := (some p)) (c := true) hW567 (oM hm21)) (lw_S q715 q716 q64 q717) hd_J4_setColor rfl (Nat.le_of_ble_eq_true rfl) (by decide) (by decide) (by decide) (by decide) rfl dJ4_fixAfterDeletion_318 (fun _ _ h => h.elim) (fun r579 V580 hP581 => ?_)
                        obtain ⟨hW582, hU583⟩ := hP581
                        refine z_st (st' := []) rfl ?_
                        have hU584 := zUnc.tr (S := tC t L) hU569 hU583 (fun _ h => Or.inl h)
                        change tW _ _ _ _ _ _ _ (va_up cl571 p true) _ _ _ _ at hW582
                        obtain ⟨cl586, ec585⟩ : ∃ q, q = va_up cl571 p true := ⟨_, rfl⟩
                        rw [← ec585] at hW582
                        have k587 : cl586 p = true := by rw [ec585, zvs]
                        have k588 : cl586 y55 = false := by rw [ec585, zvn nx89]; exact k573
                        have k589 : cl586 x1 = true := by rw [ec585, zvn nx48]; exact k574
                        refine z_aload_n C 0 rfl dJ4_fixAfterDeletion_321 rfl ?_
                        refine z_callS C (As := [.ref y97]) (mJ4_leftOf (o := (some y97)) hW582 (oM hm241)) (lw_S q709 q710 q64 q711) hd_J4_leftOf rfl (Nat.le_of_ble_eq_true rfl) (by decide) (by decide) (by decide) (by decide) rfl dJ4_fixAfterDeletion_322 (fun _ _ h => h.elim) (fun r590 V591 hP592 => ?_)
                        rw [hP592.1, hP592.2]
                        refine z_st (st' := [va_rf (lf539 y97)]) rfl ?_
                        refine z_top (v := .ref y55) (congrArg va_rf (show (lf539 y97) = (some y55) from (by rw [k543]))) ?_
                        refine z_iconst C (v := (nI 1)) dJ4_fixAfterDeletion_325 rfl ?_
                        refine z_st (st' := [.int (zb true), .ref y55]) rfl ?_
                        refine z_callS C (As := [.ref y55, .int (zb true)]) (mJ4_setColor (o := (some y55)) (c := true) hW582 (oM hm87)) (lw_S q715 q716 q64 q717) hd_J4_setColor rfl (Nat.le_of_ble_eq_true rfl) (by decide) (by decide) (by decide) (by decide) rfl dJ4_fixAfterDeletion_326 (fun _ _ h => h.elim) (fun r593 V594 hP595 => ?_)
                        obtain ⟨hW596, hU597⟩ := hP595
                        refine z_st (st' := []) rfl ?_
                        have hU598 := zUnc.tr (S := tC t L) hU584 hU597 (fun _ h => Or.inl h)
                        change tW _ _ _ _ _ _ _ (va_up cl586 y55 true) _ _ _ _ at hW596
                        obtain ⟨cl600, ec599⟩ : ∃ q, q = va_up cl586 y55 true := ⟨_, rfl⟩
                        rw [← ec599] at hW596
                        have k601 : cl600 y55 = true := by rw [ec599, zvs]
                        have k602 : cl600 p = true := by rw [ec599, zvn (Ne.symm nx89)]; exact k587
                        have k603 : cl600 x1 = true := by rw [ec599, zvn nx521]; exact k589
                        refine z_aload_n C 1 rfl dJ4_fixAfterDeletion_329 rfl ?_
                        refine z_aload_n C 2 rfl dJ4_fixAfterDeletion_330 rfl ?_
                        refine z_callS C (As := [.ref x1]) (mJ4_parentOf (o := (some x1)) hW596 (oM hlp_3)) (lw_S q706 q707 q64 q708) hd_J4_parentOf rfl (Nat.le_of_ble_eq_true rfl) (by decide) (by decide) (by decide) (by decide) rfl dJ4_fixAfterDeletion_331 (fun _ _ h => h.elim) (fun r604 V605 hP606 => ?_)
                        rw [hP606.1, hP606.2]
                        refine z_st (st' := [va_rf (pa538 x1), .ref t]) rfl ?_
                        refine z_top (v := .ref p) (congrArg va_rf (show (pa538 x1) = (some p) from (by rw [k547]))) ?_
                        refine z_callV C k_TM hW596.1 (As := [.ref p]) (mJ4_rotateRight hW596 hI530 hm21 k549) (lw_V q722 q724 qs9 q64 q725) rfl hd_J4_rotateRight rfl (Nat.le_of_ble_eq_true rfl) (by decide) (by decide) (by decide) (by decide) rfl dJ4_fixAfterDeletion_334 (fun _ _ h => h.elim) (fun r607 V608 hP609 => ?_)
                        obtain ⟨hW610, hU611⟩ := hP609
                        refine z_st (st' := []) rfl ?_
                        have hU612 := zUnc.tr (S := tC t L) hU598 hU611 (fun _ h => Or.inl h)
                        have hI613 := tI_rotR hI530 hm21 k549
                        obtain ⟨lf620, eB615⟩ : ∃ q, q = xR rg537 lf539 p y97 := ⟨_, rfl⟩
                        rw [← eB615] at hW610 hI613
                        obtain ⟨pa621, eP616⟩ : ∃ q, q = xP rg537 pa538 p y97 := ⟨_, rfl⟩
                        rw [← eP616] at hW610 hI613
                        obtain ⟨rg622, eA614⟩ : ∃ q, q = xL rg537 p y97 := ⟨_, rfl⟩
                        rw [← eA614] at hW610 hI613
                        obtain ⟨rt623, eT617⟩ : ∃ q, q = xT rt540 p y97 := ⟨_, rfl⟩
                        rw [← eT617] at hW610 hI613
                        obtain ⟨lo624, elo618⟩ : ∃ q, q = va_up lo541 p (ps y97 + 1) := ⟨_, rfl⟩
                        rw [← elo618] at hI613
                        obtain ⟨hi625, ehi619⟩ : ∃ q, q = va_up hi542 y97 (hi542 p) := ⟨_, rfl⟩
                        rw [← ehi619] at hI613
                        have k626 : rg622 y97 = (some p) := by rw [eA614]; exact xL_r
                        have k627 : pa621 p = (some y97) := by rw [eP616]; exact xP_p
                        have k628 : lf620 y97 = (some y55) := by rw [eB615, xR_o (Ne.symm nx546) (so_ne k543 nx89)]; exact k543
                        have k629 : pa621 y55 = (some y97) := by rw [eP616, xP_o nx89 (Ne.symm nx243) (hI530.lr hm241 k543)]; exact k544
                        have k630 : pa621 x1 = (some p) := by rw [eP616, xP_o nx48 nx506 (fun z => nx546 (Option.some.inj (k547.symm.trans (hI530.mr hm241 z).2.1)))]; exact k547
                        have k631 : rg622 p = (some x1) := by rw [eA614, xL_o nx546 (so_ne k548 nx48)]; exact k548
                        refine z_aload_n C 1 rfl dJ4_fixAfterDeletion_337 rfl ?_
                        refine z_get C k_TM hW610.1 3 (by decide) rfl q162 dJ4_fixAfterDeletion_338 ?_
                        refine z_astore_nQ C (r := rt623) [(1, va_rf rt623), (2, .ref y97), (0, .ref t)] dJ4_fixAfterDeletion_341 rfl (by decide) rfl ?_
                        refine z_goto C 0 dJ4_fixAfterDeletion_342 (by decide) ?_
                        refine z_pick [(0, .ref t), (1, va_rf rt623)] [2, 0] rfl ?_
                        obtain ⟨r0632, hr633⟩ := hI613.rtm hlp_3
                        obtain ⟨hm634, hp635, -, -⟩ := hI613.2.1.1 r0632 hr633
                        have e636 : (va_rf rt623 : Value) = .ref r0632 := (congrArg va_rf hr633)
                        refine z_lv (lv' := [(0, .ref t), (1, .ref r0632)]) (by rw [e636]) ?_
                        exact hexit V608 rt623 lf620 rg622 pa621 cl600 lo624 hi625 r0632 hW610 hI613 hU612 hm634 hr633
                  · skip
                    have k637 : (cl1 y97) = true := zb1 c238
                    refine z_aload_n C 0 rfl dJ4_fixAfterDeletion_241 rfl ?_
                    refine z_callS C (As := [.ref y55]) (mJ4_leftOf (o := (some y55)) hlp_0 (oM hm87)) (lw_S q709 q710 q64 q711) hd_J4_leftOf rfl (Nat.le_of_ble_eq_true rfl) (by decide) (by decide) (by decide) (by decide) rfl dJ4_fixAfterDeletion_242 (fun _ _ h => h.elim) (fun r638 V639 hP640 => ?_)
                    rw [hP640.1, hP640.2]
                    refine z_st (st' := [va_rf (lf1 y55)]) rfl ?_
                    rcases hy642 : lf1 y55 with _ | y641
                    · skip
                      refine z_callS C (As := [.null]) (mJ4_colorOf (o := none) hlp_0 oN) (lw_S q703 q704 q64 q705) hd_J4_colorOf rfl (Nat.le_of_ble_eq_true rfl) (by decide) (by decide) (by decide) (by decide) rfl dJ4_fixAfterDeletion_245 (fun _ _ h => h.elim) (fun r643 V644 hP645 => ?_)
                      rw [hP645.1, hP645.2]
                      refine z_st (st' := [.int (zb true)]) rfl ?_
                      refine z_iconst C (v := (nI 1)) dJ4_fixAfterDeletion_248 rfl ?_
                      refine z_icmp_ne C 265 dJ4_fixAfterDeletion_249 (by decide) (fun c249 => ?_) (fun c249 => ?_)
                      · skip
                        have k646 : true = false := zb1f c249
                        cases k646
                      · skip
                        have k647 : true = true := zb1 c249
                        refine z_aload_n C 0 rfl dJ4_fixAfterDeletion_252 rfl ?_
                        refine z_iconst C (v := (nI 0)) dJ4_fixAfterDeletion_253 rfl ?_
                        refine z_st (st' := [.int (zb false), .ref y55]) rfl ?_
                        refine z_callS C (As := [.ref y55, .int (zb false)]) (mJ4_setColor (o := (some y55)) (c := false) hlp_0 (oM hm87)) (lw_S q715 q716 q64 q717) hd_J4_setColor rfl (Nat.le_of_ble_eq_true rfl) (by decide) (by decide) (by decide) (by decide) rfl dJ4_fixAfterDeletion_254 (fun _ _ h => h.elim) (fun r648 V649 hP650 => ?_)
                        obtain ⟨hW651, hU652⟩ := hP650
                        refine z_st (st' := []) rfl ?_
                        have hU653 := zUnc.tr (S := tC t L) hlp_2 hU652 (fun _ h => Or.inl h)
                        change tW _ _ _ _ _ _ _ (va_up cl1 y55 false) _ _ _ _ at hW651
                        obtain ⟨cl655, ec654⟩ : ∃ q, q = va_up cl1 y55 false := ⟨_, rfl⟩
                        rw [← ec654] at hW651
                        have k656 : cl655 y55 = false := by rw [ec654, zvs]
                        have nx657 : x1 ≠ y55 := (Ne.symm (tI.sib hlp_1 hm21 hy56 k45))
                        have k658 : cl655 x1 = true := by rw [ec654, zvn nx657]; exact k37
                        have k659 : cl655 y97 = true := by rw [ec654, zvn nx243]; exact k637
                        refine z_aload_n C 2 rfl dJ4_fixAfterDeletion_257 rfl ?_
                        refine z_callS C (As := [.ref x1]) (mJ4_parentOf (o := (some x1)) hW651 (oM hlp_3)) (lw_S q706 q707 q64 q708) hd_J4_parentOf rfl (Nat.le_of_ble_eq_true rfl) (by decide) (by decide) (by decide) (by decide) rfl dJ4_fixAfterDeletion_258 (fun _ _ h => h.elim) (fun r660 V661 hP662 => ?_)
                        rw [hP662.1, hP662.2]
                        refine z_st (st' := [va_rf (pa1 x1)]) rfl ?_
                        refine z_top (v := .ref p) (congrArg va_rf (show (pa1 x1) = (some p) from (by rw [hp]))) ?_
                        refine z_astore_n C [(1, .ref p), (2, .ref y55), (0, .ref t)] dJ4_fixAfterDeletion_261 rfl (by decide) rfl ?_
                        refine z_goto C 342 dJ4_fixAfterDeletion_262 (by decide) ?_
                        refine z_goto C 0 dJ4_fixAfterDeletion_342 (by decide) ?_
                        refine z_pick [(0, .ref t), (1, .ref p)] [2, 0] rfl ?_
                        have q1 := (hlp_1.mp hlp_3 hp).2
                        exact ih_lp V649 rt1 lf1 rg1 pa1 cl655 lo1 hi1 p hW651 hlp_1 hU653 hm21 (by omega)
                    · skip
                      obtain ⟨hm663, hp664, nx665⟩ := hlp_1.ml hm87 hy642
                      refine z_callS C (As := [.ref y641]) (mJ4_colorOf (o := (some y641)) hlp_0 (oM hm663)) (lw_S q703 q704 q64 q705) hd_J4_colorOf rfl (Nat.le_of_ble_eq_true rfl) (by decide) (by decide) (by decide) (by decide) rfl dJ4_fixAfterDeletion_245 (fun _ _ h => h.elim) (fun r666 V667 hP668 => ?_)
                      rw [hP668.1, hP668.2]
                      refine z_st (st' := [.int (zb (cl1 y641))]) rfl ?_
                      refine z_iconst C (v := (nI 1)) dJ4_fixAfterDeletion_248 rfl ?_
                      refine z_icmp_ne C 265 dJ4_fixAfterDeletion_249 (by decide) (fun c249 => ?_) (fun c249 => ?_)
                      · skip
                        have k669 : (cl1 y641) = false := zb1f c249
                        refine z_aload_n C 0 rfl dJ4_fixAfterDeletion_265 rfl ?_
                        refine z_callS C (As := [.ref y55]) (mJ4_leftOf (o := (some y55)) hlp_0 (oM hm87)) (lw_S q709 q710 q64 q711) hd_J4_leftOf rfl (Nat.le_of_ble_eq_true rfl) (by decide) (by decide) (by decide) (by decide) rfl dJ4_fixAfterDeletion_266 (fun _ _ h => h.elim) (fun r670 V671 hP672 => ?_)
                        rw [hP672.1, hP672.2]
                        refine z_st (st' := [va_rf (lf1 y55)]) rfl ?_
                        refine z_top (v := .ref y641) (congrArg va_rf (show (lf1 y55) = (some y641) from (by rw [hy642]))) ?_
                        refine z_callS C (As := [.ref y641]) (mJ4_colorOf (o := (some y641)) hlp_0 (oM hm663)) (lw_S q703 q704 q64 q705) hd_J4_colorOf rfl (Nat.le_of_ble_eq_true rfl) (by decide) (by decide) (by decide) (by decide) rfl dJ4_fixAfterDeletion_269 (fun _ _ h => h.elim) (fun r673 V674 hP675 => ?_)
                        rw [hP675.1, hP675.2]
                        refine z_st (st' := [.int (zb (cl1 y641))]) rfl ?_
                        refine z_top (v := .int (zb false)) (congrArg (fun c => Value.int (zb c)) (show (cl1 y641) = false from (by rw [k669]))) ?_
                        refine z_iconst C (v := (nI 1)) dJ4_fixAfterDeletion_272 rfl ?_
                        refine z_icmp_ne C 302 dJ4_fixAfterDeletion_273 (by decide) (fun c273 => ?_) (fun c273 => ?_)
                        · skip
                          have k676 : false = false := zb1f c273
                          refine z_aload_n C 0 rfl dJ4_fixAfterDeletion_302 rfl ?_
                          refine z_aload_n C 2 rfl dJ4_fixAfterDeletion_303 rfl ?_
                          refine z_callS C (As := [.ref x1]) (mJ4_parentOf (o := (some x1)) hlp_0 (oM hlp_3)) (lw_S q706 q707 q64 q708) hd_J4_parentOf rfl (Nat.le_of_ble_eq_true rfl) (by decide) (by decide) (by decide) (by decide) rfl dJ4_fixAfterDeletion_304 (fun _ _ h => h.elim) (fun r677 V678 hP679 => ?_)
                          rw [hP679.1, hP679.2]
                          refine z_st (st' := [va_rf (pa1 x1), .ref y55]) rfl ?_
                          refine z_top (v := .ref p) (congrArg va_rf (show (pa1 x1) = (some p) from (by rw [hp]))) ?_
                          refine z_callS C (As := [.ref p]) (mJ4_colorOf (o := (some p)) hlp_0 (oM hm21)) (lw_S q703 q704 q64 q705) hd_J4_colorOf rfl (Nat.le_of_ble_eq_true rfl) (by decide) (by decide) (by decide) (by decide) rfl dJ4_fixAfterDeletion_307 (fun _ _ h => h.elim) (fun r680 V681 hP682 => ?_)
                          rw [hP682.1, hP682.2]
                          refine z_st (st' := [.int (zb (cl1 p)), .ref y55]) rfl ?_
                          refine z_callS C (As := [.ref y55, .int (zb (cl1 p))]) (mJ4_setColor (o := (some y55)) (c := (cl1 p)) hlp_0 (oM hm87)) (lw_S q715 q716 q64 q717) hd_J4_setColor rfl (Nat.le_of_ble_eq_true rfl) (by decide) (by decide) (by decide) (by decide) rfl dJ4_fixAfterDeletion_310 (fun _ _ h => h.elim) (fun r683 V684 hP685 => ?_)
                          obtain ⟨hW686, hU687⟩ := hP685
                          refine z_st (st' := []) rfl ?_
                          have hU688 := zUnc.tr (S := tC t L) hlp_2 hU687 (fun _ h => Or.inl h)
                          change tW _ _ _ _ _ _ _ (va_up cl1 y55 (cl1 p)) _ _ _ _ at hW686
                          obtain ⟨cl690, ec689⟩ : ∃ q, q = va_up cl1 y55 (cl1 p) := ⟨_, rfl⟩
                          rw [← ec689] at hW686
                          have k691 : cl690 y55 = (cl1 p) := by rw [ec689, zvs]
                          have nx692 : x1 ≠ y55 := (Ne.symm (tI.sib hlp_1 hm21 hy56 k45))
                          have k693 : cl690 x1 = true := by rw [ec689, zvn nx692]; exact k37
                          have k694 : cl690 y97 = true := by rw [ec689, zvn nx243]; exact k637
                          have k695 : cl690 y641 = false := by rw [ec689, zvn nx665]; exact k669
                          refine z_aload_n C 2 rfl dJ4_fixAfterDeletion_313 rfl ?_
                          refine z_callS C (As := [.ref x1]) (mJ4_parentOf (o := (some x1)) hW686 (oM hlp_3)) (lw_S q706 q707 q64 q708) hd_J4_parentOf rfl (Nat.le_of_ble_eq_true rfl) (by decide) (by decide) (by decide) (by decide) rfl dJ4_fixAfterDeletion_314 (fun _ _ h => h.elim) (fun r696 V697 hP698 => ?_)
                          rw [hP698.1, hP698.2]
                          refine z_st (st' := [va_rf (pa1 x1)]) rfl ?_
                          refine z_top (v := .ref p) (congrArg va_rf (show (pa1 x1) = (some p) from (by rw [hp]))) ?_
                          refine z_iconst C (v := (nI 1)) dJ4_fixAfterDeletion_317 rfl ?_
                          refine z_st (st' := [.int (zb true), .ref p]) rfl ?_
                          refine z_callS C (As := [.ref p, .int (zb true)]) (mJ4_setColor (o := (some p)) (c := true) hW686 (oM hm21)) (lw_S q715 q716 q64 q717) hd_J4_setColor rfl (Nat.le_of_ble_eq_true rfl) (by decide) (by decide) (by decide) (by decide) rfl dJ4_fixAfterDeletion_318 (fun _ _ h => h.elim) (fun r699 V700 hP701 => ?_)
                          obtain ⟨hW702, hU703⟩ := hP701
                          refine z_st (st' := []) rfl ?_
                          have hU704 := zUnc.tr (S := tC t L) hU688 hU703 (fun _ h => Or.inl h)
                          change tW _ _ _ _ _ _ _ (va_up cl690 p true) _ _ _ _ at hW702
                          obtain ⟨cl706, ec705⟩ : ∃ q, q = va_up cl690 p true := ⟨_, rfl⟩
                          rw [← ec705] at hW702
                          have k707 : cl706 p = true := by rw [ec705, zvs]
                          have k708 : cl706 x1 = true := by rw [ec705, zvn nx48]; exact k693
                          have nx709 : y97 ≠ p := (tI.gg hlp_1 hm241 hp242 hm87 hp88)
                          have k710 : cl706 y97 = true := by rw [ec705, zvn nx709]; exact k694
                          have nx711 : y641 ≠ p := (tI.gg hlp_1 hm663 hp664 hm87 hp88)
                          have k712 : cl706 y641 = false := by rw [ec705, zvn nx711]; exact k695
                          refine z_aload_n C 0 rfl dJ4_fixAfterDeletion_321 rfl ?_
                          refine z_callS C (As := [.ref y55]) (mJ4_leftOf (o := (some y55)) hW702 (oM hm87)) (lw_S q709 q710 q64 q711) hd_J4_leftOf rfl (Nat.le_of_ble_eq_true rfl) (by decide) (by decide) (by decide) (by decide) rfl dJ4_fixAfterDeletion_322 (fun _ _ h => h.elim) (fun r713 V714 hP715 => ?_)
                          rw [hP715.1, hP715.2]
                          refine z_st (st' := [va_rf (lf1 y55)]) rfl ?_
                          refine z_top (v := .ref y641) (congrArg va_rf (show (lf1 y55) = (some y641) from (by rw [hy642]))) ?_
                          refine z_iconst C (v := (nI 1)) dJ4_fixAfterDeletion_325 rfl ?_
                          refine z_st (st' := [.int (zb true), .ref y641]) rfl ?_
                          refine z_callS C (As := [.ref y641, .int (zb true)]) (mJ4_setColor (o := (some y641)) (c := true) hW702 (oM hm663)) (lw_S q715 q716 q64 q717) hd_J4_setColor rfl (Nat.le_of_ble_eq_true rfl) (by decide) (by decide) (by decide) (by decide) rfl dJ4_fixAfterDeletion_326 (fun _ _ h => h.elim) (fun r716 V717 hP718 => ?_)
                          obtain ⟨hW719, hU720⟩ := hP718
                          refine z_st (st' := []) rfl ?_
                          have hU721 := zUnc.tr (S := tC t L) hU704 hU720 (fun _ h => Or.inl h)
                          change tW _ _ _ _ _ _ _ (va_up cl706 y641 true) _ _ _ _ at hW719
                          obtain ⟨cl723, ec722⟩ : ∃ q, q = va_up cl706 y641 true := ⟨_, rfl⟩
                          rw [← ec722] at hW719
                          have k724 : cl723 y641 = true := by rw [ec722, zvs]
                          have k725 : cl723 p = true := by rw [ec722, zvn (Ne.symm nx711)]; exact k707
                          have nx726 : x1 ≠ y641 := (ne_pa hp hp664 (Ne.symm nx89))
                          have k727 : cl723 x1 = true := by rw [ec722, zvn nx726]; exact k708
                          have nx728 : y97 ≠ y641 := (Ne.symm (tI.sib hlp_1 hm87 hy642 hy98))
                          have k729 : cl723 y97 = true := by rw [ec722, zvn nx728]; exact k710
                          refine z_aload_n C 1 rfl dJ4_fixAfterDeletion_329 rfl ?_
                          refine z_aload_n C 2 rfl dJ4_fixAfterDeletion_330 rfl ?_
                          refine z_callS C (As := [.ref x1]) (mJ4_parentOf (o := (some x1)) hW719 (oM hlp_3)) (lw_S q706 q707 q64 q708) hd_J4_parentOf rfl (Nat.le_of_ble_eq_true rfl) (by decide) (by decide) (by decide) (by decide) rfl dJ4_fixAfterDeletion_331 (fun _ _ h => h.elim) (fun r730 V731 hP732 => ?_)
                          rw [hP732.1, hP732.2]
                          refine z_st (st' := [va_rf (pa1 x1), .ref t]) rfl ?_
                          refine z_top (v := .ref p) (congrArg va_rf (show (pa1 x1) = (some p) from (by rw [hp]))) ?_
                          refine z_callV C k_TM hW719.1 (As := [.ref p]) (mJ4_rotateRight hW719 hlp_1 hm21 hy56) (lw_V q722 q724 qs9 q64 q725) rfl hd_J4_rotateRight rfl (Nat.le_of_ble_eq_true rfl) (by decide) (by decide) (by decide) (by decide) rfl dJ4_fixAfterDeletion_334 (fun _ _ h => h.elim) (fun r733 V734 hP735 => ?_)
                          obtain ⟨hW736, hU737⟩ := hP735
                          refine z_st (st' := []) rfl ?_
                          have hU738 := zUnc.tr (S := tC t L) hU721 hU737 (fun _ h => Or.inl h)
                          have hI739 := tI_rotR hlp_1 hm21 hy56
                          obtain ⟨lf746, eB741⟩ : ∃ q, q = xR rg1 lf1 p y55 := ⟨_, rfl⟩
                          rw [← eB741] at hW736 hI739
                          obtain ⟨pa747, eP742⟩ : ∃ q, q = xP rg1 pa1 p y55 := ⟨_, rfl⟩
                          rw [← eP742] at hW736 hI739
                          obtain ⟨rg748, eA740⟩ : ∃ q, q = xL rg1 p y55 := ⟨_, rfl⟩
                          rw [← eA740] at hW736 hI739
                          obtain ⟨rt749, eT743⟩ : ∃ q, q = xT rt1 p y55 := ⟨_, rfl⟩
                          rw [← eT743] at hW736 hI739
                          obtain ⟨lo750, elo744⟩ : ∃ q, q = va_up lo1 p (ps y55 + 1) := ⟨_, rfl⟩
                          rw [← elo744] at hI739
                          obtain ⟨hi751, ehi745⟩ : ∃ q, q = va_up hi1 y55 (hi1 p) := ⟨_, rfl⟩
                          rw [← ehi745] at hI739
                          have k752 : rg748 y55 = (some p) := by rw [eA740]; exact xL_r
                          have k753 : pa747 p = (some y55) := by rw [eP742]; exact xP_p
                          have k754 : lf746 p = (some y97) := by rw [eB741, xR_p]; exact hy98
                          have nx755 : y97 ≠ x1 := (ne_pa hp242 hp nx89)
                          have k756 : pa747 x1 = (some p) := by rw [eP742, xP_o nx48 nx692 (so_ne hy98 nx755)]; exact hp
                          have k757 : rg748 p = (some x1) := by rw [eA740, xL_o (Ne.symm nx89) (so_ne k45 nx48)]; exact k45
                          have k758 : pa747 y97 = (some p) := by rw [eP742]; exact xP_c nx709 nx243 hy98
                          have k759 : lf746 y55 = (some y641) := by rw [eB741, xR_o nx89 (so_ne hy642 nx711)]; exact hy642
                          have k760 : pa747 y641 = (some y55) := by rw [eP742, xP_o nx711 nx665 (so_ne hy98 nx728)]; exact hp664
                          refine z_aload_n C 1 rfl dJ4_fixAfterDeletion_337 rfl ?_
                          refine z_get C k_TM hW736.1 3 (by decide) rfl q162 dJ4_fixAfterDeletion_338 ?_
                          refine z_astore_nQ C (r := rt749) [(1, va_rf rt749), (2, .ref y55), (0, .ref t)] dJ4_fixAfterDeletion_341 rfl (by decide) rfl ?_
                          refine z_goto C 0 dJ4_fixAfterDeletion_342 (by decide) ?_
                          refine z_pick [(0, .ref t), (1, va_rf rt749)] [2, 0] rfl ?_
                          obtain ⟨r0761, hr762⟩ := hI739.rtm hlp_3
                          obtain ⟨hm763, hp764, -, -⟩ := hI739.2.1.1 r0761 hr762
                          have e765 : (va_rf rt749 : Value) = .ref r0761 := (congrArg va_rf hr762)
                          refine z_lv (lv' := [(0, .ref t), (1, .ref r0761)]) (by rw [e765]) ?_
                          exact hexit V734 rt749 lf746 rg748 pa747 cl723 lo750 hi751 r0761 hW736 hI739 hU738 hm763 hr762
                        · skip
                          have k766 : false = true := zb1 c273
                          cases k766
                      · skip
                        have k767 : (cl1 y641) = true := zb1 c249
                        refine z_aload_n C 0 rfl dJ4_fixAfterDeletion_252 rfl ?_
                        refine z_iconst C (v := (nI 0)) dJ4_fixAfterDeletion_253 rfl ?_
                        refine z_st (st' := [.int (zb false), .ref y55]) rfl ?_
                        refine z_callS C (As := [.ref y55, .int (zb false)]) (mJ4_setColor (o := (some y55)) (c := false) hlp_0 (oM hm87)) (lw_S q715 q716 q64 q717) hd_J4_setColor rfl (Nat.le_of_ble_eq_true rfl) (by decide) (by decide) (by decide) (by decide) rfl dJ4_fixAfterDeletion_254 (fun _ _ h => h.elim) (fun r768 V769 hP770 => ?_)
                        obtain ⟨hW771, hU772⟩ := hP770
                        refine z_st (st' := []) rfl ?_
                        have hU773 := zUnc.tr (S := tC t L) hlp_2 hU772 (fun _ h => Or.inl h)
                        change tW _ _ _ _ _ _ _ (va_up cl1 y55 false) _ _ _ _ at hW771
                        obtain ⟨cl775, ec774⟩ : ∃ q, q = va_up cl1 y55 false := ⟨_, rfl⟩
                        rw [← ec774] at hW771
                        have k776 : cl775 y55 = false := by rw [ec774, zvs]
                        have nx777 : x1 ≠ y55 := (Ne.symm (tI.sib hlp_1 hm21 hy56 k45))
                        have k778 : cl775 x1 = true := by rw [ec774, zvn nx777]; exact k37
                        have k779 : cl775 y97 = true := by rw [ec774, zvn nx243]; exact k637
                        have k780 : cl775 y641 = true := by rw [ec774, zvn nx665]; exact k767
                        refine z_aload_n C 2 rfl dJ4_fixAfterDeletion_257 rfl ?_
                        refine z_callS C (As := [.ref x1]) (mJ4_parentOf (o := (some x1)) hW771 (oM hlp_3)) (lw_S q706 q707 q64 q708) hd_J4_parentOf rfl (Nat.le_of_ble_eq_true rfl) (by decide) (by decide) (by decide) (by decide) rfl dJ4_fixAfterDeletion_258 (fun _ _ h => h.elim) (fun r781 V782 hP783 => ?_)
                        rw [hP783.1, hP783.2]
                        refine z_st (st' := [va_rf (pa1 x1)]) rfl ?_
                        refine z_top (v := .ref p) (congrArg va_rf (show (pa1 x1) = (some p) from (by rw [hp]))) ?_
                        refine z_astore_n C [(1, .ref p), (2, .ref y55), (0, .ref t)] dJ4_fixAfterDeletion_261 rfl (by decide) rfl ?_
                        refine z_goto C 342 dJ4_fixAfterDeletion_262 (by decide) ?_
                        refine z_goto C 0 dJ4_fixAfterDeletion_342 (by decide) ?_
                        refine z_pick [(0, .ref t), (1, .ref p)] [2, 0] rfl ?_
                        have q1 := (hlp_1.mp hlp_3 hp).2
                        exact ih_lp V769 rt1 lf1 rg1 pa1 cl775 lo1 hi1 p hW771 hlp_1 hU773 hm21 (by omega)
              · skip
                have k784 : (cl1 y55) = false := c198
                refine z_aload_n C 0 rfl dJ4_fixAfterDeletion_201 rfl ?_
                refine z_iconst C (v := (nI 1)) dJ4_fixAfterDeletion_202 rfl ?_
                refine z_st (st' := [.int (zb true), .ref y55]) rfl ?_
                refine z_callS C (As := [.ref y55, .int (zb true)]) (mJ4_setColor (o := (some y55)) (c := true) hlp_0 (oM hm87)) (lw_S q715 q716 q64 q717) hd_J4_setColor rfl (Nat.le_of_ble_eq_true rfl) (by decide) (by decide) (by decide) (by decide) rfl dJ4_fixAfterDeletion_203 (fun _ _ h => h.elim) (fun r785 V786 hP787 => ?_)
                obtain ⟨hW788, hU789⟩ := hP787
                refine z_st (st' := []) rfl ?_
                have hU790 := zUnc.tr (S := tC t L) hlp_2 hU789 (fun _ h => Or.inl h)
                change tW _ _ _ _ _ _ _ (va_up cl1 y55 true) _ _ _ _ at hW788
                obtain ⟨cl792, ec791⟩ : ∃ q, q = va_up cl1 y55 true := ⟨_, rfl⟩
                rw [← ec791] at hW788
                have k793 : cl792 y55 = true := by rw [ec791, zvs]
                have nx794 : x1 ≠ y55 := (Ne.symm (tI.sib hlp_1 hm21 hy56 k45))
                have k795 : cl792 x1 = true := by rw [ec791, zvn nx794]; exact k37
                refine z_aload_n C 2 rfl dJ4_fixAfterDeletion_206 rfl ?_
                refine z_callS C (As := [.ref x1]) (mJ4_parentOf (o := (some x1)) hW788 (oM hlp_3)) (lw_S q706 q707 q64 q708) hd_J4_parentOf rfl (Nat.le_of_ble_eq_true rfl) (by decide) (by decide) (by decide) (by decide) rfl dJ4_fixAfterDeletion_207 (fun _ _ h => h.elim) (fun r796 V797 hP798 => ?_)
                rw [hP798.1, hP798.2]
                refine z_st (st' := [va_rf (pa1 x1)]) rfl ?_
                refine z_top (v := .ref p) (congrArg va_rf (show (pa1 x1) = (some p) from (by rw [hp]))) ?_
                refine z_iconst C (v := (nI 0)) dJ4_fixAfterDeletion_210 rfl ?_
                refine z_st (st' := [.int (zb false), .ref p]) rfl ?_
                refine z_callS C (As := [.ref p, .int (zb false)]) (mJ4_setColor (o := (some p)) (c := false) hW788 (oM hm21)) (lw_S q715 q716 q64 q717) hd_J4_setColor rfl (Nat.le_of_ble_eq_true rfl) (by decide) (by decide) (by decide) (by decide) rfl dJ4_fixAfterDeletion_211 (fun _ _ h => h.elim) (fun r799 V800 hP801 => ?_)
                obtain ⟨hW802, hU803⟩ := hP801
                refine z_st (st' := []) rfl ?_
                have hU804 := zUnc.tr (S := tC t L) hU790 hU803 (fun _ h => Or.inl h)
                change tW _ _ _ _ _ _ _ (va_up cl792 p false) _ _ _ _ at hW802
                obtain ⟨cl806, ec805⟩ : ∃ q, q = va_up cl792 p false := ⟨_, rfl⟩
                rw [← ec805] at hW802
                have k807 : cl806 p = false := by rw [ec805, zvs]
                have k808 : cl806 y55 = true := by rw [ec805, zvn nx89]; exact k793
                have k809 : cl806 x1 = true := by rw [ec805, zvn nx48]; exact k795
                refine z_aload_n C 1 rfl dJ4_fixAfterDeletion_214 rfl ?_
                refine z_aload_n C 2 rfl dJ4_fixAfterDeletion_215 rfl ?_
                refine z_callS C (As := [.ref x1]) (mJ4_parentOf (o := (some x1)) hW802 (oM hlp_3)) (lw_S q706 q707 q64 q708) hd_J4_parentOf rfl (Nat.le_of_ble_eq_true rfl) (by decide) (by decide) (by decide) (by decide) rfl dJ4_fixAfterDeletion_216 (fun _ _ h => h.elim) (fun r810 V811 hP812 => ?_)
                rw [hP812.1, hP812.2]
                refine z_st (st' := [va_rf (pa1 x1), .ref t]) rfl ?_
                refine z_top (v := .ref p) (congrArg va_rf (show (pa1 x1) = (some p) from (by rw [hp]))) ?_
                refine z_callV C k_TM hW802.1 (As := [.ref p]) (mJ4_rotateRight hW802 hlp_1 hm21 hy56) (lw_V q722 q724 qs9 q64 q725) rfl hd_J4_rotateRight rfl (Nat.le_of_ble_eq_true rfl) (by decide) (by decide) (by decide) (by decide) rfl dJ4_fixAfterDeletion_219 (fun _ _ h => h.elim) (fun r813 V814 hP815 => ?_)
                obtain ⟨hW816, hU817⟩ := hP815
                refine z_st (st' := []) rfl ?_
                have hU818 := zUnc.tr (S := tC t L) hU804 hU817 (fun _ h => Or.inl h)
                have hI819 := tI_rotR hlp_1 hm21 hy56
                obtain ⟨lf826, eB821⟩ : ∃ q, q = xR rg1 lf1 p y55 := ⟨_, rfl⟩
                rw [← eB821] at hW816 hI819
                obtain ⟨pa827, eP822⟩ : ∃ q, q = xP rg1 pa1 p y55 := ⟨_, rfl⟩
                rw [← eP822] at hW816 hI819
                obtain ⟨rg828, eA820⟩ : ∃ q, q = xL rg1 p y55 := ⟨_, rfl⟩
                rw [← eA820] at hW816 hI819
                obtain ⟨rt829, eT823⟩ : ∃ q, q = xT rt1 p y55 := ⟨_, rfl⟩
                rw [← eT823] at hW816 hI819
                obtain ⟨lo830, elo824⟩ : ∃ q, q = va_up lo1 p (ps y55 + 1) := ⟨_, rfl⟩
                rw [← elo824] at hI819
                obtain ⟨hi831, ehi825⟩ : ∃ q, q = va_up hi1 y55 (hi1 p) := ⟨_, rfl⟩
                rw [← ehi825] at hI819
                have k832 : rg828 y55 = (some p) := by rw [eA820]; exact xL_r
                have k833 : pa827 p = (some y55) := by rw [eP822]; exact xP_p
                have k834 : pa827 x1 = (some p) := by rw [eP822, xP_o nx48 nx794 (fun z => (Ne.symm nx89) (Option.some.inj (hp.symm.trans (hlp_1.mr hm87 z).2.1)))]; exact hp
                have k835 : rg828 p = (some x1) := by rw [eA820, xL_o (Ne.symm nx89) (so_ne k45 nx48)]; exact k45
                refine z_aload_n C 2 rfl dJ4_fixAfterDeletion_222 rfl ?_
                refine z_callS C (As := [.ref x1]) (mJ4_parentOf (o := (some x1)) hW816 (oM hlp_3)) (lw_S q706 q707 q64 q708) hd_J4_parentOf rfl (Nat.le_of_ble_eq_true rfl) (by decide) (by decide) (by decide) (by decide) rfl dJ4_fixAfterDeletion_223 (fun _ _ h => h.elim) (fun r836 V837 hP838 => ?_)
                rw [hP838.1, hP838.2]
                refine z_st (st' := [va_rf (pa827 x1)]) rfl ?_
                refine z_top (v := .ref p) (congrArg va_rf (show (pa827 x1) = (some p) from (by rw [k834]))) ?_
                refine z_callS C (As := [.ref p]) (mJ4_leftOf (o := (some p)) hW816 (oM hm21)) (lw_S q709 q710 q64 q711) hd_J4_leftOf rfl (Nat.le_of_ble_eq_true rfl) (by decide) (by decide) (by decide) (by decide) rfl dJ4_fixAfterDeletion_226 (fun _ _ h => h.elim) (fun r839 V840 hP841 => ?_)
                rw [hP841.1, hP841.2]
                refine z_st (st' := [va_rf (lf826 p)]) rfl ?_
                refine z_astore_nQ C (r := (lf826 p)) [(2, va_rf (lf826 p)), (0, .ref t), (1, .ref x1)] dJ4_fixAfterDeletion_229 rfl (by decide) rfl ?_
                refine z_aload_nQ C 0 (r := (lf826 p)) rfl dJ4_fixAfterDeletion_230 rfl ?_
                rcases hy843 : lf826 p with _ | y842
                · skip
                  refine z_callS C (As := [.null]) (mJ4_rightOf (o := none) hW816 oN) (lw_S q712 q713 q64 q714) hd_J4_rightOf rfl (Nat.le_of_ble_eq_true rfl) (by decide) (by decide) (by decide) (by decide) rfl dJ4_fixAfterDeletion_231 (fun _ _ h => h.elim) (fun r844 V845 hP846 => ?_)
                  rw [hP846.1, hP846.2]
                  refine z_st (st' := [.null]) rfl ?_
                  refine z_callS C (As := [.null]) (mJ4_colorOf (o := none) hW816 oN) (lw_S q703 q704 q64 q705) hd_J4_colorOf rfl (Nat.le_of_ble_eq_true rfl) (by decide) (by decide) (by decide) (by decide) rfl dJ4_fixAfterDeletion_234 (fun _ _ h => h.elim) (fun r847 V848 hP849 => ?_)
                  rw [hP849.1, hP849.2]
                  refine z_st (st' := [.int (zb true)]) rfl ?_
                  refine z_iconst C (v := (nI 1)) dJ4_fixAfterDeletion_237 rfl ?_
                  refine z_icmp_ne C 265 dJ4_fixAfterDeletion_238 (by decide) (fun c238 => ?_) (fun c238 => ?_)
                  · skip
                    have k850 : true = false := zb1f c238
                    cases k850
                  · skip
                    have k851 : true = true := zb1 c238
                    refine z_aload_nQ C 0 (r := none) rfl dJ4_fixAfterDeletion_241 rfl ?_
                    refine z_callS C (As := [.null]) (mJ4_leftOf (o := none) hW816 oN) (lw_S q709 q710 q64 q711) hd_J4_leftOf rfl (Nat.le_of_ble_eq_true rfl) (by decide) (by decide) (by decide) (by decide) rfl dJ4_fixAfterDeletion_242 (fun _ _ h => h.elim) (fun r852 V853 hP854 => ?_)
                    rw [hP854.1, hP854.2]
                    refine z_st (st' := [.null]) rfl ?_
                    refine z_callS C (As := [.null]) (mJ4_colorOf (o := none) hW816 oN) (lw_S q703 q704 q64 q705) hd_J4_colorOf rfl (Nat.le_of_ble_eq_true rfl) (by decide) (by decide) (by decide) (by decide) rfl dJ4_fixAfterDeletion_245 (fun _ _ h => h.elim) (fun r855 V856 hP857 => ?_)
                    rw [hP857.1, hP857.2]
                    refine z_st (st' := [.int (zb true)]) rfl ?_
                    refine z_iconst C (v := (nI 1)) dJ4_fixAfterDeletion_248 rfl ?_
                    refine z_icmp_ne C 265 dJ4_fixAfterDeletion_249 (by decide) (fun c249 => ?_) (fun c249 => ?_)
                    · skip
                      have k858 : true = false := zb1f c249
                      cases k858
                    · skip
                      have k859 : true = true := zb1 c249
                      refine z_aload_nQ C 0 (r := none) rfl dJ4_fixAfterDeletion_252 rfl ?_
                      refine z_iconst C (v := (nI 0)) dJ4_fixAfterDeletion_253 rfl ?_
                      refine z_st (st' := [.int (zb false), .null]) rfl ?_
                      refine z_callS C (As := [.null, .int (zb false)]) (mJ4_setColor (o := none) (c := false) hW816 oN) (lw_S q715 q716 q64 q717) hd_J4_setColor rfl (Nat.le_of_ble_eq_true rfl) (by decide) (by decide) (by decide) (by decide) rfl dJ4_fixAfterDeletion_254 (fun _ _ h => h.elim) (fun r860 V861 hP862 => ?_)
                      obtain ⟨hW863, hU864⟩ := hP862
                      refine z_st (st' := []) rfl ?_
                      have hU865 := zUnc.tr (S := tC t L) hU818 hU864 (fun _ h => Or.inl h)
                      change tW _ _ _ _ _ _ _ cl806 _ _ _ _ at hW863
                      refine z_aload_n C 2 rfl dJ4_fixAfterDeletion_257 rfl ?_
                      refine z_callS C (As := [.ref x1]) (mJ4_parentOf (o := (some x1)) hW863 (oM hlp_3)) (lw_S q706 q707 q64 q708) hd_J4_parentOf rfl (Nat.le_of_ble_eq_true rfl) (by decide) (by decide) (by decide) (by decide) rfl dJ4_fixAfterDeletion_258 (fun _ _ h => h.elim) (fun r866 V867 hP868 => ?_)
                      rw [hP868.1, hP868.2]
                      refine z_st (st' := [va_rf (pa827 x1)]) rfl ?_
                      refine z_top (v := .ref p) (congrArg va_rf (show (pa827 x1) = (some p) from (by rw [k834]))) ?_
                      refine z_astore_n C [(1, .ref p), (2, .null), (0, .ref t)] dJ4_fixAfterDeletion_261 rfl (by decide) rfl ?_
                      refine z_goto C 342 dJ4_fixAfterDeletion_262 (by decide) ?_
                      refine z_goto C 0 dJ4_fixAfterDeletion_342 (by decide) ?_
                      refine z_pick [(0, .ref t), (1, .ref p)] [2, 0] rfl ?_
                      have q1 := (hI819.mp hlp_3 k834).2
                      have qa := congrFun elo824 x1
                      rw [zvn nx48] at qa
                      have qb := congrFun ehi825 x1
                      rw [zvn nx794] at qb
                      exact ih_lp V861 rt829 lf826 rg828 pa827 cl806 lo830 hi831 p hW863 hI819 hU865 hm21 (by omega)
                · skip
                  obtain ⟨hm869, hp870, nx871⟩ := hI819.ml hm21 hy843
                  refine z_callS C (As := [.ref y842]) (mJ4_rightOf (o := (some y842)) hW816 (oM hm869)) (lw_S q712 q713 q64 q714) hd_J4_rightOf rfl (Nat.le_of_ble_eq_true rfl) (by decide) (by decide) (by decide) (by decide) rfl dJ4_fixAfterDeletion_231 (fun _ _ h => h.elim) (fun r872 V873 hP874 => ?_)
                  rw [hP874.1, hP874.2]
                  refine z_st (st' := [va_rf (rg828 y842)]) rfl ?_
                  rcases hy876 : rg828 y842 with _ | y875
                  · skip
                    refine z_callS C (As := [.null]) (mJ4_colorOf (o := none) hW816 oN) (lw_S q703 q704 q64 q705) hd_J4_colorOf rfl (Nat.le_of_ble_eq_true rfl) (by decide) (by decide) (by decide) (by decide) rfl dJ4_fixAfterDeletion_234 (fun _ _ h => h.elim) (fun r877 V878 hP879 => ?_)
                    rw [hP879.1, hP879.2]
                    refine z_st (st' := [.int (zb true)]) rfl ?_
                    refine z_iconst C (v := (nI 1)) dJ4_fixAfterDeletion_237 rfl ?_
                    refine z_icmp_ne C 265 dJ4_fixAfterDeletion_238 (by decide) (fun c238 => ?_) (fun c238 => ?_)
                    · skip
                      have k880 : true = false := zb1f c238
                      cases k880
                    · skip
                      have k881 : true = true := zb1 c238
                      refine z_aload_n C 0 rfl dJ4_fixAfterDeletion_241 rfl ?_
                      refine z_callS C (As := [.ref y842]) (mJ4_leftOf (o := (some y842)) hW816 (oM hm869)) (lw_S q709 q710 q64 q711) hd_J4_leftOf rfl (Nat.le_of_ble_eq_true rfl) (by decide) (by decide) (by decide) (by decide) rfl dJ4_fixAfterDeletion_242 (fun _ _ h => h.elim) (fun r882 V883 hP884 => ?_)
                      rw [hP884.1, hP884.2]
                      refine z_st (st' := [va_rf (lf826 y842)]) rfl ?_
                      rcases hy886 : lf826 y842 with _ | y885
                      · skip
                        refine z_callS C (As := [.null]) (mJ4_colorOf (o := none) hW816 oN) (lw_S q703 q704 q64 q705) hd_J4_colorOf rfl (Nat.le_of_ble_eq_true rfl) (by decide) (by decide) (by decide) (by decide) rfl dJ4_fixAfterDeletion_245 (fun _ _ h => h.elim) (fun r887 V888 hP889 => ?_)
                        rw [hP889.1, hP889.2]
                        refine z_st (st' := [.int (zb true)]) rfl ?_
                        refine z_iconst C (v := (nI 1)) dJ4_fixAfterDeletion_248 rfl ?_
                        refine z_icmp_ne C 265 dJ4_fixAfterDeletion_249 (by decide) (fun c249 => ?_) (fun c249 => ?_)
                        · skip
                          have k890 : true = false := zb1f c249
                          cases k890
                        · skip
                          have k891 : true = true := zb1 c249
                          refine z_aload_n C 0 rfl dJ4_fixAfterDeletion_252 rfl ?_
                          refine z_iconst C (v := (nI 0)) dJ4_fixAfterDeletion_253 rfl ?_
                          refine z_st (st' := [.int (zb false), .ref y842]) rfl ?_
                          refine z_callS C (As := [.ref y842, .int (zb false)]) (mJ4_setColor (o := (some y842)) (c := false) hW816 (oM hm869)) (lw_S q715 q716 q64 q717) hd_J4_setColor rfl (Nat.le_of_ble_eq_true rfl) (by decide) (by decide) (by decide) (by decide) rfl dJ4_fixAfterDeletion_254 (fun _ _ h => h.elim) (fun r892 V893 hP894 => ?_)
                          obtain ⟨hW895, hU896⟩ := hP894
                          refine z_st (st' := []) rfl ?_
                          have hU897 := zUnc.tr (S := tC t L) hU818 hU896 (fun _ h => Or.inl h)
                          change tW _ _ _ _ _ _ _ (va_up cl806 y842 false) _ _ _ _ at hW895
                          obtain ⟨cl899, ec898⟩ : ∃ q, q = va_up cl806 y842 false := ⟨_, rfl⟩
                          rw [← ec898] at hW895
                          have k900 : cl899 y842 = false := by rw [ec898, zvs]
                          have k901 : cl899 p = false := by rw [ec898, zvn (Ne.symm nx871)]; exact k807
                          have nx902 : y55 ≠ y842 := (Ne.symm (tI.gg hI819 hm869 hp870 hm21 k833))
                          have k903 : cl899 y55 = true := by rw [ec898, zvn nx902]; exact k808
                          have nx904 : x1 ≠ y842 := (Ne.symm (tI.sib hI819 hm21 hy843 k835))
                          have k905 : cl899 x1 = true := by rw [ec898, zvn nx904]; exact k809
                          refine z_aload_n C 2 rfl dJ4_fixAfterDeletion_257 rfl ?_
                          refine z_callS C (As := [.ref x1]) (mJ4_parentOf (o := (some x1)) hW895 (oM hlp_3)) (lw_S q706 q707 q64 q708) hd_J4_parentOf rfl (Nat.le_of_ble_eq_true rfl) (by decide) (by decide) (by decide) (by decide) rfl dJ4_fixAfterDeletion_258 (fun _ _ h => h.elim) (fun r906 V907 hP908 => ?_)
                          rw [hP908.1, hP908.2]
                          refine z_st (st' := [va_rf (pa827 x1)]) rfl ?_
                          refine z_top (v := .ref p) (congrArg va_rf (show (pa827 x1) = (some p) from (by rw [k834]))) ?_
                          refine z_astore_n C [(1, .ref p), (2, .ref y842), (0, .ref t)] dJ4_fixAfterDeletion_261 rfl (by decide) rfl ?_
                          refine z_goto C 342 dJ4_fixAfterDeletion_262 (by decide) ?_
                          refine z_goto C 0 dJ4_fixAfterDeletion_342 (by decide) ?_
                          refine z_pick [(0, .ref t), (1, .ref p)] [2, 0] rfl ?_
                          have q1 := (hI819.mp hlp_3 k834).2
                          have qa := congrFun elo824 x1
                          rw [zvn nx48] at qa
                          have qb := congrFun ehi825 x1
                          rw [zvn nx794] at qb
                          exact ih_lp V893 rt829 lf826 rg828 pa827 cl899 lo830 hi831 p hW895 hI819 hU897 hm21 (by omega)
                      · skip
                        obtain ⟨hm909, hp910, nx911⟩ := hI819.ml hm869 hy886
                        refine z_callS C (As := [.ref y885]) (mJ4_colorOf (o := (some y885)) hW816 (oM hm909)) (lw_S q703 q704 q64 q705) hd_J4_colorOf rfl (Nat.le_of_ble_eq_true rfl) (by decide) (by decide) (by decide) (by decide) rfl dJ4_fixAfterDeletion_245 (fun _ _ h => h.elim) (fun r912 V913 hP914 => ?_)
                        rw [hP914.1, hP914.2]
                        refine z_st (st' := [.int (zb (cl806 y885))]) rfl ?_
                        refine z_iconst C (v := (nI 1)) dJ4_fixAfterDeletion_248 rfl ?_
                        refine z_icmp_ne C 265 dJ4_fixAfterDeletion_249 (by decide) (fun c249 => ?_) (fun c249 => ?_)
                        · skip
                          have k915 : (cl806 y885) = false := zb1f c249
                          refine z_aload_n C 0 rfl dJ4_fixAfterDeletion_265 rfl ?_
                          refine z_callS C (As := [.ref y842]) (mJ4_leftOf (o := (some y842)) hW816 (oM hm869)) (lw_S q709 q710 q64 q711) hd_J4_leftOf rfl (Nat.le_of_ble_eq_true rfl) (by decide) (by decide) (by decide) (by decide) rfl dJ4_fixAfterDeletion_266 (fun _ _ h => h.elim) (fun r916 V917 hP918 => ?_)
                          rw [hP918.1, hP918.2]
                          refine z_st (st' := [va_rf (lf826 y842)]) rfl ?_
                          refine z_top (v := .ref y885) (congrArg va_rf (show (lf826 y842) = (some y885) from (by rw [hy886]))) ?_
                          refine z_callS C (As := [.ref y885]) (mJ4_colorOf (o := (some y885)) hW816 (oM hm909)) (lw_S q703 q704 q64 q705) hd_J4_colorOf rfl (Nat.le_of_ble_eq_true rfl) (by decide) (by decide) (by decide) (by decide) rfl dJ4_fixAfterDeletion_269 (fun _ _ h => h.elim) (fun r919 V920 hP921 => ?_)
                          rw [hP921.1, hP921.2]
                          refine z_st (st' := [.int (zb (cl806 y885))]) rfl ?_
                          refine z_top (v := .int (zb false)) (congrArg (fun c => Value.int (zb c)) (show (cl806 y885) = false from (by rw [k915]))) ?_
                          refine z_iconst C (v := (nI 1)) dJ4_fixAfterDeletion_272 rfl ?_
                          refine z_icmp_ne C 302 dJ4_fixAfterDeletion_273 (by decide) (fun c273 => ?_) (fun c273 => ?_)
                          · skip
                            have k922 : false = false := zb1f c273
                            refine z_aload_n C 0 rfl dJ4_fixAfterDeletion_302 rfl ?_
                            refine z_aload_n C 2 rfl dJ4_fixAfterDeletion_303 rfl ?_
                            refine z_callS C (As := [.ref x1]) (mJ4_parentOf (o := (some x1)) hW816 (oM hlp_3)) (lw_S q706 q707 q64 q708) hd_J4_parentOf rfl (Nat.le_of_ble_eq_true rfl) (by decide) (by decide) (by decide) (by decide) rfl dJ4_fixAfterDeletion_304 (fun _ _ h => h.elim) (fun r923 V924 hP925 => ?_)
                            rw [hP925.1, hP925.2]
                            refine z_st (st' := [va_rf (pa827 x1), .ref y842]) rfl ?_
                            refine z_top (v := .ref p) (congrArg va_rf (show (pa827 x1) = (some p) from (by rw [k834]))) ?_
                            refine z_callS C (As := [.ref p]) (mJ4_colorOf (o := (some p)) hW816 (oM hm21)) (lw_S q703 q704 q64 q705) hd_J4_colorOf rfl (Nat.le_of_ble_eq_true rfl) (by decide) (by decide) (by decide) (by decide) rfl dJ4_fixAfterDeletion_307 (fun _ _ h => h.elim) (fun r926 V927 hP928 => ?_)
                            rw [hP928.1, hP928.2]
                            refine z_st (st' := [.int (zb (cl806 p)), .ref y842]) rfl ?_
                            refine z_top (v := .int (zb false)) (congrArg (fun c => Value.int (zb c)) (show (cl806 p) = false from (by rw [k807]))) ?_
                            refine z_callS C (As := [.ref y842, .int (zb false)]) (mJ4_setColor (o := (some y842)) (c := false) hW816 (oM hm869)) (lw_S q715 q716 q64 q717) hd_J4_setColor rfl (Nat.le_of_ble_eq_true rfl) (by decide) (by decide) (by decide) (by decide) rfl dJ4_fixAfterDeletion_310 (fun _ _ h => h.elim) (fun r929 V930 hP931 => ?_)
                            obtain ⟨hW932, hU933⟩ := hP931
                            refine z_st (st' := []) rfl ?_
                            have hU934 := zUnc.tr (S := tC t L) hU818 hU933 (fun _ h => Or.inl h)
                            change tW _ _ _ _ _ _ _ (va_up cl806 y842 false) _ _ _ _ at hW932
                            obtain ⟨cl936, ec935⟩ : ∃ q, q = va_up cl806 y842 false := ⟨_, rfl⟩
                            rw [← ec935] at hW932
                            have k937 : cl936 y842 = false := by rw [ec935, zvs]
                            have k938 : cl936 p = false := by rw [ec935, zvn (Ne.symm nx871)]; exact k807
                            have nx939 : y55 ≠ y842 := (Ne.symm (tI.gg hI819 hm869 hp870 hm21 k833))
                            have k940 : cl936 y55 = true := by rw [ec935, zvn nx939]; exact k808
                            have nx941 : x1 ≠ y842 := (Ne.symm (tI.sib hI819 hm21 hy843 k835))
                            have k942 : cl936 x1 = true := by rw [ec935, zvn nx941]; exact k809
                            have k943 : cl936 y885 = false := by rw [ec935, zvn nx911]; exact k915
                            refine z_aload_n C 2 rfl dJ4_fixAfterDeletion_313 rfl ?_
                            refine z_callS C (As := [.ref x1]) (mJ4_parentOf (o := (some x1)) hW932 (oM hlp_3)) (lw_S q706 q707 q64 q708) hd_J4_parentOf rfl (Nat.le_of_ble_eq_true rfl) (by decide) (by decide) (by decide) (by decide) rfl dJ4_fixAfterDeletion_314 (fun _ _ h => h.elim) (fun r944 V945 hP946 => ?_)
                            rw [hP946.1, hP946.2]
                            refine z_st (st' := [va_rf (pa827 x1)]) rfl ?_
                            refine z_top (v := .ref p) (congrArg va_rf (show (pa827 x1) = (some p) from (by rw [k834]))) ?_
                            refine z_iconst C (v := (nI 1)) dJ4_fixAfterDeletion_317 rfl ?_
                            refine z_st (st' := [.int (zb true), .ref p]) rfl ?_
                            refine z_callS C (As := [.ref p, .int (zb true)]) (mJ4_setColor (o := (some p)) (c := true) hW932 (oM hm21)) (lw_S q715 q716 q64 q717) hd_J4_setColor rfl (Nat.le_of_ble_eq_true rfl) (by decide) (by decide) (by decide) (by decide) rfl dJ4_fixAfterDeletion_318 (fun _ _ h => h.elim) (fun r947 V948 hP949 => ?_)
                            obtain ⟨hW950, hU951⟩ := hP949
                            refine z_st (st' := []) rfl ?_
                            have hU952 := zUnc.tr (S := tC t L) hU934 hU951 (fun _ h => Or.inl h)
                            change tW _ _ _ _ _ _ _ (va_up cl936 p true) _ _ _ _ at hW950
                            obtain ⟨cl954, ec953⟩ : ∃ q, q = va_up cl936 p true := ⟨_, rfl⟩
                            rw [← ec953] at hW950
                            have k955 : cl954 p = true := by rw [ec953, zvs]
                            have k956 : cl954 y842 = false := by rw [ec953, zvn nx871]; exact k937
                            have k957 : cl954 y55 = true := by rw [ec953, zvn nx89]; exact k940
                            have k958 : cl954 x1 = true := by rw [ec953, zvn nx48]; exact k942
                            have nx959 : y885 ≠ p := (tI.gg hI819 hm909 hp910 hm869 hp870)
                            have k960 : cl954 y885 = false := by rw [ec953, zvn nx959]; exact k943
                            refine z_aload_n C 0 rfl dJ4_fixAfterDeletion_321 rfl ?_
                            refine z_callS C (As := [.ref y842]) (mJ4_leftOf (o := (some y842)) hW950 (oM hm869)) (lw_S q709 q710 q64 q711) hd_J4_leftOf rfl (Nat.le_of_ble_eq_true rfl) (by decide) (by decide) (by decide) (by decide) rfl dJ4_fixAfterDeletion_322 (fun _ _ h => h.elim) (fun r961 V962 hP963 => ?_)
                            rw [hP963.1, hP963.2]
                            refine z_st (st' := [va_rf (lf826 y842)]) rfl ?_
                            refine z_top (v := .ref y885) (congrArg va_rf (show (lf826 y842) = (some y885) from (by rw [hy886]))) ?_
                            refine z_iconst C (v := (nI 1)) dJ4_fixAfterDeletion_325 rfl ?_
                            refine z_st (st' := [.int (zb true), .ref y885]) rfl ?_
                            refine z_callS C (As := [.ref y885, .int (zb true)]) (mJ4_setColor (o := (some y885)) (c := true) hW950 (oM hm909)) (lw_S q715 q716 q64 q717) hd_J4_setColor rfl (Nat.le_of_ble_eq_true rfl) (by decide) (by decide) (by decide) (by decide) rfl dJ4_fixAfterDeletion_326 (fun _ _ h => h.elim) (fun r964 V965 hP966 => ?_)
                            obtain ⟨hW967, hU968⟩ := hP966
                            refine z_st (st' := []) rfl ?_
                            have hU969 := zUnc.tr (S := tC t L) hU952 hU968 (fun _ h => Or.inl h)
                            change tW _ _ _ _ _ _ _ (va_up cl954 y885 true) _ _ _ _ at hW967
                            obtain ⟨cl971, ec970⟩ : ∃ q, q = va_up cl954 y885 true := ⟨_, rfl⟩
                            rw [← ec970] at hW967
                            have k972 : cl971 y885 = true := by rw [ec970, zvs]
                            have k973 : cl971 p = true := by rw [ec970, zvn (Ne.symm nx959)]; exact k955
                            have k974 : cl971 y842 = false := by rw [ec970, zvn (Ne.symm nx911)]; exact k956
                            have nx975 : x1 ≠ y885 := (ne_pa k834 hp910 (Ne.symm nx871))
                            have k976 : cl971 x1 = true := by rw [ec970, zvn nx975]; exact k958
                            refine z_aload_n C 1 rfl dJ4_fixAfterDeletion_329 rfl ?_
                            refine z_aload_n C 2 rfl dJ4_fixAfterDeletion_330 rfl ?_
                            refine z_callS C (As := [.ref x1]) (mJ4_parentOf (o := (some x1)) hW967 (oM hlp_3)) (lw_S q706 q707 q64 q708) hd_J4_parentOf rfl (Nat.le_of_ble_eq_true rfl) (by decide) (by decide) (by decide) (by decide) rfl dJ4_fixAfterDeletion_331 (fun _ _ h => h.elim) (fun r977 V978 hP979 => ?_)
                            rw [hP979.1, hP979.2]
                            refine z_st (st' := [va_rf (pa827 x1), .ref t]) rfl ?_
                            refine z_top (v := .ref p) (congrArg va_rf (show (pa827 x1) = (some p) from (by rw [k834]))) ?_
                            refine z_callV C k_TM hW967.1 (As := [.ref p]) (mJ4_rotateRight hW967 hI819 hm21 hy843) (lw_V q722 q724 qs9 q64 q725) rfl hd_J4_rotateRight rfl (Nat.le_of_ble_eq_true rfl) (by decide) (by decide) (by decide) (by decide) rfl dJ4_fixAfterDeletion_334 (fun _ _ h => h.elim) (fun r980 V981 hP982 => ?_)
                            obtain ⟨hW983, hU984⟩ := hP982
                            refine z_st (st' := []) rfl ?_
                            have hU985 := zUnc.tr (S := tC t L) hU969 hU984 (fun _ h => Or.inl h)
                            have hI986 := tI_rotR hI819 hm21 hy843
                            obtain ⟨lf993, eB988⟩ : ∃ q, q = xR rg828 lf826 p y842 := ⟨_, rfl⟩
                            rw [← eB988] at hW983 hI986
                            obtain ⟨pa994, eP989⟩ : ∃ q, q = xP rg828 pa827 p y842 := ⟨_, rfl⟩
                            rw [← eP989] at hW983 hI986
                            obtain ⟨rg995, eA987⟩ : ∃ q, q = xL rg828 p y842 := ⟨_, rfl⟩
                            rw [← eA987] at hW983 hI986
                            obtain ⟨rt996, eT990⟩ : ∃ q, q = xT rt829 p y842 := ⟨_, rfl⟩
                            rw [← eT990] at hW983 hI986
                            obtain ⟨lo997, elo991⟩ : ∃ q, q = va_up lo830 p (ps y842 + 1) := ⟨_, rfl⟩
                            rw [← elo991] at hI986
                            obtain ⟨hi998, ehi992⟩ : ∃ q, q = va_up hi831 y842 (hi831 p) := ⟨_, rfl⟩
                            rw [← ehi992] at hI986
                            have k999 : rg995 y842 = (some p) := by rw [eA987]; exact xL_r
                            have k1000 : pa994 p = (some y842) := by rw [eP989]; exact xP_p
                            have k1001 : lf993 p = none := by rw [eB988, xR_p]; exact hy876
                            have k1002 : pa994 y842 = (some y55) := by rw [eP989, xP_r nx871]; exact k833
                            have k1003 : rg995 y55 = (some y842) := by rw [eA987]; exact xL_u nx939 k832
                            have k1004 : pa994 x1 = (some p) := by rw [eP989, xP_o nx48 nx941 (sn_ne hy876)]; exact k834
                            have k1005 : rg995 p = (some x1) := by rw [eA987, xL_o (Ne.symm nx871) (so_ne k835 nx48)]; exact k835
                            have k1006 : lf993 y842 = (some y885) := by rw [eB988, xR_o nx871 (so_ne hy886 nx959)]; exact hy886
                            have k1007 : pa994 y885 = (some y842) := by rw [eP989, xP_o nx959 nx911 (sn_ne hy876)]; exact hp910
                            refine z_aload_n C 1 rfl dJ4_fixAfterDeletion_337 rfl ?_
                            refine z_get C k_TM hW983.1 3 (by decide) rfl q162 dJ4_fixAfterDeletion_338 ?_
                            refine z_astore_nQ C (r := rt996) [(1, va_rf rt996), (2, .ref y842), (0, .ref t)] dJ4_fixAfterDeletion_341 rfl (by decide) rfl ?_
                            refine z_goto C 0 dJ4_fixAfterDeletion_342 (by decide) ?_
                            refine z_pick [(0, .ref t), (1, va_rf rt996)] [2, 0] rfl ?_
                            obtain ⟨r01008, hr1009⟩ := hI986.rtm hlp_3
                            obtain ⟨hm1010, hp1011, -, -⟩ := hI986.2.1.1 r01008 hr1009
                            have e1012 : (va_rf rt996 : Value) = .ref r01008 := (congrArg va_rf hr1009)
                            refine z_lv (lv' := [(0, .ref t), (1, .ref r01008)]) (by rw [e1012]) ?_
                            exact hexit V981 rt996 lf993 rg995 pa994 cl971 lo997 hi998 r01008 hW983 hI986 hU985 hm1010 hr1009
                          · skip
                            have k1013 : false = true := zb1 c273
                            cases k1013
                        · skip
                          have k1014 : (cl806 y885) = true := zb1 c249
                          refine z_aload_n C 0 rfl dJ4_fixAfterDeletion_252 rfl ?_
                          refine z_iconst C (v := (nI 0)) dJ4_fixAfterDeletion_253 rfl ?_
                          refine z_st (st' := [.int (zb false), .ref y842]) rfl ?_
                          refine z_callS C (As := [.ref y842, .int (zb false)]) (mJ4_setColor (o := (some y842)) (c := false) hW816 (oM hm869)) (lw_S q715 q716 q64 q717) hd_J4_setColor rfl (Nat.le_of_ble_eq_true rfl) (by decide) (by decide) (by decide) (by decide) rfl dJ4_fixAfterDeletion_254 (fun _ _ h => h.elim) (fun r1015 V1016 hP1017 => ?_)
                          obtain ⟨hW1018, hU1019⟩ := hP1017
                          refine z_st (st' := []) rfl ?_
                          have hU1020 := zUnc.tr (S := tC t L) hU818 hU1019 (fun _ h => Or.inl h)
                          change tW _ _ _ _ _ _ _ (va_up cl806 y842 false) _ _ _ _ at hW1018
                          obtain ⟨cl1022, ec1021⟩ : ∃ q, q = va_up cl806 y842 false := ⟨_, rfl⟩
                          rw [← ec1021] at hW1018
                          have k1023 : cl1022 y842 = false := by rw [ec1021, zvs]
                          have k1024 : cl1022 p = false := by rw [ec1021, zvn (Ne.symm nx871)]; exact k807
                          have nx1025 : y55 ≠ y842 := (Ne.symm (tI.gg hI819 hm869 hp870 hm21 k833))
                          have k1026 : cl1022 y55 = true := by rw [ec1021, zvn nx1025]; exact k808
                          have nx1027 : x1 ≠ y842 := (Ne.symm (tI.sib hI819 hm21 hy843 k835))
                          have k1028 : cl1022 x1 = true := by rw [ec1021, zvn nx1027]; exact k809
                          have k1029 : cl1022 y885 = true := by rw [ec1021, zvn nx911]; exact k1014
                          refine z_aload_n C 2 rfl dJ4_fixAfterDeletion_257 rfl ?_
                          refine z_callS C (As := [.ref x1]) (mJ4_parentOf (o := (some x1)) hW1018 (oM hlp_3)) (lw_S q706 q707 q64 q708) hd_J4_parentOf rfl (Nat.le_of_ble_eq_true rfl) (by decide) (by decide) (by decide) (by decide) rfl dJ4_fixAfterDeletion_258 (fun _ _ h => h.elim) (fun r1030 V1031 hP1032 => ?_)
                          rw [hP1032.1, hP1032.2]
                          refine z_st (st' := [va_rf (pa827 x1)]) rfl ?_
                          refine z_top (v := .ref p) (congrArg va_rf (show (pa827 x1) = (some p) from (by rw [k834]))) ?_
                          refine z_astore_n C [(1, .ref p), (2, .ref y842), (0, .ref t)] dJ4_fixAfterDeletion_261 rfl (by decide) rfl ?_
                          refine z_goto C 342 dJ4_fixAfterDeletion_262 (by decide) ?_
                          refine z_goto C 0 dJ4_fixAfterDeletion_342 (by decide) ?_
                          refine z_pick [(0, .ref t), (1, .ref p)] [2, 0] rfl ?_
                          have q1 := (hI819.mp hlp_3 k834).2
                          have qa := congrFun elo824 x1
                          rw [zvn nx48] at qa
                          have qb := congrFun ehi825 x1
                          rw [zvn nx794] at qb
                          exact ih_lp V1016 rt829 lf826 rg828 pa827 cl1022 lo830 hi831 p hW1018 hI819 hU1020 hm21 (by omega)
                  · skip
                    obtain ⟨hm1033, hp1034, nx1035⟩ := hI819.mr hm869 hy876
                    refine z_callS C (As := [.ref y875]) (mJ4_colorOf (o := (some y875)) hW816 (oM hm1033)) (lw_S q703 q704 q64 q705) hd_J4_colorOf rfl (Nat.le_of_ble_eq_true rfl) (by decide) (by decide) (by decide) (by decide) rfl dJ4_fixAfterDeletion_234 (fun _ _ h => h.elim) (fun r1036 V1037 hP1038 => ?_)
                    rw [hP1038.1, hP1038.2]
                    refine z_st (st' := [.int (zb (cl806 y875))]) rfl ?_
                    refine z_iconst C (v := (nI 1)) dJ4_fixAfterDeletion_237 rfl ?_
                    refine z_icmp_ne C 265 dJ4_fixAfterDeletion_238 (by decide) (fun c238 => ?_) (fun c238 => ?_)
                    · skip
                      have k1039 : (cl806 y875) = false := zb1f c238
                      refine z_aload_n C 0 rfl dJ4_fixAfterDeletion_265 rfl ?_
                      refine z_callS C (As := [.ref y842]) (mJ4_leftOf (o := (some y842)) hW816 (oM hm869)) (lw_S q709 q710 q64 q711) hd_J4_leftOf rfl (Nat.le_of_ble_eq_true rfl) (by decide) (by decide) (by decide) (by decide) rfl dJ4_fixAfterDeletion_266 (fun _ _ h => h.elim) (fun r1040 V1041 hP1042 => ?_)
                      rw [hP1042.1, hP1042.2]
                      refine z_st (st' := [va_rf (lf826 y842)]) rfl ?_
                      rcases hy1044 : lf826 y842 with _ | y1043
                      · skip
                        refine z_callS C (As := [.null]) (mJ4_colorOf (o := none) hW816 oN) (lw_S q703 q704 q64 q705) hd_J4_colorOf rfl (Nat.le_of_ble_eq_true rfl) (by decide) (by decide) (by decide) (by decide) rfl dJ4_fixAfterDeletion_269 (fun _ _ h => h.elim) (fun r1045 V1046 hP1047 => ?_)
                        rw [hP1047.1, hP1047.2]
                        refine z_st (st' := [.int (zb true)]) rfl ?_
                        refine z_iconst C (v := (nI 1)) dJ4_fixAfterDeletion_272 rfl ?_
                        refine z_icmp_ne C 302 dJ4_fixAfterDeletion_273 (by decide) (fun c273 => ?_) (fun c273 => ?_)
                        · skip
                          have k1048 : true = false := zb1f c273
                          cases k1048
                        · skip
                          have k1049 : true = true := zb1 c273
                          refine z_aload_n C 0 rfl dJ4_fixAfterDeletion_276 rfl ?_
                          refine z_callS C (As := [.ref y842]) (mJ4_rightOf (o := (some y842)) hW816 (oM hm869)) (lw_S q712 q713 q64 q714) hd_J4_rightOf rfl (Nat.le_of_ble_eq_true rfl) (by decide) (by decide) (by decide) (by decide) rfl dJ4_fixAfterDeletion_277 (fun _ _ h => h.elim) (fun r1050 V1051 hP1052 => ?_)
                          rw [hP1052.1, hP1052.2]
                          refine z_st (st' := [va_rf (rg828 y842)]) rfl ?_
                          refine z_top (v := .ref y875) (congrArg va_rf (show (rg828 y842) = (some y875) from (by rw [hy876]))) ?_
                          refine z_iconst C (v := (nI 1)) dJ4_fixAfterDeletion_280 rfl ?_
                          refine z_st (st' := [.int (zb true), .ref y875]) rfl ?_
                          refine z_callS C (As := [.ref y875, .int (zb true)]) (mJ4_setColor (o := (some y875)) (c := true) hW816 (oM hm1033)) (lw_S q715 q716 q64 q717) hd_J4_setColor rfl (Nat.le_of_ble_eq_true rfl) (by decide) (by decide) (by decide) (by decide) rfl dJ4_fixAfterDeletion_281 (fun _ _ h => h.elim) (fun r1053 V1054 hP1055 => ?_)
                          obtain ⟨hW1056, hU1057⟩ := hP1055
                          refine z_st (st' := []) rfl ?_
                          have hU1058 := zUnc.tr (S := tC t L) hU818 hU1057 (fun _ h => Or.inl h)
                          change tW _ _ _ _ _ _ _ (va_up cl806 y875 true) _ _ _ _ at hW1056
                          obtain ⟨cl1060, ec1059⟩ : ∃ q, q = va_up cl806 y875 true := ⟨_, rfl⟩
                          rw [← ec1059] at hW1056
                          have k1061 : cl1060 y875 = true := by rw [ec1059, zvs]
                          have nx1062 : y55 ≠ y842 := (Ne.symm (tI.gg hI819 hm869 hp870 hm21 k833))
                          have nx1063 : p ≠ y875 := (ne_pa k833 hp1034 nx1062)
                          have k1064 : cl1060 p = false := by rw [ec1059, zvn nx1063]; exact k807
                          have nx1065 : x1 ≠ y875 := (ne_pa k834 hp1034 (Ne.symm nx871))
                          have k1066 : cl1060 x1 = true := by rw [ec1059, zvn nx1065]; exact k809
                          refine z_aload_n C 0 rfl dJ4_fixAfterDeletion_284 rfl ?_
                          refine z_iconst C (v := (nI 0)) dJ4_fixAfterDeletion_285 rfl ?_
                          refine z_st (st' := [.int (zb false), .ref y842]) rfl ?_
                          refine z_callS C (As := [.ref y842, .int (zb false)]) (mJ4_setColor (o := (some y842)) (c := false) hW1056 (oM hm869)) (lw_S q715 q716 q64 q717) hd_J4_setColor rfl (Nat.le_of_ble_eq_true rfl) (by decide) (by decide) (by decide) (by decide) rfl dJ4_fixAfterDeletion_286 (fun _ _ h => h.elim) (fun r1067 V1068 hP1069 => ?_)
                          obtain ⟨hW1070, hU1071⟩ := hP1069
                          refine z_st (st' := []) rfl ?_
                          have hU1072 := zUnc.tr (S := tC t L) hU1058 hU1071 (fun _ h => Or.inl h)
                          change tW _ _ _ _ _ _ _ (va_up cl1060 y842 false) _ _ _ _ at hW1070
                          obtain ⟨cl1074, ec1073⟩ : ∃ q, q = va_up cl1060 y842 false := ⟨_, rfl⟩
                          rw [← ec1073] at hW1070
                          have k1075 : cl1074 y842 = false := by rw [ec1073, zvs]
                          have k1076 : cl1074 y875 = true := by rw [ec1073, zvn nx1035]; exact k1061
                          have k1077 : cl1074 p = false := by rw [ec1073, zvn (Ne.symm nx871)]; exact k1064
                          have nx1078 : x1 ≠ y842 := (Ne.symm (tI.sib hI819 hm21 hy843 k835))
                          have k1079 : cl1074 x1 = true := by rw [ec1073, zvn nx1078]; exact k1066
                          refine z_aload_n C 1 rfl dJ4_fixAfterDeletion_289 rfl ?_
                          refine z_aload_n C 0 rfl dJ4_fixAfterDeletion_290 rfl ?_
                          refine z_callV C k_TM hW1070.1 (As := [.ref y842]) (mJ4_rotateLeft hW1070 hI819 hm869 hy876) (lw_V q718 q720 qs8 q64 q721) rfl hd_J4_rotateLeft rfl (Nat.le_of_ble_eq_true rfl) (by decide) (by decide) (by decide) (by decide) rfl dJ4_fixAfterDeletion_291 (fun _ _ h => h.elim) (fun r1080 V1081 hP1082 => ?_)
                          obtain ⟨hW1083, hU1084⟩ := hP1082
                          refine z_st (st' := []) rfl ?_
                          have hU1085 := zUnc.tr (S := tC t L) hU1072 hU1084 (fun _ h => Or.inl h)
                          have hI1086 := tI_rotL hI819 hm869 hy876
                          obtain ⟨rg1093, eB1088⟩ : ∃ q, q = xR lf826 rg828 y842 y875 := ⟨_, rfl⟩
                          rw [← eB1088] at hW1083 hI1086
                          obtain ⟨pa1094, eP1089⟩ : ∃ q, q = xP lf826 pa827 y842 y875 := ⟨_, rfl⟩
                          rw [← eP1089] at hW1083 hI1086
                          obtain ⟨lf1095, eA1087⟩ : ∃ q, q = xL lf826 y842 y875 := ⟨_, rfl⟩
                          rw [← eA1087] at hW1083 hI1086
                          obtain ⟨rt1096, eT1090⟩ : ∃ q, q = xT rt829 y842 y875 := ⟨_, rfl⟩
                          rw [← eT1090] at hW1083 hI1086
                          obtain ⟨lo1097, elo1091⟩ : ∃ q, q = va_up lo830 y875 (lo830 y842) := ⟨_, rfl⟩
                          rw [← elo1091] at hI1086
                          obtain ⟨hi1098, ehi1092⟩ : ∃ q, q = va_up hi831 y842 (ps y875) := ⟨_, rfl⟩
                          rw [← ehi1092] at hI1086
                          have k1099 : lf1095 y875 = (some y842) := by rw [eA1087]; exact xL_r
                          have k1100 : pa1094 y842 = (some y875) := by rw [eP1089]; exact xP_p
                          have k1101 : pa1094 y875 = (some p) := by rw [eP1089, xP_r nx1035]; exact hp870
                          have k1102 : rg1093 y55 = (some p) := by rw [eB1088, xR_o nx1062 (so_ne k832 (Ne.symm nx871))]; exact k832
                          have k1103 : pa1094 x1 = (some p) := by rw [eP1089, xP_o nx1078 nx1065 (fun z => nx1063 (Option.some.inj (k834.symm.trans (hI819.ml hm1033 z).2.1)))]; exact k834
                          have k1104 : rg1093 p = (some x1) := by rw [eB1088, xR_o (Ne.symm nx871) (so_ne k835 nx1078)]; exact k835
                          have k1105 : lf1095 p = (some y875) := by rw [eA1087]; exact xL_u nx1063 hy843
                          have k1106 : lf1095 y842 = none := by rw [eA1087, xL_o (Ne.symm nx1035) (sn_ne hy1044)]; exact hy1044
                          refine z_aload_n C 2 rfl dJ4_fixAfterDeletion_294 rfl ?_
                          refine z_callS C (As := [.ref x1]) (mJ4_parentOf (o := (some x1)) hW1083 (oM hlp_3)) (lw_S q706 q707 q64 q708) hd_J4_parentOf rfl (Nat.le_of_ble_eq_true rfl) (by decide) (by decide) (by decide) (by decide) rfl dJ4_fixAfterDeletion_295 (fun _ _ h => h.elim) (fun r1107 V1108 hP1109 => ?_)
                          rw [hP1109.1, hP1109.2]
                          refine z_st (st' := [va_rf (pa1094 x1)]) rfl ?_
                          refine z_top (v := .ref p) (congrArg va_rf (show (pa1094 x1) = (some p) from (by rw [k1103]))) ?_
                          refine z_callS C (As := [.ref p]) (mJ4_leftOf (o := (some p)) hW1083 (oM hm21)) (lw_S q709 q710 q64 q711) hd_J4_leftOf rfl (Nat.le_of_ble_eq_true rfl) (by decide) (by decide) (by decide) (by decide) rfl dJ4_fixAfterDeletion_298 (fun _ _ h => h.elim) (fun r1110 V1111 hP1112 => ?_)
                          rw [hP1112.1, hP1112.2]
                          refine z_st (st' := [va_rf (lf1095 p)]) rfl ?_
                          refine z_top (v := .ref y875) (congrArg va_rf (show (lf1095 p) = (some y875) from (by rw [k1105]))) ?_
                          refine z_astore_n C [(2, .ref y875), (0, .ref t), (1, .ref x1)] dJ4_fixAfterDeletion_301 rfl (by decide) rfl ?_
                          refine z_aload_n C 0 rfl dJ4_fixAfterDeletion_302 rfl ?_
                          refine z_aload_n C 2 rfl dJ4_fixAfterDeletion_303 rfl ?_
                          refine z_callS C (As := [.ref x1]) (mJ4_parentOf (o := (some x1)) hW1083 (oM hlp_3)) (lw_S q706 q707 q64 q708) hd_J4_parentOf rfl (Nat.le_of_ble_eq_true rfl) (by decide) (by decide) (by decide) (by decide) rfl dJ4_fixAfterDeletion_304 (fun _ _ h => h.elim) (fun r1113 V1114 hP1115 => ?_)
                          rw [hP1115.1, hP1115.2]
                          refine z_st (st' := [va_rf (pa1094 x1), .ref y875]) rfl ?_
                          refine z_top (v := .ref p) (congrArg va_rf (show (pa1094 x1) = (some p) from (by rw [k1103]))) ?_
                          refine z_callS C (As := [.ref p]) (mJ4_colorOf (o := (some p)) hW1083 (oM hm21)) (lw_S q703 q704 q64 q705) hd_J4_colorOf rfl (Nat.le_of_ble_eq_true rfl) (by decide) (by decide) (by decide) (by decide) rfl dJ4_fixAfterDeletion_307 (fun _ _ h => h.elim) (fun r1116 V1117 hP1118 => ?_)
                          rw [hP1118.1, hP1118.2]
                          refine z_st (st' := [.int (zb (cl1074 p)), .ref y875]) rfl ?_
                          refine z_top (v := .int (zb false)) (congrArg (fun c => Value.int (zb c)) (show (cl1074 p) = false from (by rw [k1077]))) ?_
                          refine z_callS C (As := [.ref y875, .int (zb false)]) (mJ4_setColor (o := (some y875)) (c := false) hW1083 (oM hm1033)) (lw_S q715 q716 q64 q717) hd_J4_setColor rfl (Nat.le_of_ble_eq_true rfl) (by decide) (by decide) (by decide) (by decide) rfl dJ4_fixAfterDeletion_310 (fun _ _ h => h.elim) (fun r1119 V1120 hP1121 => ?_)
                          obtain ⟨hW1122, hU1123⟩ := hP1121
                          refine z_st (st' := []) rfl ?_
                          have hU1124 := zUnc.tr (S := tC t L) hU1085 hU1123 (fun _ h => Or.inl h)
                          change tW _ _ _ _ _ _ _ (va_up cl1074 y875 false) _ _ _ _ at hW1122
                          obtain ⟨cl1126, ec1125⟩ : ∃ q, q = va_up cl1074 y875 false := ⟨_, rfl⟩
                          rw [← ec1125] at hW1122
                          have k1127 : cl1126 y875 = false := by rw [ec1125, zvs]
                          have k1128 : cl1126 y842 = false := by rw [ec1125, zvn (Ne.symm nx1035)]; exact k1075
                          have k1129 : cl1126 p = false := by rw [ec1125, zvn nx1063]; exact k1077
                          have k1130 : cl1126 x1 = true := by rw [ec1125, zvn nx1065]; exact k1079
                          refine z_aload_n C 2 rfl dJ4_fixAfterDeletion_313 rfl ?_
                          refine z_callS C (As := [.ref x1]) (mJ4_parentOf (o := (some x1)) hW1122 (oM hlp_3)) (lw_S q706 q707 q64 q708) hd_J4_parentOf rfl (Nat.le_of_ble_eq_true rfl) (by decide) (by decide) (by decide) (by decide) rfl dJ4_fixAfterDeletion_314 (fun _ _ h => h.elim) (fun r1131 V1132 hP1133 => ?_)
                          rw [hP1133.1, hP1133.2]
                          refine z_st (st' := [va_rf (pa1094 x1)]) rfl ?_
                          refine z_top (v := .ref p) (congrArg va_rf (show (pa1094 x1) = (some p) from (by rw [k1103]))) ?_
                          refine z_iconst C (v := (nI 1)) dJ4_fixAfterDeletion_317 rfl ?_
                          refine z_st (st' := [.int (zb true), .ref p]) rfl ?_
                          refine z_callS C (As := [.ref p, .int (zb true)]) (mJ4_setColor (o := (some p)) (c := true) hW1122 (oM hm21)) (lw_S q715 q716 q64 q717) hd_J4_setColor rfl (Nat.le_of_ble_eq_true rfl) (by decide) (by decide) (by decide) (by decide) rfl dJ4_fixAfterDeletion_318 (fun _ _ h => h.elim) (fun r1134 V1135 hP1136 => ?_)
                          obtain ⟨hW1137, hU1138⟩ := hP1136
                          refine z_st (st' := []) rfl ?_
                          have hU1139 := zUnc.tr (S := tC t L) hU1124 hU1138 (fun _ h => Or.inl h)
                          change tW _ _ _ _ _ _ _ (va_up cl1126 p true) _ _ _ _ at hW1137
                          obtain ⟨cl1141, ec1140⟩ : ∃ q, q = va_up cl1126 p true := ⟨_, rfl⟩
                          rw [← ec1140] at hW1137
                          have k1142 : cl1141 p = true := by rw [ec1140, zvs]
                          have k1143 : cl1141 y875 = false := by rw [ec1140, zvn (Ne.symm nx1063)]; exact k1127
                          have k1144 : cl1141 y842 = false := by rw [ec1140, zvn nx871]; exact k1128
                          have k1145 : cl1141 x1 = true := by rw [ec1140, zvn nx48]; exact k1130
                          refine z_aload_n C 0 rfl dJ4_fixAfterDeletion_321 rfl ?_
                          refine z_callS C (As := [.ref y875]) (mJ4_leftOf (o := (some y875)) hW1137 (oM hm1033)) (lw_S q709 q710 q64 q711) hd_J4_leftOf rfl (Nat.le_of_ble_eq_true rfl) (by decide) (by decide) (by decide) (by decide) rfl dJ4_fixAfterDeletion_322 (fun _ _ h => h.elim) (fun r1146 V1147 hP1148 => ?_)
                          rw [hP1148.1, hP1148.2]
                          refine z_st (st' := [va_rf (lf1095 y875)]) rfl ?_
                          refine z_top (v := .ref y842) (congrArg va_rf (show (lf1095 y875) = (some y842) from (by rw [k1099]))) ?_
                          refine z_iconst C (v := (nI 1)) dJ4_fixAfterDeletion_325 rfl ?_
                          refine z_st (st' := [.int (zb true), .ref y842]) rfl ?_
                          refine z_callS C (As := [.ref y842, .int (zb true)]) (mJ4_setColor (o := (some y842)) (c := true) hW1137 (oM hm869)) (lw_S q715 q716 q64 q717) hd_J4_setColor rfl (Nat.le_of_ble_eq_true rfl) (by decide) (by decide) (by decide) (by decide) rfl dJ4_fixAfterDeletion_326 (fun _ _ h => h.elim) (fun r1149 V1150 hP1151 => ?_)
                          obtain ⟨hW1152, hU1153⟩ := hP1151
                          refine z_st (st' := []) rfl ?_
                          have hU1154 := zUnc.tr (S := tC t L) hU1139 hU1153 (fun _ h => Or.inl h)
                          change tW _ _ _ _ _ _ _ (va_up cl1141 y842 true) _ _ _ _ at hW1152
                          obtain ⟨cl1156, ec1155⟩ : ∃ q, q = va_up cl1141 y842 true := ⟨_, rfl⟩
                          rw [← ec1155] at hW1152
                          have k1157 : cl1156 y842 = true := by rw [ec1155, zvs]
                          have k1158 : cl1156 p = true := by rw [ec1155, zvn (Ne.symm nx871)]; exact k1142
                          have k1159 : cl1156 y875 = false := by rw [ec1155, zvn nx1035]; exact k1143
                          have k1160 : cl1156 x1 = true := by rw [ec1155, zvn nx1078]; exact k1145
                          refine z_aload_n C 1 rfl dJ4_fixAfterDeletion_329 rfl ?_
                          refine z_aload_n C 2 rfl dJ4_fixAfterDeletion_330 rfl ?_
                          refine z_callS C (As := [.ref x1]) (mJ4_parentOf (o := (some x1)) hW1152 (oM hlp_3)) (lw_S q706 q707 q64 q708) hd_J4_parentOf rfl (Nat.le_of_ble_eq_true rfl) (by decide) (by decide) (by decide) (by decide) rfl dJ4_fixAfterDeletion_331 (fun _ _ h => h.elim) (fun r1161 V1162 hP1163 => ?_)
                          rw [hP1163.1, hP1163.2]
                          refine z_st (st' := [va_rf (pa1094 x1), .ref t]) rfl ?_
                          refine z_top (v := .ref p) (congrArg va_rf (show (pa1094 x1) = (some p) from (by rw [k1103]))) ?_
                          refine z_callV C k_TM hW1152.1 (As := [.ref p]) (mJ4_rotateRight hW1152 hI1086 hm21 k1105) (lw_V q722 q724 qs9 q64 q725) rfl hd_J4_rotateRight rfl (Nat.le_of_ble_eq_true rfl) (by decide) (by decide) (by decide) (by decide) rfl dJ4_fixAfterDeletion_334 (fun _ _ h => h.elim) (fun r1164 V1165 hP1166 => ?_)
                          obtain ⟨hW1167, hU1168⟩ := hP1166
                          refine z_st (st' := []) rfl ?_
                          have hU1169 := zUnc.tr (S := tC t L) hU1154 hU1168 (fun _ h => Or.inl h)
                          have hI1170 := tI_rotR hI1086 hm21 k1105
                          obtain ⟨lf1177, eB1172⟩ : ∃ q, q = xR rg1093 lf1095 p y875 := ⟨_, rfl⟩
                          rw [← eB1172] at hW1167 hI1170
                          obtain ⟨pa1178, eP1173⟩ : ∃ q, q = xP rg1093 pa1094 p y875 := ⟨_, rfl⟩
                          rw [← eP1173] at hW1167 hI1170
                          obtain ⟨rg1179, eA1171⟩ : ∃ q, q = xL rg1093 p y875 := ⟨_, rfl⟩
                          rw [← eA1171] at hW1167 hI1170
                          obtain ⟨rt1180, eT1174⟩ : ∃ q, q = xT rt1096 p y875 := ⟨_, rfl⟩
                          rw [← eT1174] at hW1167 hI1170
                          obtain ⟨lo1181, elo1175⟩ : ∃ q, q = va_up lo1097 p (ps y875 + 1) := ⟨_, rfl⟩
                          rw [← elo1175] at hI1170
                          obtain ⟨hi1182, ehi1176⟩ : ∃ q, q = va_up hi1098 y875 (hi1098 p) := ⟨_, rfl⟩
                          rw [← ehi1176] at hI1170
                          have k1183 : rg1179 y875 = (some p) := by rw [eA1171]; exact xL_r
                          have k1184 : pa1178 p = (some y875) := by rw [eP1173]; exact xP_p
                          have k1185 : lf1177 y875 = (some y842) := by rw [eB1172, xR_o (Ne.symm nx1063) (so_ne k1099 nx871)]; exact k1099
                          have k1186 : pa1178 y842 = (some y875) := by rw [eP1173, xP_o nx871 (Ne.symm nx1035) (hI1086.lr hm1033 k1099)]; exact k1100
                          have k1187 : pa1178 x1 = (some p) := by rw [eP1173, xP_o nx48 nx1065 (fun z => nx1063 (Option.some.inj (k1103.symm.trans (hI1086.mr hm1033 z).2.1)))]; exact k1103
                          have k1188 : rg1179 p = (some x1) := by rw [eA1171, xL_o nx1063 (so_ne k1104 nx48)]; exact k1104
                          have k1189 : lf1177 y842 = none := by rw [eB1172, xR_o nx871 (sn_ne k1106)]; exact k1106
                          refine z_aload_n C 1 rfl dJ4_fixAfterDeletion_337 rfl ?_
                          refine z_get C k_TM hW1167.1 3 (by decide) rfl q162 dJ4_fixAfterDeletion_338 ?_
                          refine z_astore_nQ C (r := rt1180) [(1, va_rf rt1180), (2, .ref y875), (0, .ref t)] dJ4_fixAfterDeletion_341 rfl (by decide) rfl ?_
                          refine z_goto C 0 dJ4_fixAfterDeletion_342 (by decide) ?_
                          refine z_pick [(0, .ref t), (1, va_rf rt1180)] [2, 0] rfl ?_
                          obtain ⟨r01190, hr1191⟩ := hI1170.rtm hlp_3
                          obtain ⟨hm1192, hp1193, -, -⟩ := hI1170.2.1.1 r01190 hr1191
                          have e1194 : (va_rf rt1180 : Value) = .ref r01190 := (congrArg va_rf hr1191)
                          refine z_lv (lv' := [(0, .ref t), (1, .ref r01190)]) (by rw [e1194]) ?_
                          exact hexit V1165 rt1180 lf1177 rg1179 pa1178 cl1156 lo1181 hi1182 r01190 hW1167 hI1170 hU1169 hm1192 hr1191
                      · skip
                        obtain ⟨hm1195, hp1196, nx1197⟩ := hI819.ml hm869 hy1044
                        refine z_callS C (As := [.ref y1043]) (mJ4_colorOf (o := (some y1043)) hW816 (oM hm1195)) (lw_S q703 q704 q64 q705) hd_J4_colorOf rfl (Nat.le_of_ble_eq_true rfl) (by decide) (by decide) (by decide) (by decide) rfl dJ4_fixAfterDeletion_269 (fun _ _ h => h.elim) (fun r1198 V1199 hP1200 => ?_)
                        rw [hP1200.1, hP1200.2]
                        refine z_st (st' := [.int (zb (cl806 y1043))]) rfl ?_
                        refine z_iconst C (v := (nI 1)) dJ4_fixAfterDeletion_272 rfl ?_
                        refine z_icmp_ne C 302 dJ4_fixAfterDeletion_273 (by decide) (fun c273 => ?_) (fun c273 => ?_)
                        · skip
                          have k1201 : (cl806 y1043) = false := zb1f c273
                          refine z_aload_n C 0 rfl dJ4_fixAfterDeletion_302 rfl ?_
                          refine z_aload_n C 2 rfl dJ4_fixAfterDeletion_303 rfl ?_
                          refine z_callS C (As := [.ref x1]) (mJ4_parentOf (o := (some x1)) hW816 (oM hlp_3)) (lw_S q706 q707 q64 q708) hd_J4_parentOf rfl (Nat.le_of_ble_eq_true rfl) (by decide) (by decide) (by decide) (by decide) rfl dJ4_fixAfterDeletion_304 (fun _ _ h => h.elim) (fun r1202 V1203 hP1204 => ?_)
                          rw [hP1204.1, hP1204.2]
                          refine z_st (st' := [va_rf (pa827 x1), .ref y842]) rfl ?_
                          refine z_top (v := .ref p) (congrArg va_rf (show (pa827 x1) = (some p) from (by rw [k834]))) ?_
                          refine z_callS C (As := [.ref p]) (mJ4_colorOf (o := (some p)) hW816 (oM hm21)) (lw_S q703 q704 q64 q705) hd_J4_colorOf rfl (Nat.le_of_ble_eq_true rfl) (by decide) (by decide) (by decide) (by decide) rfl dJ4_fixAfterDeletion_307 (fun _ _ h => h.elim) (fun r1205 V1206 hP1207 => ?_)
                          rw [hP1207.1, hP1207.2]
                          refine z_st (st' := [.int (zb (cl806 p)), .ref y842]) rfl ?_
                          refine z_top (v := .int (zb false)) (congrArg (fun c => Value.int (zb c)) (show (cl806 p) = false from (by rw [k807]))) ?_
                          refine z_callS C (As := [.ref y842, .int (zb false)]) (mJ4_setColor (o := (some y842)) (c := false) hW816 (oM hm869)) (lw_S q715 q716 q64 q717) hd_J4_setColor rfl (Nat.le_of_ble_eq_true rfl) (by decide) (by decide) (by decide) (by decide) rfl dJ4_fixAfterDeletion_310 (fun _ _ h => h.elim) (fun r1208 V1209 hP1210 => ?_)
                          obtain ⟨hW1211, hU1212⟩ := hP1210
                          refine z_st (st' := []) rfl ?_
                          have hU1213 := zUnc.tr (S := tC t L) hU818 hU1212 (fun _ h => Or.inl h)
                          change tW _ _ _ _ _ _ _ (va_up cl806 y842 false) _ _ _ _ at hW1211
                          obtain ⟨cl1215, ec1214⟩ : ∃ q, q = va_up cl806 y842 false := ⟨_, rfl⟩
                          rw [← ec1214] at hW1211
                          have k1216 : cl1215 y842 = false := by rw [ec1214, zvs]
                          have k1217 : cl1215 p = false := by rw [ec1214, zvn (Ne.symm nx871)]; exact k807
                          have nx1218 : y55 ≠ y842 := (Ne.symm (tI.gg hI819 hm869 hp870 hm21 k833))
                          have k1219 : cl1215 y55 = true := by rw [ec1214, zvn nx1218]; exact k808
                          have nx1220 : x1 ≠ y842 := (Ne.symm (tI.sib hI819 hm21 hy843 k835))
                          have k1221 : cl1215 x1 = true := by rw [ec1214, zvn nx1220]; exact k809
                          have k1222 : cl1215 y875 = false := by rw [ec1214, zvn nx1035]; exact k1039
                          have k1223 : cl1215 y1043 = false := by rw [ec1214, zvn nx1197]; exact k1201
                          refine z_aload_n C 2 rfl dJ4_fixAfterDeletion_313 rfl ?_
                          refine z_callS C (As := [.ref x1]) (mJ4_parentOf (o := (some x1)) hW1211 (oM hlp_3)) (lw_S q706 q707 q64 q708) hd_J4_parentOf rfl (Nat.le_of_ble_eq_true rfl) (by decide) (by decide) (by decide) (by decide) rfl dJ4_fixAfterDeletion_314 (fun _ _ h => h.elim) (fun r1224 V1225 hP1226 => ?_)
                          rw [hP1226.1, hP1226.2]
                          refine z_st (st' := [va_rf (pa827 x1)]) rfl ?_
                          refine z_top (v := .ref p) (congrArg va_rf (show (pa827 x1) = (some p) from (by rw [k834]))) ?_
                          refine z_iconst C (v := (nI 1)) dJ4_fixAfterDeletion_317 rfl ?_
                          refine z_st (st' := [.int (zb true), .ref p]) rfl ?_
                          refine z_callS C (As := [.ref p, .int (zb true)]) (mJ4_setColor (o := (some p)) (c := true) hW1211 (oM hm21)) (lw_S q715 q716 q64 q717) hd_J4_setColor rfl (Nat.le_of_ble_eq_true rfl) (by decide) (by decide) (by decide) (by decide) rfl dJ4_fixAfterDeletion_318 (fun _ _ h => h.elim) (fun r1227 V1228 hP1229 => ?_)
                          obtain ⟨hW1230, hU1231⟩ := hP1229
                          refine z_st (st' := []) rfl ?_
                          have hU1232 := zUnc.tr (S := tC t L) hU1213 hU1231 (fun _ h => Or.inl h)
                          change tW _ _ _ _ _ _ _ (va_up cl1215 p true) _ _ _ _ at hW1230
                          obtain ⟨cl1234, ec1233⟩ : ∃ q, q = va_up cl1215 p true := ⟨_, rfl⟩
                          rw [← ec1233] at hW1230
                          have k1235 : cl1234 p = true := by rw [ec1233, zvs]
                          have k1236 : cl1234 y842 = false := by rw [ec1233, zvn nx871]; exact k1216
                          have k1237 : cl1234 y55 = true := by rw [ec1233, zvn nx89]; exact k1219
                          have k1238 : cl1234 x1 = true := by rw [ec1233, zvn nx48]; exact k1221
                          have nx1239 : y875 ≠ p := (tI.gg hI819 hm1033 hp1034 hm869 hp870)
                          have k1240 : cl1234 y875 = false := by rw [ec1233, zvn nx1239]; exact k1222
                          have nx1241 : y1043 ≠ p := (tI.gg hI819 hm1195 hp1196 hm869 hp870)
                          have k1242 : cl1234 y1043 = false := by rw [ec1233, zvn nx1241]; exact k1223
                          refine z_aload_n C 0 rfl dJ4_fixAfterDeletion_321 rfl ?_
                          refine z_callS C (As := [.ref y842]) (mJ4_leftOf (o := (some y842)) hW1230 (oM hm869)) (lw_S q709 q710 q64 q711) hd_J4_leftOf rfl (Nat.le_of_ble_eq_true rfl) (by decide) (by decide) (by decide) (by decide) rfl dJ4_fixAfterDeletion_322 (fun _ _ h => h.elim) (fun r1243 V1244 hP1245 => ?_)
                          rw [hP1245.1, hP1245.2]
                          refine z_st (st' := [va_rf (lf826 y842)]) rfl ?_
                          refine z_top (v := .ref y1043) (congrArg va_rf (show (lf826 y842) = (some y1043) from (by rw [hy1044]))) ?_
                          refine z_iconst C (v := (nI 1)) dJ4_fixAfterDeletion_325 rfl ?_
                          refine z_st (st' := [.int (zb true), .ref y1043]) rfl ?_
                          refine z_callS C (As := [.ref y1043, .int (zb true)]) (mJ4_setColor (o := (some y1043)) (c := true) hW1230 (oM hm1195)) (lw_S q715 q716 q64 q717) hd_J4_setColor rfl (Nat.le_of_ble_eq_true rfl) (by decide) (by decide) (by decide) (by decide) rfl dJ4_fixAfterDeletion_326 (fun _ _ h => h.elim) (fun r1246 V1247 hP1248 => ?_)
                          obtain ⟨hW1249, hU1250⟩ := hP1248
                          refine z_st (st' := []) rfl ?_
                          have hU1251 := zUnc.tr (S := tC t L) hU1232 hU1250 (fun _ h => Or.inl h)
                          change tW _ _ _ _ _ _ _ (va_up cl1234 y1043 true) _ _ _ _ at hW1249
                          obtain ⟨cl1253, ec1252⟩ : ∃ q, q = va_up cl1234 y1043 true := ⟨_, rfl⟩
                          rw [← ec1252] at hW1249
                          have k1254 : cl1253 y1043 = true := by rw [ec1252, zvs]
                          have k1255 : cl1253 p = true := by rw [ec1252, zvn (Ne.symm nx1241)]; exact k1235
                          have k1256 : cl1253 y842 = false := by rw [ec1252, zvn (Ne.symm nx1197)]; exact k1236
                          have nx1257 : x1 ≠ y1043 := (ne_pa k834 hp1196 (Ne.symm nx871))
                          have k1258 : cl1253 x1 = true := by rw [ec1252, zvn nx1257]; exact k1238
                          have nx1259 : y875 ≠ y1043 := (Ne.symm (tI.sib hI819 hm869 hy1044 hy876))
                          have k1260 : cl1253 y875 = false := by rw [ec1252, zvn nx1259]; exact k1240
                          refine z_aload_n C 1 rfl dJ4_fixAfterDeletion_329 rfl ?_
                          refine z_aload_n C 2 rfl dJ4_fixAfterDeletion_330 rfl ?_
                          refine z_callS C (As := [.ref x1]) (mJ4_parentOf (o := (some x1)) hW1249 (oM hlp_3)) (lw_S q706 q707 q64 q708) hd_J4_parentOf rfl (Nat.le_of_ble_eq_true rfl) (by decide) (by decide) (by decide) (by decide) rfl dJ4_fixAfterDeletion_331 (fun _ _ h => h.elim) (fun r1261 V1262 hP1263 => ?_)
                          rw [hP1263.1, hP1263.2]
                          refine z_st (st' := [va_rf (pa827 x1), .ref t]) rfl ?_
                          refine z_top (v := .ref p) (congrArg va_rf (show (pa827 x1) = (some p) from (by rw [k834]))) ?_
                          refine z_callV C k_TM hW1249.1 (As := [.ref p]) (mJ4_rotateRight hW1249 hI819 hm21 hy843) (lw_V q722 q724 qs9 q64 q725) rfl hd_J4_rotateRight rfl (Nat.le_of_ble_eq_true rfl) (by decide) (by decide) (by decide) (by decide) rfl dJ4_fixAfterDeletion_334 (fun _ _ h => h.elim) (fun r1264 V1265 hP1266 => ?_)
                          obtain ⟨hW1267, hU1268⟩ := hP1266
                          refine z_st (st' := []) rfl ?_
                          have hU1269 := zUnc.tr (S := tC t L) hU1251 hU1268 (fun _ h => Or.inl h)
                          have hI1270 := tI_rotR hI819 hm21 hy843
                          obtain ⟨lf1277, eB1272⟩ : ∃ q, q = xR rg828 lf826 p y842 := ⟨_, rfl⟩
                          rw [← eB1272] at hW1267 hI1270
                          obtain ⟨pa1278, eP1273⟩ : ∃ q, q = xP rg828 pa827 p y842 := ⟨_, rfl⟩
                          rw [← eP1273] at hW1267 hI1270
                          obtain ⟨rg1279, eA1271⟩ : ∃ q, q = xL rg828 p y842 := ⟨_, rfl⟩
                          rw [← eA1271] at hW1267 hI1270
                          obtain ⟨rt1280, eT1274⟩ : ∃ q, q = xT rt829 p y842 := ⟨_, rfl⟩
                          rw [← eT1274] at hW1267 hI1270
                          obtain ⟨lo1281, elo1275⟩ : ∃ q, q = va_up lo830 p (ps y842 + 1) := ⟨_, rfl⟩
                          rw [← elo1275] at hI1270
                          obtain ⟨hi1282, ehi1276⟩ : ∃ q, q = va_up hi831 y842 (hi831 p) := ⟨_, rfl⟩
                          rw [← ehi1276] at hI1270
                          have k1283 : rg1279 y842 = (some p) := by rw [eA1271]; exact xL_r
                          have k1284 : pa1278 p = (some y842) := by rw [eP1273]; exact xP_p
                          have k1285 : lf1277 p = (some y875) := by rw [eB1272, xR_p]; exact hy876
                          have k1286 : pa1278 y842 = (some y55) := by rw [eP1273, xP_r nx871]; exact k833
                          have k1287 : rg1279 y55 = (some y842) := by rw [eA1271]; exact xL_u nx1218 k832
                          have nx1288 : y875 ≠ x1 := (ne_pa hp1034 k834 nx871)
                          have k1289 : pa1278 x1 = (some p) := by rw [eP1273, xP_o nx48 nx1220 (so_ne hy876 nx1288)]; exact k834
                          have k1290 : rg1279 p = (some x1) := by rw [eA1271, xL_o (Ne.symm nx871) (so_ne k835 nx48)]; exact k835
                          have k1291 : pa1278 y875 = (some p) := by rw [eP1273]; exact xP_c nx1239 nx1035 hy876
                          have k1292 : lf1277 y842 = (some y1043) := by rw [eB1272, xR_o nx871 (so_ne hy1044 nx1241)]; exact hy1044
                          have k1293 : pa1278 y1043 = (some y842) := by rw [eP1273, xP_o nx1241 nx1197 (so_ne hy876 nx1259)]; exact hp1196
                          refine z_aload_n C 1 rfl dJ4_fixAfterDeletion_337 rfl ?_
                          refine z_get C k_TM hW1267.1 3 (by decide) rfl q162 dJ4_fixAfterDeletion_338 ?_
                          refine z_astore_nQ C (r := rt1280) [(1, va_rf rt1280), (2, .ref y842), (0, .ref t)] dJ4_fixAfterDeletion_341 rfl (by decide) rfl ?_
                          refine z_goto C 0 dJ4_fixAfterDeletion_342 (by decide) ?_
                          refine z_pick [(0, .ref t), (1, va_rf rt1280)] [2, 0] rfl ?_
                          obtain ⟨r01294, hr1295⟩ := hI1270.rtm hlp_3
                          obtain ⟨hm1296, hp1297, -, -⟩ := hI1270.2.1.1 r01294 hr1295
                          have e1298 : (va_rf rt1280 : Value) = .ref r01294 := (congrArg va_rf hr1295)
                          refine z_lv (lv' := [(0, .ref t), (1, .ref r01294)]) (by rw [e1298]) ?_
                          exact hexit V1265 rt1280 lf1277 rg1279 pa1278 cl1253 lo1281 hi1282 r01294 hW1267 hI1270 hU1269 hm1296 hr1295
                        · skip
                          have k1299 : (cl806 y1043) = true := zb1 c273
                          refine z_aload_n C 0 rfl dJ4_fixAfterDeletion_276 rfl ?_
                          refine z_callS C (As := [.ref y842]) (mJ4_rightOf (o := (some y842)) hW816 (oM hm869)) (lw_S q712 q713 q64 q714) hd_J4_rightOf rfl (Nat.le_of_ble_eq_true rfl) (by decide) (by decide) (by decide) (by decide) rfl dJ4_fixAfterDeletion_277 (fun _ _ h => h.elim) (fun r1300 V1301 hP1302 => ?_)
                          rw [hP1302.1, hP1302.2]
                          refine z_st (st' := [va_rf (rg828 y842)]) rfl ?_
                          refine z_top (v := .ref y875) (congrArg va_rf (show (rg828 y842) = (some y875) from (by rw [hy876]))) ?_
                          refine z_iconst C (v := (nI 1)) dJ4_fixAfterDeletion_280 rfl ?_
                          refine z_st (st' := [.int (zb true), .ref y875]) rfl ?_
                          refine z_callS C (As := [.ref y875, .int (zb true)]) (mJ4_setColor (o := (some y875)) (c := true) hW816 (oM hm1033)) (lw_S q715 q716 q64 q717) hd_J4_setColor rfl (Nat.le_of_ble_eq_true rfl) (by decide) (by decide) (by decide) (by decide) rfl dJ4_fixAfterDeletion_281 (fun _ _ h => h.elim) (fun r1303 V1304 hP1305 => ?_)
                          obtain ⟨hW1306, hU1307⟩ := hP1305
                          refine z_st (st' := []) rfl ?_
                          have hU1308 := zUnc.tr (S := tC t L) hU818 hU1307 (fun _ h => Or.inl h)
                          change tW _ _ _ _ _ _ _ (va_up cl806 y875 true) _ _ _ _ at hW1306
                          obtain ⟨cl1310, ec1309⟩ : ∃ q, q = va_up cl806 y875 true := ⟨_, rfl⟩
                          rw [← ec1309] at hW1306
                          have k1311 : cl1310 y875 = true := by rw [ec1309, zvs]
                          have nx1312 : y55 ≠ y842 := (Ne.symm (tI.gg hI819 hm869 hp870 hm21 k833))
                          have nx1313 : p ≠ y875 := (ne_pa k833 hp1034 nx1312)
                          have k1314 : cl1310 p = false := by rw [ec1309, zvn nx1313]; exact k807
                          have nx1315 : x1 ≠ y875 := (ne_pa k834 hp1034 (Ne.symm nx871))
                          have k1316 : cl1310 x1 = true := by rw [ec1309, zvn nx1315]; exact k809
                          have nx1317 : y1043 ≠ y875 := (tI.sib hI819 hm869 hy1044 hy876)
                          have k1318 : cl1310 y1043 = true := by rw [ec1309, zvn nx1317]; exact k1299
                          refine z_aload_n C 0 rfl dJ4_fixAfterDeletion_284 rfl ?_
                          refine z_iconst C (v := (nI 0)) dJ4_fixAfterDeletion_285 rfl ?_
                          refine z_st (st' := [.int (zb false), .ref y842]) rfl ?_
                          refine z_callS C (As := [.ref y842, .int (zb false)]) (mJ4_setColor (o := (some y842)) (c := false) hW1306 (oM hm869)) (lw_S q715 q716 q64 q717) hd_J4_setColor rfl (Nat.le_of_ble_eq_true rfl) (by decide) (by decide) (by decide) (by decide) rfl dJ4_fixAfterDeletion_286 (fun _ _ h => h.elim) (fun r1319 V1320 hP1321 => ?_)
                          obtain ⟨hW1322, hU1323⟩ := hP1321
                          refine z_st (st' := []) rfl ?_
                          have hU1324 := zUnc.tr (S := tC t L) hU1308 hU1323 (fun _ h => Or.inl h)
                          change tW _ _ _ _ _ _ _ (va_up cl1310 y842 false) _ _ _ _ at hW1322
                          obtain ⟨cl1326, ec1325⟩ : ∃ q, q = va_up cl1310 y842 false := ⟨_, rfl⟩
                          rw [← ec1325] at hW1322
                          have k1327 : cl1326 y842 = false := by rw [ec1325, zvs]
                          have k1328 : cl1326 y875 = true := by rw [ec1325, zvn nx1035]; exact k1311
                          have k1329 : cl1326 p = false := by rw [ec1325, zvn (Ne.symm nx871)]; exact k1314
                          have nx1330 : x1 ≠ y842 := (Ne.symm (tI.sib hI819 hm21 hy843 k835))
                          have k1331 : cl1326 x1 = true := by rw [ec1325, zvn nx1330]; exact k1316
                          have k1332 : cl1326 y1043 = true := by rw [ec1325, zvn nx1197]; exact k1318
                          refine z_aload_n C 1 rfl dJ4_fixAfterDeletion_289 rfl ?_
                          refine z_aload_n C 0 rfl dJ4_fixAfterDeletion_290 rfl ?_
                          refine z_callV C k_TM hW1322.1 (As := [.ref y842]) (mJ4_rotateLeft hW1322 hI819 hm869 hy876) (lw_V q718 q720 qs8 q64 q721) rfl hd_J4_rotateLeft rfl (Nat.le_of_ble_eq_true rfl) (by decide) (by decide) (by decide) (by decide) rfl dJ4_fixAfterDeletion_291 (fun _ _ h => h.elim) (fun r1333 V1334 hP1335 => ?_)
                          obtain ⟨hW1336, hU1337⟩ := hP1335
                          refine z_st (st' := []) rfl ?_
                          have hU1338 := zUnc.tr (S := tC t L) hU1324 hU1337 (fun _ h => Or.inl h)
                          have hI1339 := tI_rotL hI819 hm869 hy876
                          obtain ⟨rg1346, eB1341⟩ : ∃ q, q = xR lf826 rg828 y842 y875 := ⟨_, rfl⟩
                          rw [← eB1341] at hW1336 hI1339
                          obtain ⟨pa1347, eP1342⟩ : ∃ q, q = xP lf826 pa827 y842 y875 := ⟨_, rfl⟩
                          rw [← eP1342] at hW1336 hI1339
                          obtain ⟨lf1348, eA1340⟩ : ∃ q, q = xL lf826 y842 y875 := ⟨_, rfl⟩
                          rw [← eA1340] at hW1336 hI1339
                          obtain ⟨rt1349, eT1343⟩ : ∃ q, q = xT rt829 y842 y875 := ⟨_, rfl⟩
                          rw [← eT1343] at hW1336 hI1339
                          obtain ⟨lo1350, elo1344⟩ : ∃ q, q = va_up lo830 y875 (lo830 y842) := ⟨_, rfl⟩
                          rw [← elo1344] at hI1339
                          obtain ⟨hi1351, ehi1345⟩ : ∃ q, q = va_up hi831 y842 (ps y875) := ⟨_, rfl⟩
                          rw [← ehi1345] at hI1339
                          have k1352 : lf1348 y875 = (some y842) := by rw [eA1340]; exact xL_r
                          have k1353 : pa1347 y842 = (some y875) := by rw [eP1342]; exact xP_p
                          have k1354 : pa1347 y875 = (some p) := by rw [eP1342, xP_r nx1035]; exact hp870
                          have k1355 : rg1346 y55 = (some p) := by rw [eB1341, xR_o nx1312 (so_ne k832 (Ne.symm nx871))]; exact k832
                          have k1356 : pa1347 x1 = (some p) := by rw [eP1342, xP_o nx1330 nx1315 (fun z => nx1313 (Option.some.inj (k834.symm.trans (hI819.ml hm1033 z).2.1)))]; exact k834
                          have k1357 : rg1346 p = (some x1) := by rw [eB1341, xR_o (Ne.symm nx871) (so_ne k835 nx1330)]; exact k835
                          have k1358 : lf1348 p = (some y875) := by rw [eA1340]; exact xL_u nx1313 hy843
                          have k1359 : lf1348 y842 = (some y1043) := by rw [eA1340, xL_o (Ne.symm nx1035) (so_ne hy1044 nx1197)]; exact hy1044
                          have k1360 : pa1347 y1043 = (some y842) := by rw [eP1342, xP_o nx1197 nx1317 (fun z => (Ne.symm nx1035) (Option.some.inj (hp1196.symm.trans (hI819.ml hm1033 z).2.1)))]; exact hp1196
                          refine z_aload_n C 2 rfl dJ4_fixAfterDeletion_294 rfl ?_
                          refine z_callS C (As := [.ref x1]) (mJ4_parentOf (o := (some x1)) hW1336 (oM hlp_3)) (lw_S q706 q707 q64 q708) hd_J4_parentOf rfl (Nat.le_of_ble_eq_true rfl) (by decide) (by decide) (by decide) (by decide) rfl dJ4_fixAfterDeletion_295 (fun _ _ h => h.elim) (fun r1361 V1362 hP1363 => ?_)
                          rw [hP1363.1, hP1363.2]
                          refine z_st (st' := [va_rf (pa1347 x1)]) rfl ?_
                          refine z_top (v := .ref p) (congrArg va_rf (show (pa1347 x1) = (some p) from (by rw [k1356]))) ?_
                          refine z_callS C (As := [.ref p]) (mJ4_leftOf (o := (some p)) hW1336 (oM hm21)) (lw_S q709 q710 q64 q711) hd_J4_leftOf rfl (Nat.le_of_ble_eq_true rfl) (by decide) (by decide) (by decide) (by decide) rfl dJ4_fixAfterDeletion_298 (fun _ _ h => h.elim) (fun r1364 V1365 hP1366 => ?_)
                          rw [hP1366.1, hP1366.2]
                          refine z_st (st' := [va_rf (lf1348 p)]) rfl ?_
                          refine z_top (v := .ref y875) (congrArg va_rf (show (lf1348 p) = (some y875) from (by rw [k1358]))) ?_
                          refine z_astore_n C [(2, .ref y875), (0, .ref t), (1, .ref x1)] dJ4_fixAfterDeletion_301 rfl (by decide) rfl ?_
                          refine z_aload_n C 0 rfl dJ4_fixAfterDeletion_302 rfl ?_
                          refine z_aload_n C 2 rfl dJ4_fixAfterDeletion_303 rfl ?_
                          refine z_callS C (As := [.ref x1]) (mJ4_parentOf (o := (some x1)) hW1336 (oM hlp_3)) (lw_S q706 q707 q64 q708) hd_J4_parentOf rfl (Nat.le_of_ble_eq_true rfl) (by decide) (by decide) (by decide) (by decide) rfl dJ4_fixAfterDeletion_304 (fun _ _ h => h.elim) (fun r1367 V1368 hP1369 => ?_)
                          rw [hP1369.1, hP1369.2]
                          refine z_st (st' := [va_rf (pa1347 x1), .ref y875]) rfl ?_
                          refine z_top (v := .ref p) (congrArg va_rf (show (pa1347 x1) = (some p) from (by rw [k1356]))) ?_
                          refine z_callS C (As := [.ref p]) (mJ4_colorOf (o := (some p)) hW1336 (oM hm21)) (lw_S q703 q704 q64 q705) hd_J4_colorOf rfl (Nat.le_of_ble_eq_true rfl) (by decide) (by decide) (by decide) (by decide) rfl dJ4_fixAfterDeletion_307 (fun _ _ h => h.elim) (fun r1370 V1371 hP1372 => ?_)
                          rw [hP1372.1, hP1372.2]
                          refine z_st (st' := [.int (zb (cl1326 p)), .ref y875]) rfl ?_
                          refine z_top (v := .int (zb false)) (congrArg (fun c => Value.int (zb c)) (show (cl1326 p) = false from (by rw [k1329]))) ?_
                          refine z_callS C (As := [.ref y875, .int (zb false)]) (mJ4_setColor (o := (some y875)) (c := false) hW1336 (oM hm1033)) (lw_S q715 q716 q64 q717) hd_J4_setColor rfl (Nat.le_of_ble_eq_true rfl) (by decide) (by decide) (by decide) (by decide) rfl dJ4_fixAfterDeletion_310 (fun _ _ h => h.elim) (fun r1373 V1374 hP1375 => ?_)
                          obtain ⟨hW1376, hU1377⟩ := hP1375
                          refine z_st (st' := []) rfl ?_
                          have hU1378 := zUnc.tr (S := tC t L) hU1338 hU1377 (fun _ h => Or.inl h)
                          change tW _ _ _ _ _ _ _ (va_up cl1326 y875 false) _ _ _ _ at hW1376
                          obtain ⟨cl1380, ec1379⟩ : ∃ q, q = va_up cl1326 y875 false := ⟨_, rfl⟩
                          rw [← ec1379] at hW1376
                          have k1381 : cl1380 y875 = false := by rw [ec1379, zvs]
                          have k1382 : cl1380 y842 = false := by rw [ec1379, zvn (Ne.symm nx1035)]; exact k1327
                          have k1383 : cl1380 p = false := by rw [ec1379, zvn nx1313]; exact k1329
                          have k1384 : cl1380 x1 = true := by rw [ec1379, zvn nx1315]; exact k1331
                          have k1385 : cl1380 y1043 = true := by rw [ec1379, zvn nx1317]; exact k1332
                          refine z_aload_n C 2 rfl dJ4_fixAfterDeletion_313 rfl ?_
                          refine z_callS C (As := [.ref x1]) (mJ4_parentOf (o := (some x1)) hW1376 (oM hlp_3)) (lw_S q706 q707 q64 q708) hd_J4_parentOf rfl (Nat.le_of_ble_eq_true rfl) (by decide) (by decide) (by decide) (by decide) rfl dJ4_fixAfterDeletion_314 (fun _ _ h => h.elim) (fun r1386 V1387 hP1388 => ?_)
                          rw [hP1388.1, hP1388.2]
                          refine z_st (st' := [va_rf (pa1347 x1)]) rfl ?_
                          refine z_top (v := .ref p) (congrArg va_rf (show (pa1347 x1) = (some p) from (by rw [k1356]))) ?_
                          refine z_iconst C (v := (nI 1)) dJ4_fixAfterDeletion_317 rfl ?_
                          refine z_st (st' := [.int (zb true), .ref p]) rfl ?_
                          refine z_callS C (As := [.ref p, .int (zb true)]) (mJ4_setColor (o := (some p)) (c := true) hW1376 (oM hm21)) (lw_S q715 q716 q64 q717) hd_J4_setColor rfl (Nat.le_of_ble_eq_true rfl) (by decide) (by decide) (by decide) (by decide) rfl dJ4_fixAfterDeletion_318 (fun _ _ h => h.elim) (fun r1389 V1390 hP1391 => ?_)
                          obtain ⟨hW1392, hU1393⟩ := hP1391
                          refine z_st (st' := []) rfl ?_
                          have hU1394 := zUnc.tr (S := tC t L) hU1378 hU1393 (fun _ h => Or.inl h)
                          change tW _ _ _ _ _ _ _ (va_up cl1380 p true) _ _ _ _ at hW1392
                          obtain ⟨cl1396, ec1395⟩ : ∃ q, q = va_up cl1380 p true := ⟨_, rfl⟩
                          rw [← ec1395] at hW1392
                          have k1397 : cl1396 p = true := by rw [ec1395, zvs]
                          have k1398 : cl1396 y875 = false := by rw [ec1395, zvn (Ne.symm nx1313)]; exact k1381
                          have k1399 : cl1396 y842 = false := by rw [ec1395, zvn nx871]; exact k1382
                          have k1400 : cl1396 x1 = true := by rw [ec1395, zvn nx48]; exact k1384
                          refine z_aload_n C 0 rfl dJ4_fixAfterDeletion_321 rfl ?_
                          refine z_callS C (As := [.ref y875]) (mJ4_leftOf (o := (some y875)) hW1392 (oM hm1033)) (lw_S q709 q710 q64 q711) hd_J4_leftOf rfl (Nat.le_of_ble_eq_true rfl) (by decide) (by decide) (by decide) (by decide) rfl dJ4_fixAfterDeletion_322 (fun _ _ h => h.elim) (fun r1401 V1402 hP1403 => ?_)
                          rw [hP1403.1, hP1403.2]
                          refine z_st (st' := [va_rf (lf1348 y875)]) rfl ?_
                          refine z_top (v := .ref y842) (congrArg va_rf (show (lf1348 y875) = (some y842) from (by rw [k1352]))) ?_
                          refine z_iconst C (v := (nI 1)) dJ4_fixAfterDeletion_325 rfl ?_
                          refine z_st (st' := [.int (zb true), .ref y842]) rfl ?_
                          refine z_callS C (As := [.ref y842, .int (zb true)]) (mJ4_setColor (o := (some y842)) (c := true) hW1392 (oM hm869)) (lw_S q715 q716 q64 q717) hd_J4_setColor rfl (Nat.le_of_ble_eq_true rfl) (by decide) (by decide) (by decide) (by decide) rfl dJ4_fixAfterDeletion_326 (fun _ _ h => h.elim) (fun r1404 V1405 hP1406 => ?_)
                          obtain ⟨hW1407, hU1408⟩ := hP1406
                          refine z_st (st' := []) rfl ?_
                          have hU1409 := zUnc.tr (S := tC t L) hU1394 hU1408 (fun _ h => Or.inl h)
                          change tW _ _ _ _ _ _ _ (va_up cl1396 y842 true) _ _ _ _ at hW1407
                          obtain ⟨cl1411, ec1410⟩ : ∃ q, q = va_up cl1396 y842 true := ⟨_, rfl⟩
                          rw [← ec1410] at hW1407
                          have k1412 : cl1411 y842 = true := by rw [ec1410, zvs]
                          have k1413 : cl1411 p = true := by rw [ec1410, zvn (Ne.symm nx871)]; exact k1397
                          have k1414 : cl1411 y875 = false := by rw [ec1410, zvn nx1035]; exact k1398
                          have k1415 : cl1411 x1 = true := by rw [ec1410, zvn nx1330]; exact k1400
                          refine z_aload_n C 1 rfl dJ4_fixAfterDeletion_329 rfl ?_
                          refine z_aload_n C 2 rfl dJ4_fixAfterDeletion_330 rfl ?_
                          refine z_callS C (As := [.ref x1]) (mJ4_parentOf (o := (some x1)) hW1407 (oM hlp_3)) (lw_S q706 q707 q64 q708) hd_J4_parentOf rfl (Nat.le_of_ble_eq_true rfl) (by decide) (by decide) (by decide) (by decide) rfl dJ4_fixAfterDeletion_331 (fun _ _ h => h.elim) (fun r1416 V1417 hP1418 => ?_)
                          rw [hP1418.1, hP1418.2]
                          refine z_st (st' := [va_rf (pa1347 x1), .ref t]) rfl ?_
                          refine z_top (v := .ref p) (congrArg va_rf (show (pa1347 x1) = (some p) from (by rw [k1356]))) ?_
                          refine z_callV C k_TM hW1407.1 (As := [.ref p]) (mJ4_rotateRight hW1407 hI1339 hm21 k1358) (lw_V q722 q724 qs9 q64 q725) rfl hd_J4_rotateRight rfl (Nat.le_of_ble_eq_true rfl) (by decide) (by decide) (by decide) (by decide) rfl dJ4_fixAfterDeletion_334 (fun _ _ h => h.elim) (fun r1419 V1420 hP1421 => ?_)
                          obtain ⟨hW1422, hU1423⟩ := hP1421
                          refine z_st (st' := []) rfl ?_
                          have hU1424 := zUnc.tr (S := tC t L) hU1409 hU1423 (fun _ h => Or.inl h)
                          have hI1425 := tI_rotR hI1339 hm21 k1358
                          obtain ⟨lf1432, eB1427⟩ : ∃ q, q = xR rg1346 lf1348 p y875 := ⟨_, rfl⟩
                          rw [← eB1427] at hW1422 hI1425
                          obtain ⟨pa1433, eP1428⟩ : ∃ q, q = xP rg1346 pa1347 p y875 := ⟨_, rfl⟩
                          rw [← eP1428] at hW1422 hI1425
                          obtain ⟨rg1434, eA1426⟩ : ∃ q, q = xL rg1346 p y875 := ⟨_, rfl⟩
                          rw [← eA1426] at hW1422 hI1425
                          obtain ⟨rt1435, eT1429⟩ : ∃ q, q = xT rt1349 p y875 := ⟨_, rfl⟩
                          rw [← eT1429] at hW1422 hI1425
                          obtain ⟨lo1436, elo1430⟩ : ∃ q, q = va_up lo1350 p (ps y875 + 1) := ⟨_, rfl⟩
                          rw [← elo1430] at hI1425
                          obtain ⟨hi1437, ehi1431⟩ : ∃ q, q = va_up hi1351 y875 (hi1351 p) := ⟨_, rfl⟩
                          rw [← ehi1431] at hI1425
                          have k1438 : rg1434 y875 = (some p) := by rw [eA1426]; exact xL_r
                          have k1439 : pa1433 p = (some y875) := by rw [eP1428]; exact xP_p
                          have k1440 : lf1432 y875 = (some y842) := by rw [eB1427, xR_o (Ne.symm nx1313) (so_ne k1352 nx871)]; exact k1352
                          have k1441 : pa1433 y842 = (some y875) := by rw [eP1428, xP_o nx871 (Ne.symm nx1035) (hI1339.lr hm1033 k1352)]; exact k1353
                          have k1442 : pa1433 x1 = (some p) := by rw [eP1428, xP_o nx48 nx1315 (fun z => nx1313 (Option.some.inj (k1356.symm.trans (hI1339.mr hm1033 z).2.1)))]; exact k1356
                          have k1443 : rg1434 p = (some x1) := by rw [eA1426, xL_o nx1313 (so_ne k1357 nx48)]; exact k1357
                          refine z_aload_n C 1 rfl dJ4_fixAfterDeletion_337 rfl ?_
                          refine z_get C k_TM hW1422.1 3 (by decide) rfl q162 dJ4_fixAfterDeletion_338 ?_
                          refine z_astore_nQ C (r := rt1435) [(1, va_rf rt1435), (2, .ref y875), (0, .ref t)] dJ4_fixAfterDeletion_341 rfl (by decide) rfl ?_
                          refine z_goto C 0 dJ4_fixAfterDeletion_342 (by decide) ?_
                          refine z_pick [(0, .ref t), (1, va_rf rt1435)] [2, 0] rfl ?_
                          obtain ⟨r01444, hr1445⟩ := hI1425.rtm hlp_3
                          obtain ⟨hm1446, hp1447, -, -⟩ := hI1425.2.1.1 r01444 hr1445
                          have e1448 : (va_rf rt1435 : Value) = .ref r01444 := (congrArg va_rf hr1445)
                          refine z_lv (lv' := [(0, .ref t), (1, .ref r01444)]) (by rw [e1448]) ?_
                          exact hexit V1420 rt1435 lf1432 rg1434 pa1433 cl1411 lo1436 hi1437 r01444 hW1422 hI1425 hU1424 hm1446 hr1445
                    · skip
                      have k1449 : (cl806 y875) = true := zb1 c238
                      refine z_aload_n C 0 rfl dJ4_fixAfterDeletion_241 rfl ?_
                      refine z_callS C (As := [.ref y842]) (mJ4_leftOf (o := (some y842)) hW816 (oM hm869)) (lw_S q709 q710 q64 q711) hd_J4_leftOf rfl (Nat.le_of_ble_eq_true rfl) (by decide) (by decide) (by decide) (by decide) rfl dJ4_fixAfterDeletion_242 (fun _ _ h => h.elim) (fun r1450 V1451 hP1452 => ?_)
                      rw [hP1452.1, hP1452.2]
                      refine z_st (st' := [va_rf (lf826 y842)]) rfl ?_
                      rcases hy1454 : lf826 y842 with _ | y1453
                      · skip
                        refine z_callS C (As := [.null]) (mJ4_colorOf (o := none) hW816 oN) (lw_S q703 q704 q64 q705) hd_J4_colorOf rfl (Nat.le_of_ble_eq_true rfl) (by decide) (by decide) (by decide) (by decide) rfl dJ4_fixAfterDeletion_245 (fun _ _ h => h.elim) (fun r1455 V1456 hP1457 => ?_)
                        rw [hP1457.1, hP1457.2]
                        refine z_st (st' := [.int (zb true)]) rfl ?_
                        refine z_iconst C (v := (nI 1)) dJ4_fixAfterDeletion_248 rfl ?_
                        refine z_icmp_ne C 265 dJ4_fixAfterDeletion_249 (by decide) (fun c249 => ?_) (fun c249 => ?_)
                        · skip
                          have k1458 : true = false := zb1f c249
                          cases k1458
                        · skip
                          have k1459 : true = true := zb1 c249
                          refine z_aload_n C 0 rfl dJ4_fixAfterDeletion_252 rfl ?_
                          refine z_iconst C (v := (nI 0)) dJ4_fixAfterDeletion_253 rfl ?_
                          refine z_st (st' := [.int (zb false), .ref y842]) rfl ?_
                          refine z_callS C (As := [.ref y842, .int (zb false)]) (mJ4_setColor (o := (some y842)) (c := false) hW816 (oM hm869)) (lw_S q715 q716 q64 q717) hd_J4_setColor rfl (Nat.le_of_ble_eq_true rfl) (by decide) (by decide) (by decide) (by decide) rfl dJ4_fixAfterDeletion_254 (fun _ _ h => h.elim) (fun r1460 V1461 hP1462 => ?_)
                          obtain ⟨hW1463, hU1464⟩ := hP1462
                          refine z_st (st' := []) rfl ?_
                          have hU1465 := zUnc.tr (S := tC t L) hU818 hU1464 (fun _ h => Or.inl h)
                          change tW _ _ _ _ _ _ _ (va_up cl806 y842 false) _ _ _ _ at hW1463
                          obtain ⟨cl1467, ec1466⟩ : ∃ q, q = va_up cl806 y842 false := ⟨_, rfl⟩
                          rw [← ec1466] at hW1463
                          have k1468 : cl1467 y842 = false := by rw [ec1466, zvs]
                          have k1469 : cl1467 p = false := by rw [ec1466, zvn (Ne.symm nx871)]; exact k807
                          have nx1470 : y55 ≠ y842 := (Ne.symm (tI.gg hI819 hm869 hp870 hm21 k833))
                          have k1471 : cl1467 y55 = true := by rw [ec1466, zvn nx1470]; exact k808
                          have nx1472 : x1 ≠ y842 := (Ne.symm (tI.sib hI819 hm21 hy843 k835))
                          have k1473 : cl1467 x1 = true := by rw [ec1466, zvn nx1472]; exact k809
                          have k1474 : cl1467 y875 = true := by rw [ec1466, zvn nx1035]; exact k1449
                          refine z_aload_n C 2 rfl dJ4_fixAfterDeletion_257 rfl ?_
                          refine z_callS C (As := [.ref x1]) (mJ4_parentOf (o := (some x1)) hW1463 (oM hlp_3)) (lw_S q706 q707 q64 q708) hd_J4_parentOf rfl (Nat.le_of_ble_eq_true rfl) (by decide) (by decide) (by decide) (by decide) rfl dJ4_fixAfterDeletion_258 (fun _ _ h => h.elim) (fun r1475 V1476 hP1477 => ?_)
                          rw [hP1477.1, hP1477.2]
                          refine z_st (st' := [va_rf (pa827 x1)]) rfl ?_
                          refine z_top (v := .ref p) (congrArg va_rf (show (pa827 x1) = (some p) from (by rw [k834]))) ?_
                          refine z_astore_n C [(1, .ref p), (2, .ref y842), (0, .ref t)] dJ4_fixAfterDeletion_261 rfl (by decide) rfl ?_
                          refine z_goto C 342 dJ4_fixAfterDeletion_262 (by decide) ?_
                          refine z_goto C 0 dJ4_fixAfterDeletion_342 (by decide) ?_
                          refine z_pick [(0, .ref t), (1, .ref p)] [2, 0] rfl ?_
                          have q1 := (hI819.mp hlp_3 k834).2
                          have qa := congrFun elo824 x1
                          rw [zvn nx48] at qa
                          have qb := congrFun ehi825 x1
                          rw [zvn nx794] at qb
                          exact ih_lp V1461 rt829 lf826 rg828 pa827 cl1467 lo830 hi831 p hW1463 hI819 hU1465 hm21 (by omega)
                      · skip
                        obtain ⟨hm1478, hp1479, nx1480⟩ := hI819.ml hm869 hy1454
                        refine z_callS C (As := [.ref y1453]) (mJ4_colorOf (o := (some y1453)) hW816 (oM hm1478)) (lw_S q703 q704 q64 q705) hd_J4_colorOf rfl (Nat.le_of_ble_eq_true rfl) (by decide) (by decide) (by decide) (by decide) rfl dJ4_fixAfterDeletion_245 (fun _ _ h => h.elim) (fun r1481 V1482 hP1483 => ?_)
                        rw [hP1483.1, hP1483.2]
                        refine z_st (st' := [.int (zb (cl806 y1453))]) rfl ?_
                        refine z_iconst C (v := (nI 1)) dJ4_fixAfterDeletion_248 rfl ?_
                        refine z_icmp_ne C 265 dJ4_fixAfterDeletion_249 (by decide) (fun c249 => ?_) (fun c249 => ?_)
                        · skip
                          have k1484 : (cl806 y1453) = false := zb1f c249
                          refine z_aload_n C 0 rfl dJ4_fixAfterDeletion_265 rfl ?_
                          refine z_callS C (As := [.ref y842]) (mJ4_leftOf (o := (some y842)) hW816 (oM hm869)) (lw_S q709 q710 q64 q711) hd_J4_leftOf rfl (Nat.le_of_ble_eq_true rfl) (by decide) (by decide) (by decide) (by decide) rfl dJ4_fixAfterDeletion_266 (fun _ _ h => h.elim) (fun r1485 V1486 hP1487 => ?_)
                          rw [hP1487.1, hP1487.2]
                          refine z_st (st' := [va_rf (lf826 y842)]) rfl ?_
                          refine z_top (v := .ref y1453) (congrArg va_rf (show (lf826 y842) = (some y1453) from (by rw [hy1454]))) ?_
                          refine z_callS C (As := [.ref y1453]) (mJ4_colorOf (o := (some y1453)) hW816 (oM hm1478)) (lw_S q703 q704 q64 q705) hd_J4_colorOf rfl (Nat.le_of_ble_eq_true rfl) (by decide) (by decide) (by decide) (by decide) rfl dJ4_fixAfterDeletion_269 (fun _ _ h => h.elim) (fun r1488 V1489 hP1490 => ?_)
                          rw [hP1490.1, hP1490.2]
                          refine z_st (st' := [.int (zb (cl806 y1453))]) rfl ?_
                          refine z_top (v := .int (zb false)) (congrArg (fun c => Value.int (zb c)) (show (cl806 y1453) = false from (by rw [k1484]))) ?_
                          refine z_iconst C (v := (nI 1)) dJ4_fixAfterDeletion_272 rfl ?_
                          refine z_icmp_ne C 302 dJ4_fixAfterDeletion_273 (by decide) (fun c273 => ?_) (fun c273 => ?_)
                          · skip
                            have k1491 : false = false := zb1f c273
                            refine z_aload_n C 0 rfl dJ4_fixAfterDeletion_302 rfl ?_
                            refine z_aload_n C 2 rfl dJ4_fixAfterDeletion_303 rfl ?_
                            refine z_callS C (As := [.ref x1]) (mJ4_parentOf (o := (some x1)) hW816 (oM hlp_3)) (lw_S q706 q707 q64 q708) hd_J4_parentOf rfl (Nat.le_of_ble_eq_true rfl) (by decide) (by decide) (by decide) (by decide) rfl dJ4_fixAfterDeletion_304 (fun _ _ h => h.elim) (fun r1492 V1493 hP1494 => ?_)
                            rw [hP1494.1, hP1494.2]
                            refine z_st (st' := [va_rf (pa827 x1), .ref y842]) rfl ?_
                            refine z_top (v := .ref p) (congrArg va_rf (show (pa827 x1) = (some p) from (by rw [k834]))) ?_
                            refine z_callS C (As := [.ref p]) (mJ4_colorOf (o := (some p)) hW816 (oM hm21)) (lw_S q703 q704 q64 q705) hd_J4_colorOf rfl (Nat.le_of_ble_eq_true rfl) (by decide) (by decide) (by decide) (by decide) rfl dJ4_fixAfterDeletion_307 (fun _ _ h => h.elim) (fun r1495 V1496 hP1497 => ?_)
                            rw [hP1497.1, hP1497.2]
                            refine z_st (st' := [.int (zb (cl806 p)), .ref y842]) rfl ?_
                            refine z_top (v := .int (zb false)) (congrArg (fun c => Value.int (zb c)) (show (cl806 p) = false from (by rw [k807]))) ?_
                            refine z_callS C (As := [.ref y842, .int (zb false)]) (mJ4_setColor (o := (some y842)) (c := false) hW816 (oM hm869)) (lw_S q715 q716 q64 q717) hd_J4_setColor rfl (Nat.le_of_ble_eq_true rfl) (by decide) (by decide) (by decide) (by decide) rfl dJ4_fixAfterDeletion_310 (fun _ _ h => h.elim) (fun r1498 V1499 hP1500 => ?_)
                            obtain ⟨hW1501, hU1502⟩ := hP1500
                            refine z_st (st' := []) rfl ?_
                            have hU1503 := zUnc.tr (S := tC t L) hU818 hU1502 (fun _ h => Or.inl h)
                            change tW _ _ _ _ _ _ _ (va_up cl806 y842 false) _ _ _ _ at hW1501
                            obtain ⟨cl1505, ec1504⟩ : ∃ q, q = va_up cl806 y842 false := ⟨_, rfl⟩
                            rw [← ec1504] at hW1501
                            have k1506 : cl1505 y842 = false := by rw [ec1504, zvs]
                            have k1507 : cl1505 p = false := by rw [ec1504, zvn (Ne.symm nx871)]; exact k807
                            have nx1508 : y55 ≠ y842 := (Ne.symm (tI.gg hI819 hm869 hp870 hm21 k833))
                            have k1509 : cl1505 y55 = true := by rw [ec1504, zvn nx1508]; exact k808
                            have nx1510 : x1 ≠ y842 := (Ne.symm (tI.sib hI819 hm21 hy843 k835))
                            have k1511 : cl1505 x1 = true := by rw [ec1504, zvn nx1510]; exact k809
                            have k1512 : cl1505 y875 = true := by rw [ec1504, zvn nx1035]; exact k1449
                            have k1513 : cl1505 y1453 = false := by rw [ec1504, zvn nx1480]; exact k1484
                            refine z_aload_n C 2 rfl dJ4_fixAfterDeletion_313 rfl ?_
                            refine z_callS C (As := [.ref x1]) (mJ4_parentOf (o := (some x1)) hW1501 (oM hlp_3)) (lw_S q706 q707 q64 q708) hd_J4_parentOf rfl (Nat.le_of_ble_eq_true rfl) (by decide) (by decide) (by decide) (by decide) rfl dJ4_fixAfterDeletion_314 (fun _ _ h => h.elim) (fun r1514 V1515 hP1516 => ?_)
                            rw [hP1516.1, hP1516.2]
                            refine z_st (st' := [va_rf (pa827 x1)]) rfl ?_
                            refine z_top (v := .ref p) (congrArg va_rf (show (pa827 x1) = (some p) from (by rw [k834]))) ?_
                            refine z_iconst C (v := (nI 1)) dJ4_fixAfterDeletion_317 rfl ?_
                            refine z_st (st' := [.int (zb true), .ref p]) rfl ?_
                            refine z_callS C (As := [.ref p, .int (zb true)]) (mJ4_setColor (o := (some p)) (c := true) hW1501 (oM hm21)) (lw_S q715 q716 q64 q717) hd_J4_setColor rfl (Nat.le_of_ble_eq_true rfl) (by decide) (by decide) (by decide) (by decide) rfl dJ4_fixAfterDeletion_318 (fun _ _ h => h.elim) (fun r1517 V1518 hP1519 => ?_)
                            obtain ⟨hW1520, hU1521⟩ := hP1519
                            refine z_st (st' := []) rfl ?_
                            have hU1522 := zUnc.tr (S := tC t L) hU1503 hU1521 (fun _ h => Or.inl h)
                            change tW _ _ _ _ _ _ _ (va_up cl1505 p true) _ _ _ _ at hW1520
                            obtain ⟨cl1524, ec1523⟩ : ∃ q, q = va_up cl1505 p true := ⟨_, rfl⟩
                            rw [← ec1523] at hW1520
                            have k1525 : cl1524 p = true := by rw [ec1523, zvs]
                            have k1526 : cl1524 y842 = false := by rw [ec1523, zvn nx871]; exact k1506
                            have k1527 : cl1524 y55 = true := by rw [ec1523, zvn nx89]; exact k1509
                            have k1528 : cl1524 x1 = true := by rw [ec1523, zvn nx48]; exact k1511
                            have nx1529 : y875 ≠ p := (tI.gg hI819 hm1033 hp1034 hm869 hp870)
                            have k1530 : cl1524 y875 = true := by rw [ec1523, zvn nx1529]; exact k1512
                            have nx1531 : y1453 ≠ p := (tI.gg hI819 hm1478 hp1479 hm869 hp870)
                            have k1532 : cl1524 y1453 = false := by rw [ec1523, zvn nx1531]; exact k1513
                            refine z_aload_n C 0 rfl dJ4_fixAfterDeletion_321 rfl ?_
                            refine z_callS C (As := [.ref y842]) (mJ4_leftOf (o := (some y842)) hW1520 (oM hm869)) (lw_S q709 q710 q64 q711) hd_J4_leftOf rfl (Nat.le_of_ble_eq_true rfl) (by decide) (by decide) (by decide) (by decide) rfl dJ4_fixAfterDeletion_322 (fun _ _ h => h.elim) (fun r1533 V1534 hP1535 => ?_)
                            rw [hP1535.1, hP1535.2]
                            refine z_st (st' := [va_rf (lf826 y842)]) rfl ?_
                            refine z_top (v := .ref y1453) (congrArg va_rf (show (lf826 y842) = (some y1453) from (by rw [hy1454]))) ?_
                            refine z_iconst C (v := (nI 1)) dJ4_fixAfterDeletion_325 rfl ?_
                            refine z_st (st' := [.int (zb true), .ref y1453]) rfl ?_
                            refine z_callS C (As := [.ref y1453, .int (zb true)]) (mJ4_setColor (o := (some y1453)) (c := true) hW1520 (oM hm1478)) (lw_S q715 q716 q64 q717) hd_J4_setColor rfl (Nat.le_of_ble_eq_true rfl) (by decide) (by decide) (by decide) (by decide) rfl dJ4_fixAfterDeletion_326 (fun _ _ h => h.elim) (fun r1536 V1537 hP1538 => ?_)
                            obtain ⟨hW1539, hU1540⟩ := hP1538
                            refine z_st (st' := []) rfl ?_
                            have hU1541 := zUnc.tr (S := tC t L) hU1522 hU1540 (fun _ h => Or.inl h)
                            change tW _ _ _ _ _ _ _ (va_up cl1524 y1453 true) _ _ _ _ at hW1539
                            obtain ⟨cl1543, ec1542⟩ : ∃ q, q = va_up cl1524 y1453 true := ⟨_, rfl⟩
                            rw [← ec1542] at hW1539
                            have k1544 : cl1543 y1453 = true := by rw [ec1542, zvs]
                            have k1545 : cl1543 p = true := by rw [ec1542, zvn (Ne.symm nx1531)]; exact k1525
                            have k1546 : cl1543 y842 = false := by rw [ec1542, zvn (Ne.symm nx1480)]; exact k1526
                            have nx1547 : x1 ≠ y1453 := (ne_pa k834 hp1479 (Ne.symm nx871))
                            have k1548 : cl1543 x1 = true := by rw [ec1542, zvn nx1547]; exact k1528
                            have nx1549 : y875 ≠ y1453 := (Ne.symm (tI.sib hI819 hm869 hy1454 hy876))
                            have k1550 : cl1543 y875 = true := by rw [ec1542, zvn nx1549]; exact k1530
                            refine z_aload_n C 1 rfl dJ4_fixAfterDeletion_329 rfl ?_
                            refine z_aload_n C 2 rfl dJ4_fixAfterDeletion_330 rfl ?_
                            refine z_callS C (As := [.ref x1]) (mJ4_parentOf (o := (some x1)) hW1539 (oM hlp_3)) (lw_S q706 q707 q64 q708) hd_J4_parentOf rfl (Nat.le_of_ble_eq_true rfl) (by decide) (by decide) (by decide) (by decide) rfl dJ4_fixAfterDeletion_331 (fun _ _ h => h.elim) (fun r1551 V1552 hP1553 => ?_)
                            rw [hP1553.1, hP1553.2]
                            refine z_st (st' := [va_rf (pa827 x1), .ref t]) rfl ?_
                            refine z_top (v := .ref p) (congrArg va_rf (show (pa827 x1) = (some p) from (by rw [k834]))) ?_
                            refine z_callV C k_TM hW1539.1 (As := [.ref p]) (mJ4_rotateRight hW1539 hI819 hm21 hy843) (lw_V q722 q724 qs9 q64 q725) rfl hd_J4_rotateRight rfl (Nat.le_of_ble_eq_true rfl) (by decide) (by decide) (by decide) (by decide) rfl dJ4_fixAfterDeletion_334 (fun _ _ h => h.elim) (fun r1554 V1555 hP1556 => ?_)
                            obtain ⟨hW1557, hU1558⟩ := hP1556
                            refine z_st (st' := []) rfl ?_
                            have hU1559 := zUnc.tr (S := tC t L) hU1541 hU1558 (fun _ h => Or.inl h)
                            have hI1560 := tI_rotR hI819 hm21 hy843
                            obtain ⟨lf1567, eB1562⟩ : ∃ q, q = xR rg828 lf826 p y842 := ⟨_, rfl⟩
                            rw [← eB1562] at hW1557 hI1560
                            obtain ⟨pa1568, eP1563⟩ : ∃ q, q = xP rg828 pa827 p y842 := ⟨_, rfl⟩
                            rw [← eP1563] at hW1557 hI1560
                            obtain ⟨rg1569, eA1561⟩ : ∃ q, q = xL rg828 p y842 := ⟨_, rfl⟩
                            rw [← eA1561] at hW1557 hI1560
                            obtain ⟨rt1570, eT1564⟩ : ∃ q, q = xT rt829 p y842 := ⟨_, rfl⟩
                            rw [← eT1564] at hW1557 hI1560
                            obtain ⟨lo1571, elo1565⟩ : ∃ q, q = va_up lo830 p (ps y842 + 1) := ⟨_, rfl⟩
                            rw [← elo1565] at hI1560
                            obtain ⟨hi1572, ehi1566⟩ : ∃ q, q = va_up hi831 y842 (hi831 p) := ⟨_, rfl⟩
                            rw [← ehi1566] at hI1560
                            have k1573 : rg1569 y842 = (some p) := by rw [eA1561]; exact xL_r
                            have k1574 : pa1568 p = (some y842) := by rw [eP1563]; exact xP_p
                            have k1575 : lf1567 p = (some y875) := by rw [eB1562, xR_p]; exact hy876
                            have k1576 : pa1568 y842 = (some y55) := by rw [eP1563, xP_r nx871]; exact k833
                            have k1577 : rg1569 y55 = (some y842) := by rw [eA1561]; exact xL_u nx1508 k832
                            have nx1578 : y875 ≠ x1 := (ne_pa hp1034 k834 nx871)
                            have k1579 : pa1568 x1 = (some p) := by rw [eP1563, xP_o nx48 nx1510 (so_ne hy876 nx1578)]; exact k834
                            have k1580 : rg1569 p = (some x1) := by rw [eA1561, xL_o (Ne.symm nx871) (so_ne k835 nx48)]; exact k835
                            have k1581 : pa1568 y875 = (some p) := by rw [eP1563]; exact xP_c nx1529 nx1035 hy876
                            have k1582 : lf1567 y842 = (some y1453) := by rw [eB1562, xR_o nx871 (so_ne hy1454 nx1531)]; exact hy1454
                            have k1583 : pa1568 y1453 = (some y842) := by rw [eP1563, xP_o nx1531 nx1480 (so_ne hy876 nx1549)]; exact hp1479
                            refine z_aload_n C 1 rfl dJ4_fixAfterDeletion_337 rfl ?_
                            refine z_get C k_TM hW1557.1 3 (by decide) rfl q162 dJ4_fixAfterDeletion_338 ?_
                            refine z_astore_nQ C (r := rt1570) [(1, va_rf rt1570), (2, .ref y842), (0, .ref t)] dJ4_fixAfterDeletion_341 rfl (by decide) rfl ?_
                            refine z_goto C 0 dJ4_fixAfterDeletion_342 (by decide) ?_
                            refine z_pick [(0, .ref t), (1, va_rf rt1570)] [2, 0] rfl ?_
                            obtain ⟨r01584, hr1585⟩ := hI1560.rtm hlp_3
                            obtain ⟨hm1586, hp1587, -, -⟩ := hI1560.2.1.1 r01584 hr1585
                            have e1588 : (va_rf rt1570 : Value) = .ref r01584 := (congrArg va_rf hr1585)
                            refine z_lv (lv' := [(0, .ref t), (1, .ref r01584)]) (by rw [e1588]) ?_
                            exact hexit V1555 rt1570 lf1567 rg1569 pa1568 cl1543 lo1571 hi1572 r01584 hW1557 hI1560 hU1559 hm1586 hr1585
                          · skip
                            have k1589 : false = true := zb1 c273
                            cases k1589
                        · skip
                          have k1590 : (cl806 y1453) = true := zb1 c249
                          refine z_aload_n C 0 rfl dJ4_fixAfterDeletion_252 rfl ?_
                          refine z_iconst C (v := (nI 0)) dJ4_fixAfterDeletion_253 rfl ?_
                          refine z_st (st' := [.int (zb false), .ref y842]) rfl ?_
                          refine z_callS C (As := [.ref y842, .int (zb false)]) (mJ4_setColor (o := (some y842)) (c := false) hW816 (oM hm869)) (lw_S q715 q716 q64 q717) hd_J4_setColor rfl (Nat.le_of_ble_eq_true rfl) (by decide) (by decide) (by decide) (by decide) rfl dJ4_fixAfterDeletion_254 (fun _ _ h => h.elim) (fun r1591 V1592 hP1593 => ?_)
                          obtain ⟨hW1594, hU1595⟩ := hP1593
                          refine z_st (st' := []) rfl ?_
                          have hU1596 := zUnc.tr (S := tC t L) hU818 hU1595 (fun _ h => Or.inl h)
                          change tW _ _ _ _ _ _ _ (va_up cl806 y842 false) _ _ _ _ at hW1594
                          obtain ⟨cl1598, ec1597⟩ : ∃ q, q = va_up cl806 y842 false := ⟨_, rfl⟩
                          rw [← ec1597] at hW1594
                          have k1599 : cl1598 y842 = false := by rw [ec1597, zvs]
                          have k1600 : cl1598 p = false := by rw [ec1597, zvn (Ne.symm nx871)]; exact k807
                          have nx1601 : y55 ≠ y842 := (Ne.symm (tI.gg hI819 hm869 hp870 hm21 k833))
                          have k1602 : cl1598 y55 = true := by rw [ec1597, zvn nx1601]; exact k808
                          have nx1603 : x1 ≠ y842 := (Ne.symm (tI.sib hI819 hm21 hy843 k835))
                          have k1604 : cl1598 x1 = true := by rw [ec1597, zvn nx1603]; exact k809
                          have k1605 : cl1598 y875 = true := by rw [ec1597, zvn nx1035]; exact k1449
                          have k1606 : cl1598 y1453 = true := by rw [ec1597, zvn nx1480]; exact k1590
                          refine z_aload_n C 2 rfl dJ4_fixAfterDeletion_257 rfl ?_
                          refine z_callS C (As := [.ref x1]) (mJ4_parentOf (o := (some x1)) hW1594 (oM hlp_3)) (lw_S q706 q707 q64 q708) hd_J4_parentOf rfl (Nat.le_of_ble_eq_true rfl) (by decide) (by decide) (by decide) (by decide) rfl dJ4_fixAfterDeletion_258 (fun _ _ h => h.elim) (fun r1607 V1608 hP1609 => ?_)
                          rw [hP1609.1, hP1609.2]
                          refine z_st (st' := [va_rf (pa827 x1)]) rfl ?_
                          refine z_top (v := .ref p) (congrArg va_rf (show (pa827 x1) = (some p) from (by rw [k834]))) ?_
                          refine z_astore_n C [(1, .ref p), (2, .ref y842), (0, .ref t)] dJ4_fixAfterDeletion_261 rfl (by decide) rfl ?_
                          refine z_goto C 342 dJ4_fixAfterDeletion_262 (by decide) ?_
                          refine z_goto C 0 dJ4_fixAfterDeletion_342 (by decide) ?_
                          refine z_pick [(0, .ref t), (1, .ref p)] [2, 0] rfl ?_
                          have q1 := (hI819.mp hlp_3 k834).2
                          have qa := congrFun elo824 x1
                          rw [zvn nx48] at qa
                          have qb := congrFun ehi825 x1
                          rw [zvn nx794] at qb
                          exact ih_lp V1592 rt829 lf826 rg828 pa827 cl1598 lo830 hi831 p hW1594 hI819 hU1596 hm21 (by omega)
          · skip
            have k1610 : lf1 p = (some x1) := Eq.symm c24
            obtain ⟨hm1611, hp1612, nx1613⟩ := hlp_1.ml hm21 k1610
            refine z_aload_n C 1 rfl dJ4_fixAfterDeletion_27 rfl ?_
            refine z_callS C (As := [.ref x1]) (mJ4_parentOf (o := (some x1)) hlp_0 (oM hlp_3)) (lw_S q706 q707 q64 q708) hd_J4_parentOf rfl (Nat.le_of_ble_eq_true rfl) (by decide) (by decide) (by decide) (by decide) rfl dJ4_fixAfterDeletion_28 (fun _ _ h => h.elim) (fun r1614 V1615 hP1616 => ?_)
            rw [hP1616.1, hP1616.2]
            refine z_st (st' := [va_rf (pa1 x1)]) rfl ?_
            refine z_top (v := .ref p) (congrArg va_rf (show (pa1 x1) = (some p) from (by rw [hp]))) ?_
            refine z_callS C (As := [.ref p]) (mJ4_rightOf (o := (some p)) hlp_0 (oM hm21)) (lw_S q712 q713 q64 q714) hd_J4_rightOf rfl (Nat.le_of_ble_eq_true rfl) (by decide) (by decide) (by decide) (by decide) rfl dJ4_fixAfterDeletion_31 (fun _ _ h => h.elim) (fun r1617 V1618 hP1619 => ?_)
            rw [hP1619.1, hP1619.2]
            refine z_st (st' := [va_rf (rg1 p)]) rfl ?_
            refine z_astore_nQ C (r := (rg1 p)) [(2, va_rf (rg1 p)), (0, .ref t), (1, .ref x1)] dJ4_fixAfterDeletion_34 rfl (by decide) rfl ?_
            refine z_aload_nQ C 0 (r := (rg1 p)) rfl dJ4_fixAfterDeletion_35 rfl ?_
            rcases hy1621 : rg1 p with _ | y1620
            · skip
              refine z_callS C (As := [.null]) (mJ4_colorOf (o := none) hlp_0 oN) (lw_S q703 q704 q64 q705) hd_J4_colorOf rfl (Nat.le_of_ble_eq_true rfl) (by decide) (by decide) (by decide) (by decide) rfl dJ4_fixAfterDeletion_36 (fun _ _ h => h.elim) (fun r1622 V1623 hP1624 => ?_)
              rw [hP1624.1, hP1624.2]
              refine z_st (st' := [.int (zb true)]) rfl ?_
              refine z_if_neB C 71 dJ4_fixAfterDeletion_39 (by decide) (fun c39 => ?_) (fun c39 => ?_)
              · skip
                have k1625 : true = true := c39
                refine z_aload_nQ C 0 (r := none) rfl dJ4_fixAfterDeletion_71 rfl ?_
                refine z_callS C (As := [.null]) (mJ4_leftOf (o := none) hlp_0 oN) (lw_S q709 q710 q64 q711) hd_J4_leftOf rfl (Nat.le_of_ble_eq_true rfl) (by decide) (by decide) (by decide) (by decide) rfl dJ4_fixAfterDeletion_72 (fun _ _ h => h.elim) (fun r1626 V1627 hP1628 => ?_)
                rw [hP1628.1, hP1628.2]
                refine z_st (st' := [.null]) rfl ?_
                refine z_callS C (As := [.null]) (mJ4_colorOf (o := none) hlp_0 oN) (lw_S q703 q704 q64 q705) hd_J4_colorOf rfl (Nat.le_of_ble_eq_true rfl) (by decide) (by decide) (by decide) (by decide) rfl dJ4_fixAfterDeletion_75 (fun _ _ h => h.elim) (fun r1629 V1630 hP1631 => ?_)
                rw [hP1631.1, hP1631.2]
                refine z_st (st' := [.int (zb true)]) rfl ?_
                refine z_iconst C (v := (nI 1)) dJ4_fixAfterDeletion_78 rfl ?_
                refine z_icmp_ne C 106 dJ4_fixAfterDeletion_79 (by decide) (fun c79 => ?_) (fun c79 => ?_)
                · skip
                  have k1632 : true = false := zb1f c79
                  cases k1632
                · skip
                  have k1633 : true = true := zb1 c79
                  refine z_aload_nQ C 0 (r := none) rfl dJ4_fixAfterDeletion_82 rfl ?_
                  refine z_callS C (As := [.null]) (mJ4_rightOf (o := none) hlp_0 oN) (lw_S q712 q713 q64 q714) hd_J4_rightOf rfl (Nat.le_of_ble_eq_true rfl) (by decide) (by decide) (by decide) (by decide) rfl dJ4_fixAfterDeletion_83 (fun _ _ h => h.elim) (fun r1634 V1635 hP1636 => ?_)
                  rw [hP1636.1, hP1636.2]
                  refine z_st (st' := [.null]) rfl ?_
                  refine z_callS C (As := [.null]) (mJ4_colorOf (o := none) hlp_0 oN) (lw_S q703 q704 q64 q705) hd_J4_colorOf rfl (Nat.le_of_ble_eq_true rfl) (by decide) (by decide) (by decide) (by decide) rfl dJ4_fixAfterDeletion_86 (fun _ _ h => h.elim) (fun r1637 V1638 hP1639 => ?_)
                  rw [hP1639.1, hP1639.2]
                  refine z_st (st' := [.int (zb true)]) rfl ?_
                  refine z_iconst C (v := (nI 1)) dJ4_fixAfterDeletion_89 rfl ?_
                  refine z_icmp_ne C 106 dJ4_fixAfterDeletion_90 (by decide) (fun c90 => ?_) (fun c90 => ?_)
                  · skip
                    have k1640 : true = false := zb1f c90
                    cases k1640
                  · skip
                    have k1641 : true = true := zb1 c90
                    refine z_aload_nQ C 0 (r := none) rfl dJ4_fixAfterDeletion_93 rfl ?_
                    refine z_iconst C (v := (nI 0)) dJ4_fixAfterDeletion_94 rfl ?_
                    refine z_st (st' := [.int (zb false), .null]) rfl ?_
                    refine z_callS C (As := [.null, .int (zb false)]) (mJ4_setColor (o := none) (c := false) hlp_0 oN) (lw_S q715 q716 q64 q717) hd_J4_setColor rfl (Nat.le_of_ble_eq_true rfl) (by decide) (by decide) (by decide) (by decide) rfl dJ4_fixAfterDeletion_95 (fun _ _ h => h.elim) (fun r1642 V1643 hP1644 => ?_)
                    obtain ⟨hW1645, hU1646⟩ := hP1644
                    refine z_st (st' := []) rfl ?_
                    have hU1647 := zUnc.tr (S := tC t L) hlp_2 hU1646 (fun _ h => Or.inl h)
                    change tW _ _ _ _ _ _ _ cl1 _ _ _ _ at hW1645
                    refine z_aload_n C 2 rfl dJ4_fixAfterDeletion_98 rfl ?_
                    refine z_callS C (As := [.ref x1]) (mJ4_parentOf (o := (some x1)) hW1645 (oM hlp_3)) (lw_S q706 q707 q64 q708) hd_J4_parentOf rfl (Nat.le_of_ble_eq_true rfl) (by decide) (by decide) (by decide) (by decide) rfl dJ4_fixAfterDeletion_99 (fun _ _ h => h.elim) (fun r1648 V1649 hP1650 => ?_)
                    rw [hP1650.1, hP1650.2]
                    refine z_st (st' := [va_rf (pa1 x1)]) rfl ?_
                    refine z_top (v := .ref p) (congrArg va_rf (show (pa1 x1) = (some p) from (by rw [hp]))) ?_
                    refine z_astore_n C [(1, .ref p), (2, .null), (0, .ref t)] dJ4_fixAfterDeletion_102 rfl (by decide) rfl ?_
                    refine z_goto C 183 dJ4_fixAfterDeletion_103 (by decide) ?_
                    refine z_goto C 0 dJ4_fixAfterDeletion_183 (by decide) ?_
                    refine z_pick [(0, .ref t), (1, .ref p)] [2, 0] rfl ?_
                    have q1 := (hlp_1.mp hlp_3 hp).2
                    exact ih_lp V1643 rt1 lf1 rg1 pa1 cl1 lo1 hi1 p hW1645 hlp_1 hU1647 hm21 (by omega)
              · skip
                have k1651 : true = false := c39
                cases k1651
            · skip
              obtain ⟨hm1652, hp1653, nx1654⟩ := hlp_1.mr hm21 hy1621
              refine z_callS C (As := [.ref y1620]) (mJ4_colorOf (o := (some y1620)) hlp_0 (oM hm1652)) (lw_S q703 q704 q64 q705) hd_J4_colorOf rfl (Nat.le_of_ble_eq_true rfl) (by decide) (by decide) (by decide) (by decide) rfl dJ4_fixAfterDeletion_36 (fun _ _ h => h.elim) (fun r1655 V1656 hP1657 => ?_)
              rw [hP1657.1, hP1657.2]
              refine z_st (st' := [.int (zb (cl1 y1620))]) rfl ?_
              refine z_if_neB C 71 dJ4_fixAfterDeletion_39 (by decide) (fun c39 => ?_) (fun c39 => ?_)
              · skip
                have k1658 : (cl1 y1620) = true := c39
                refine z_aload_n C 0 rfl dJ4_fixAfterDeletion_71 rfl ?_
                refine z_callS C (As := [.ref y1620]) (mJ4_leftOf (o := (some y1620)) hlp_0 (oM hm1652)) (lw_S q709 q710 q64 q711) hd_J4_leftOf rfl (Nat.le_of_ble_eq_true rfl) (by decide) (by decide) (by decide) (by decide) rfl dJ4_fixAfterDeletion_72 (fun _ _ h => h.elim) (fun r1659 V1660 hP1661 => ?_)
                rw [hP1661.1, hP1661.2]
                refine z_st (st' := [va_rf (lf1 y1620)]) rfl ?_
                rcases hy1663 : lf1 y1620 with _ | y1662
                · skip
                  refine z_callS C (As := [.null]) (mJ4_colorOf (o := none) hlp_0 oN) (lw_S q703 q704 q64 q705) hd_J4_colorOf rfl (Nat.le_of_ble_eq_true rfl) (by decide) (by decide) (by decide) (by decide) rfl dJ4_fixAfterDeletion_75 (fun _ _ h => h.elim) (fun r1664 V1665 hP1666 => ?_)
                  rw [hP1666.1, hP1666.2]
                  refine z_st (st' := [.int (zb true)]) rfl ?_
                  refine z_iconst C (v := (nI 1)) dJ4_fixAfterDeletion_78 rfl ?_
                  refine z_icmp_ne C 106 dJ4_fixAfterDeletion_79 (by decide) (fun c79 => ?_) (fun c79 => ?_)
                  · skip
                    have k1667 : true = false := zb1f c79
                    cases k1667
                  · skip
                    have k1668 : true = true := zb1 c79
                    refine z_aload_n C 0 rfl dJ4_fixAfterDeletion_82 rfl ?_
                    refine z_callS C (As := [.ref y1620]) (mJ4_rightOf (o := (some y1620)) hlp_0 (oM hm1652)) (lw_S q712 q713 q64 q714) hd_J4_rightOf rfl (Nat.le_of_ble_eq_true rfl) (by decide) (by decide) (by decide) (by decide) rfl dJ4_fixAfterDeletion_83 (fun _ _ h => h.elim) (fun r1669 V1670 hP1671 => ?_)
                    rw [hP1671.1, hP1671.2]
                    refine z_st (st' := [va_rf (rg1 y1620)]) rfl ?_
                    rcases hy1673 : rg1 y1620 with _ | y1672
                    · skip
                      refine z_callS C (As := [.null]) (mJ4_colorOf (o := none) hlp_0 oN) (lw_S q703 q704 q64 q705) hd_J4_colorOf rfl (Nat.le_of_ble_eq_true rfl) (by decide) (by decide) (by decide) (by decide) rfl dJ4_fixAfterDeletion_86 (fun _ _ h => h.elim) (fun r1674 V1675 hP1676 => ?_)
                      rw [hP1676.1, hP1676.2]
                      refine z_st (st' := [.int (zb true)]) rfl ?_
                      refine z_iconst C (v := (nI 1)) dJ4_fixAfterDeletion_89 rfl ?_
                      refine z_icmp_ne C 106 dJ4_fixAfterDeletion_90 (by decide) (fun c90 => ?_) (fun c90 => ?_)
                      · skip
                        have k1677 : true = false := zb1f c90
                        cases k1677
                      · skip
                        have k1678 : true = true := zb1 c90
                        refine z_aload_n C 0 rfl dJ4_fixAfterDeletion_93 rfl ?_
                        refine z_iconst C (v := (nI 0)) dJ4_fixAfterDeletion_94 rfl ?_
                        refine z_st (st' := [.int (zb false), .ref y1620]) rfl ?_
                        refine z_callS C (As := [.ref y1620, .int (zb false)]) (mJ4_setColor (o := (some y1620)) (c := false) hlp_0 (oM hm1652)) (lw_S q715 q716 q64 q717) hd_J4_setColor rfl (Nat.le_of_ble_eq_true rfl) (by decide) (by decide) (by decide) (by decide) rfl dJ4_fixAfterDeletion_95 (fun _ _ h => h.elim) (fun r1679 V1680 hP1681 => ?_)
                        obtain ⟨hW1682, hU1683⟩ := hP1681
                        refine z_st (st' := []) rfl ?_
                        have hU1684 := zUnc.tr (S := tC t L) hlp_2 hU1683 (fun _ h => Or.inl h)
                        change tW _ _ _ _ _ _ _ (va_up cl1 y1620 false) _ _ _ _ at hW1682
                        obtain ⟨cl1686, ec1685⟩ : ∃ q, q = va_up cl1 y1620 false := ⟨_, rfl⟩
                        rw [← ec1685] at hW1682
                        have k1687 : cl1686 y1620 = false := by rw [ec1685, zvs]
                        have nx1688 : x1 ≠ y1620 := (tI.sib hlp_1 hm21 k1610 hy1621)
                        have k1689 : cl1686 x1 = true := by rw [ec1685, zvn nx1688]; exact k37
                        refine z_aload_n C 2 rfl dJ4_fixAfterDeletion_98 rfl ?_
                        refine z_callS C (As := [.ref x1]) (mJ4_parentOf (o := (some x1)) hW1682 (oM hlp_3)) (lw_S q706 q707 q64 q708) hd_J4_parentOf rfl (Nat.le_of_ble_eq_true rfl) (by decide) (by decide) (by decide) (by decide) rfl dJ4_fixAfterDeletion_99 (fun _ _ h => h.elim) (fun r1690 V1691 hP1692 => ?_)
                        rw [hP1692.1, hP1692.2]
                        refine z_st (st' := [va_rf (pa1 x1)]) rfl ?_
                        refine z_top (v := .ref p) (congrArg va_rf (show (pa1 x1) = (some p) from (by rw [hp]))) ?_
                        refine z_astore_n C [(1, .ref p), (2, .ref y1620), (0, .ref t)] dJ4_fixAfterDeletion_102 rfl (by decide) rfl ?_
                        refine z_goto C 183 dJ4_fixAfterDeletion_103 (by decide) ?_
                        refine z_goto C 0 dJ4_fixAfterDeletion_183 (by decide) ?_
                        refine z_pick [(0, .ref t), (1, .ref p)] [2, 0] rfl ?_
                        have q1 := (hlp_1.mp hlp_3 hp).2
                        exact ih_lp V1680 rt1 lf1 rg1 pa1 cl1686 lo1 hi1 p hW1682 hlp_1 hU1684 hm21 (by omega)
                    · skip
                      obtain ⟨hm1693, hp1694, nx1695⟩ := hlp_1.mr hm1652 hy1673
                      refine z_callS C (As := [.ref y1672]) (mJ4_colorOf (o := (some y1672)) hlp_0 (oM hm1693)) (lw_S q703 q704 q64 q705) hd_J4_colorOf rfl (Nat.le_of_ble_eq_true rfl) (by decide) (by decide) (by decide) (by decide) rfl dJ4_fixAfterDeletion_86 (fun _ _ h => h.elim) (fun r1696 V1697 hP1698 => ?_)
                      rw [hP1698.1, hP1698.2]
                      refine z_st (st' := [.int (zb (cl1 y1672))]) rfl ?_
                      refine z_iconst C (v := (nI 1)) dJ4_fixAfterDeletion_89 rfl ?_
                      refine z_icmp_ne C 106 dJ4_fixAfterDeletion_90 (by decide) (fun c90 => ?_) (fun c90 => ?_)
                      · skip
                        have k1699 : (cl1 y1672) = false := zb1f c90
                        refine z_aload_n C 0 rfl dJ4_fixAfterDeletion_106 rfl ?_
                        refine z_callS C (As := [.ref y1620]) (mJ4_rightOf (o := (some y1620)) hlp_0 (oM hm1652)) (lw_S q712 q713 q64 q714) hd_J4_rightOf rfl (Nat.le_of_ble_eq_true rfl) (by decide) (by decide) (by decide) (by decide) rfl dJ4_fixAfterDeletion_107 (fun _ _ h => h.elim) (fun r1700 V1701 hP1702 => ?_)
                        rw [hP1702.1, hP1702.2]
                        refine z_st (st' := [va_rf (rg1 y1620)]) rfl ?_
                        refine z_top (v := .ref y1672) (congrArg va_rf (show (rg1 y1620) = (some y1672) from (by rw [hy1673]))) ?_
                        refine z_callS C (As := [.ref y1672]) (mJ4_colorOf (o := (some y1672)) hlp_0 (oM hm1693)) (lw_S q703 q704 q64 q705) hd_J4_colorOf rfl (Nat.le_of_ble_eq_true rfl) (by decide) (by decide) (by decide) (by decide) rfl dJ4_fixAfterDeletion_110 (fun _ _ h => h.elim) (fun r1703 V1704 hP1705 => ?_)
                        rw [hP1705.1, hP1705.2]
                        refine z_st (st' := [.int (zb (cl1 y1672))]) rfl ?_
                        refine z_top (v := .int (zb false)) (congrArg (fun c => Value.int (zb c)) (show (cl1 y1672) = false from (by rw [k1699]))) ?_
                        refine z_iconst C (v := (nI 1)) dJ4_fixAfterDeletion_113 rfl ?_
                        refine z_icmp_ne C 143 dJ4_fixAfterDeletion_114 (by decide) (fun c114 => ?_) (fun c114 => ?_)
                        · skip
                          have k1706 : false = false := zb1f c114
                          refine z_aload_n C 0 rfl dJ4_fixAfterDeletion_143 rfl ?_
                          refine z_aload_n C 2 rfl dJ4_fixAfterDeletion_144 rfl ?_
                          refine z_callS C (As := [.ref x1]) (mJ4_parentOf (o := (some x1)) hlp_0 (oM hlp_3)) (lw_S q706 q707 q64 q708) hd_J4_parentOf rfl (Nat.le_of_ble_eq_true rfl) (by decide) (by decide) (by decide) (by decide) rfl dJ4_fixAfterDeletion_145 (fun _ _ h => h.elim) (fun r1707 V1708 hP1709 => ?_)
                          rw [hP1709.1, hP1709.2]
                          refine z_st (st' := [va_rf (pa1 x1), .ref y1620]) rfl ?_
                          refine z_top (v := .ref p) (congrArg va_rf (show (pa1 x1) = (some p) from (by rw [hp]))) ?_
                          refine z_callS C (As := [.ref p]) (mJ4_colorOf (o := (some p)) hlp_0 (oM hm21)) (lw_S q703 q704 q64 q705) hd_J4_colorOf rfl (Nat.le_of_ble_eq_true rfl) (by decide) (by decide) (by decide) (by decide) rfl dJ4_fixAfterDeletion_148 (fun _ _ h => h.elim) (fun r1710 V1711 hP1712 => ?_)
                          rw [hP1712.1, hP1712.2]
                          refine z_st (st' := [.int (zb (cl1 p)), .ref y1620]) rfl ?_
                          refine z_callS C (As := [.ref y1620, .int (zb (cl1 p))]) (mJ4_setColor (o := (some y1620)) (c := (cl1 p)) hlp_0 (oM hm1652)) (lw_S q715 q716 q64 q717) hd_J4_setColor rfl (Nat.le_of_ble_eq_true rfl) (by decide) (by decide) (by decide) (by decide) rfl dJ4_fixAfterDeletion_151 (fun _ _ h => h.elim) (fun r1713 V1714 hP1715 => ?_)
                          obtain ⟨hW1716, hU1717⟩ := hP1715
                          refine z_st (st' := []) rfl ?_
                          have hU1718 := zUnc.tr (S := tC t L) hlp_2 hU1717 (fun _ h => Or.inl h)
                          change tW _ _ _ _ _ _ _ (va_up cl1 y1620 (cl1 p)) _ _ _ _ at hW1716
                          obtain ⟨cl1720, ec1719⟩ : ∃ q, q = va_up cl1 y1620 (cl1 p) := ⟨_, rfl⟩
                          rw [← ec1719] at hW1716
                          have k1721 : cl1720 y1620 = (cl1 p) := by rw [ec1719, zvs]
                          have nx1722 : x1 ≠ y1620 := (tI.sib hlp_1 hm21 k1610 hy1621)
                          have k1723 : cl1720 x1 = true := by rw [ec1719, zvn nx1722]; exact k37
                          have k1724 : cl1720 y1672 = false := by rw [ec1719, zvn nx1695]; exact k1699
                          refine z_aload_n C 2 rfl dJ4_fixAfterDeletion_154 rfl ?_
                          refine z_callS C (As := [.ref x1]) (mJ4_parentOf (o := (some x1)) hW1716 (oM hlp_3)) (lw_S q706 q707 q64 q708) hd_J4_parentOf rfl (Nat.le_of_ble_eq_true rfl) (by decide) (by decide) (by decide) (by decide) rfl dJ4_fixAfterDeletion_155 (fun _ _ h => h.elim) (fun r1725 V1726 hP1727 => ?_)
                          rw [hP1727.1, hP1727.2]
                          refine z_st (st' := [va_rf (pa1 x1)]) rfl ?_
                          refine z_top (v := .ref p) (congrArg va_rf (show (pa1 x1) = (some p) from (by rw [hp]))) ?_
                          refine z_iconst C (v := (nI 1)) dJ4_fixAfterDeletion_158 rfl ?_
                          refine z_st (st' := [.int (zb true), .ref p]) rfl ?_
                          refine z_callS C (As := [.ref p, .int (zb true)]) (mJ4_setColor (o := (some p)) (c := true) hW1716 (oM hm21)) (lw_S q715 q716 q64 q717) hd_J4_setColor rfl (Nat.le_of_ble_eq_true rfl) (by decide) (by decide) (by decide) (by decide) rfl dJ4_fixAfterDeletion_159 (fun _ _ h => h.elim) (fun r1728 V1729 hP1730 => ?_)
                          obtain ⟨hW1731, hU1732⟩ := hP1730
                          refine z_st (st' := []) rfl ?_
                          have hU1733 := zUnc.tr (S := tC t L) hU1718 hU1732 (fun _ h => Or.inl h)
                          change tW _ _ _ _ _ _ _ (va_up cl1720 p true) _ _ _ _ at hW1731
                          obtain ⟨cl1735, ec1734⟩ : ∃ q, q = va_up cl1720 p true := ⟨_, rfl⟩
                          rw [← ec1734] at hW1731
                          have k1736 : cl1735 p = true := by rw [ec1734, zvs]
                          have k1737 : cl1735 x1 = true := by rw [ec1734, zvn nx1613]; exact k1723
                          have nx1738 : y1672 ≠ p := (tI.gg hlp_1 hm1693 hp1694 hm1652 hp1653)
                          have k1739 : cl1735 y1672 = false := by rw [ec1734, zvn nx1738]; exact k1724
                          refine z_aload_n C 0 rfl dJ4_fixAfterDeletion_162 rfl ?_
                          refine z_callS C (As := [.ref y1620]) (mJ4_rightOf (o := (some y1620)) hW1731 (oM hm1652)) (lw_S q712 q713 q64 q714) hd_J4_rightOf rfl (Nat.le_of_ble_eq_true rfl) (by decide) (by decide) (by decide) (by decide) rfl dJ4_fixAfterDeletion_163 (fun _ _ h => h.elim) (fun r1740 V1741 hP1742 => ?_)
                          rw [hP1742.1, hP1742.2]
                          refine z_st (st' := [va_rf (rg1 y1620)]) rfl ?_
                          refine z_top (v := .ref y1672) (congrArg va_rf (show (rg1 y1620) = (some y1672) from (by rw [hy1673]))) ?_
                          refine z_iconst C (v := (nI 1)) dJ4_fixAfterDeletion_166 rfl ?_
                          refine z_st (st' := [.int (zb true), .ref y1672]) rfl ?_
                          refine z_callS C (As := [.ref y1672, .int (zb true)]) (mJ4_setColor (o := (some y1672)) (c := true) hW1731 (oM hm1693)) (lw_S q715 q716 q64 q717) hd_J4_setColor rfl (Nat.le_of_ble_eq_true rfl) (by decide) (by decide) (by decide) (by decide) rfl dJ4_fixAfterDeletion_167 (fun _ _ h => h.elim) (fun r1743 V1744 hP1745 => ?_)
                          obtain ⟨hW1746, hU1747⟩ := hP1745
                          refine z_st (st' := []) rfl ?_
                          have hU1748 := zUnc.tr (S := tC t L) hU1733 hU1747 (fun _ h => Or.inl h)
                          change tW _ _ _ _ _ _ _ (va_up cl1735 y1672 true) _ _ _ _ at hW1746
                          obtain ⟨cl1750, ec1749⟩ : ∃ q, q = va_up cl1735 y1672 true := ⟨_, rfl⟩
                          rw [← ec1749] at hW1746
                          have k1751 : cl1750 y1672 = true := by rw [ec1749, zvs]
                          have k1752 : cl1750 p = true := by rw [ec1749, zvn (Ne.symm nx1738)]; exact k1736
                          have nx1753 : x1 ≠ y1672 := (ne_pa hp hp1694 (Ne.symm nx1654))
                          have k1754 : cl1750 x1 = true := by rw [ec1749, zvn nx1753]; exact k1737
                          refine z_aload_n C 1 rfl dJ4_fixAfterDeletion_170 rfl ?_
                          refine z_aload_n C 2 rfl dJ4_fixAfterDeletion_171 rfl ?_
                          refine z_callS C (As := [.ref x1]) (mJ4_parentOf (o := (some x1)) hW1746 (oM hlp_3)) (lw_S q706 q707 q64 q708) hd_J4_parentOf rfl (Nat.le_of_ble_eq_true rfl) (by decide) (by decide) (by decide) (by decide) rfl dJ4_fixAfterDeletion_172 (fun _ _ h => h.elim) (fun r1755 V1756 hP1757 => ?_)
                          rw [hP1757.1, hP1757.2]
                          refine z_st (st' := [va_rf (pa1 x1), .ref t]) rfl ?_
                          refine z_top (v := .ref p) (congrArg va_rf (show (pa1 x1) = (some p) from (by rw [hp]))) ?_
                          refine z_callV C k_TM hW1746.1 (As := [.ref p]) (mJ4_rotateLeft hW1746 hlp_1 hm21 hy1621) (lw_V q718 q720 qs8 q64 q721) rfl hd_J4_rotateLeft rfl (Nat.le_of_ble_eq_true rfl) (by decide) (by decide) (by decide) (by decide) rfl dJ4_fixAfterDeletion_175 (fun _ _ h => h.elim) (fun r1758 V1759 hP1760 => ?_)
                          obtain ⟨hW1761, hU1762⟩ := hP1760
                          refine z_st (st' := []) rfl ?_
                          have hU1763 := zUnc.tr (S := tC t L) hU1748 hU1762 (fun _ h => Or.inl h)
                          have hI1764 := tI_rotL hlp_1 hm21 hy1621
                          obtain ⟨rg1771, eB1766⟩ : ∃ q, q = xR lf1 rg1 p y1620 := ⟨_, rfl⟩
                          rw [← eB1766] at hW1761 hI1764
                          obtain ⟨pa1772, eP1767⟩ : ∃ q, q = xP lf1 pa1 p y1620 := ⟨_, rfl⟩
                          rw [← eP1767] at hW1761 hI1764
                          obtain ⟨lf1773, eA1765⟩ : ∃ q, q = xL lf1 p y1620 := ⟨_, rfl⟩
                          rw [← eA1765] at hW1761 hI1764
                          obtain ⟨rt1774, eT1768⟩ : ∃ q, q = xT rt1 p y1620 := ⟨_, rfl⟩
                          rw [← eT1768] at hW1761 hI1764
                          obtain ⟨lo1775, elo1769⟩ : ∃ q, q = va_up lo1 y1620 (lo1 p) := ⟨_, rfl⟩
                          rw [← elo1769] at hI1764
                          obtain ⟨hi1776, ehi1770⟩ : ∃ q, q = va_up hi1 p (ps y1620) := ⟨_, rfl⟩
                          rw [← ehi1770] at hI1764
                          have k1777 : lf1773 y1620 = (some p) := by rw [eA1765]; exact xL_r
                          have k1778 : pa1772 p = (some y1620) := by rw [eP1767]; exact xP_p
                          have k1779 : rg1771 p = none := by rw [eB1766, xR_p]; exact hy1663
                          have k1780 : pa1772 x1 = (some p) := by rw [eP1767, xP_o nx1613 nx1722 (sn_ne hy1663)]; exact hp
                          have k1781 : lf1773 p = (some x1) := by rw [eA1765, xL_o (Ne.symm nx1654) (so_ne k1610 nx1613)]; exact k1610
                          have k1782 : rg1771 y1620 = (some y1672) := by rw [eB1766, xR_o nx1654 (so_ne hy1673 nx1738)]; exact hy1673
                          have k1783 : pa1772 y1672 = (some y1620) := by rw [eP1767, xP_o nx1738 nx1695 (sn_ne hy1663)]; exact hp1694
                          refine z_aload_n C 1 rfl dJ4_fixAfterDeletion_178 rfl ?_
                          refine z_get C k_TM hW1761.1 3 (by decide) rfl q162 dJ4_fixAfterDeletion_179 ?_
                          refine z_astore_nQ C (r := rt1774) [(1, va_rf rt1774), (2, .ref y1620), (0, .ref t)] dJ4_fixAfterDeletion_182 rfl (by decide) rfl ?_
                          refine z_goto C 0 dJ4_fixAfterDeletion_183 (by decide) ?_
                          refine z_pick [(0, .ref t), (1, va_rf rt1774)] [2, 0] rfl ?_
                          obtain ⟨r01784, hr1785⟩ := hI1764.rtm hlp_3
                          obtain ⟨hm1786, hp1787, -, -⟩ := hI1764.2.1.1 r01784 hr1785
                          have e1788 : (va_rf rt1774 : Value) = .ref r01784 := (congrArg va_rf hr1785)
                          refine z_lv (lv' := [(0, .ref t), (1, .ref r01784)]) (by rw [e1788]) ?_
                          exact hexit V1759 rt1774 lf1773 rg1771 pa1772 cl1750 lo1775 hi1776 r01784 hW1761 hI1764 hU1763 hm1786 hr1785
                        · skip
                          have k1789 : false = true := zb1 c114
                          cases k1789
                      · skip
                        have k1790 : (cl1 y1672) = true := zb1 c90
                        refine z_aload_n C 0 rfl dJ4_fixAfterDeletion_93 rfl ?_
                        refine z_iconst C (v := (nI 0)) dJ4_fixAfterDeletion_94 rfl ?_
                        refine z_st (st' := [.int (zb false), .ref y1620]) rfl ?_
                        refine z_callS C (As := [.ref y1620, .int (zb false)]) (mJ4_setColor (o := (some y1620)) (c := false) hlp_0 (oM hm1652)) (lw_S q715 q716 q64 q717) hd_J4_setColor rfl (Nat.le_of_ble_eq_true rfl) (by decide) (by decide) (by decide) (by decide) rfl dJ4_fixAfterDeletion_95 (fun _ _ h => h.elim) (fun r1791 V1792 hP1793 => ?_)
                        obtain ⟨hW1794, hU1795⟩ := hP1793
                        refine z_st (st' := []) rfl ?_
                        have hU1796 := zUnc.tr (S := tC t L) hlp_2 hU1795 (fun _ h => Or.inl h)
                        change tW _ _ _ _ _ _ _ (va_up cl1 y1620 false) _ _ _ _ at hW1794
                        obtain ⟨cl1798, ec1797⟩ : ∃ q, q = va_up cl1 y1620 false := ⟨_, rfl⟩
                        rw [← ec1797] at hW1794
                        have k1799 : cl1798 y1620 = false := by rw [ec1797, zvs]
                        have nx1800 : x1 ≠ y1620 := (tI.sib hlp_1 hm21 k1610 hy1621)
                        have k1801 : cl1798 x1 = true := by rw [ec1797, zvn nx1800]; exact k37
                        have k1802 : cl1798 y1672 = true := by rw [ec1797, zvn nx1695]; exact k1790
                        refine z_aload_n C 2 rfl dJ4_fixAfterDeletion_98 rfl ?_
                        refine z_callS C (As := [.ref x1]) (mJ4_parentOf (o := (some x1)) hW1794 (oM hlp_3)) (lw_S q706 q707 q64 q708) hd_J4_parentOf rfl (Nat.le_of_ble_eq_true rfl) (by decide) (by decide) (by decide) (by decide) rfl dJ4_fixAfterDeletion_99 (fun _ _ h => h.elim) (fun r1803 V1804 hP1805 => ?_)
                        rw [hP1805.1, hP1805.2]
                        refine z_st (st' := [va_rf (pa1 x1)]) rfl ?_
                        refine z_top (v := .ref p) (congrArg va_rf (show (pa1 x1) = (some p) from (by rw [hp]))) ?_
                        refine z_astore_n C [(1, .ref p), (2, .ref y1620), (0, .ref t)] dJ4_fixAfterDeletion_102 rfl (by decide) rfl ?_
                        refine z_goto C 183 dJ4_fixAfterDeletion_103 (by decide) ?_
                        refine z_goto C 0 dJ4_fixAfterDeletion_183 (by decide) ?_
                        refine z_pick [(0, .ref t), (1, .ref p)] [2, 0] rfl ?_
                        have q1 := (hlp_1.mp hlp_3 hp).2
                        exact ih_lp V1792 rt1 lf1 rg1 pa1 cl1798 lo1 hi1 p hW1794 hlp_1 hU1796 hm21 (by omega)
                · skip
                  obtain ⟨hm1806, hp1807, nx1808⟩ := hlp_1.ml hm1652 hy1663
                  refine z_callS C (As := [.ref y1662]) (mJ4_colorOf (o := (some y1662)) hlp_0 (oM hm1806)) (lw_S q703 q704 q64 q705) hd_J4_colorOf rfl (Nat.le_of_ble_eq_true rfl) (by decide) (by decide) (by decide) (by decide) rfl dJ4_fixAfterDeletion_75 (fun _ _ h => h.elim) (fun r1809 V1810 hP1811 => ?_)
                  rw [hP1811.1, hP1811.2]
                  refine z_st (st' := [.int (zb (cl1 y1662))]) rfl ?_
                  refine z_iconst C (v := (nI 1)) dJ4_fixAfterDeletion_78 rfl ?_
                  refine z_icmp_ne C 106 dJ4_fixAfterDeletion_79 (by decide) (fun c79 => ?_) (fun c79 => ?_)
                  · skip
                    have k1812 : (cl1 y1662) = false := zb1f c79
                    refine z_aload_n C 0 rfl dJ4_fixAfterDeletion_106 rfl ?_
                    refine z_callS C (As := [.ref y1620]) (mJ4_rightOf (o := (some y1620)) hlp_0 (oM hm1652)) (lw_S q712 q713 q64 q714) hd_J4_rightOf rfl (Nat.le_of_ble_eq_true rfl) (by decide) (by decide) (by decide) (by decide) rfl dJ4_fixAfterDeletion_107 (fun _ _ h => h.elim) (fun r1813 V1814 hP1815 => ?_)
                    rw [hP1815.1, hP1815.2]
                    refine z_st (st' := [va_rf (rg1 y1620)]) rfl ?_
                    rcases hy1817 : rg1 y1620 with _ | y1816
                    · skip
                      refine z_callS C (As := [.null]) (mJ4_colorOf (o := none) hlp_0 oN) (lw_S q703 q704 q64 q705) hd_J4_colorOf rfl (Nat.le_of_ble_eq_true rfl) (by decide) (by decide) (by decide) (by decide) rfl dJ4_fixAfterDeletion_110 (fun _ _ h => h.elim) (fun r1818 V1819 hP1820 => ?_)
                      rw [hP1820.1, hP1820.2]
                      refine z_st (st' := [.int (zb true)]) rfl ?_
                      refine z_iconst C (v := (nI 1)) dJ4_fixAfterDeletion_113 rfl ?_
                      refine z_icmp_ne C 143 dJ4_fixAfterDeletion_114 (by decide) (fun c114 => ?_) (fun c114 => ?_)
                      · skip
                        have k1821 : true = false := zb1f c114
                        cases k1821
                      · skip
                        have k1822 : true = true := zb1 c114
                        refine z_aload_n C 0 rfl dJ4_fixAfterDeletion_117 rfl ?_
                        refine z_callS C (As := [.ref y1620]) (mJ4_leftOf (o := (some y1620)) hlp_0 (oM hm1652)) (lw_S q709 q710 q64 q711) hd_J4_leftOf rfl (Nat.le_of_ble_eq_true rfl) (by decide) (by decide) (by decide) (by decide) rfl dJ4_fixAfterDeletion_118 (fun _ _ h => h.elim) (fun r1823 V1824 hP1825 => ?_)
                        rw [hP1825.1, hP1825.2]
                        refine z_st (st' := [va_rf (lf1 y1620)]) rfl ?_
                        refine z_top (v := .ref y1662) (congrArg va_rf (show (lf1 y1620) = (some y1662) from (by rw [hy1663]))) ?_
                        refine z_iconst C (v := (nI 1)) dJ4_fixAfterDeletion_121 rfl ?_
                        refine z_st (st' := [.int (zb true), .ref y1662]) rfl ?_
                        refine z_callS C (As := [.ref y1662, .int (zb true)]) (mJ4_setColor (o := (some y1662)) (c := true) hlp_0 (oM hm1806)) (lw_S q715 q716 q64 q717) hd_J4_setColor rfl (Nat.le_of_ble_eq_true rfl) (by decide) (by decide) (by decide) (by decide) rfl dJ4_fixAfterDeletion_122 (fun _ _ h => h.elim) (fun r1826 V1827 hP1828 => ?_)
                        obtain ⟨hW1829, hU1830⟩ := hP1828
                        refine z_st (st' := []) rfl ?_
                        have hU1831 := zUnc.tr (S := tC t L) hlp_2 hU1830 (fun _ h => Or.inl h)
                        change tW _ _ _ _ _ _ _ (va_up cl1 y1662 true) _ _ _ _ at hW1829
                        obtain ⟨cl1833, ec1832⟩ : ∃ q, q = va_up cl1 y1662 true := ⟨_, rfl⟩
                        rw [← ec1832] at hW1829
                        have k1834 : cl1833 y1662 = true := by rw [ec1832, zvs]
                        have nx1835 : x1 ≠ y1662 := (ne_pa hp hp1807 (Ne.symm nx1654))
                        have k1836 : cl1833 x1 = true := by rw [ec1832, zvn nx1835]; exact k37
                        have k1837 : cl1833 y1620 = true := by rw [ec1832, zvn (Ne.symm nx1808)]; exact k1658
                        refine z_aload_n C 0 rfl dJ4_fixAfterDeletion_125 rfl ?_
                        refine z_iconst C (v := (nI 0)) dJ4_fixAfterDeletion_126 rfl ?_
                        refine z_st (st' := [.int (zb false), .ref y1620]) rfl ?_
                        refine z_callS C (As := [.ref y1620, .int (zb false)]) (mJ4_setColor (o := (some y1620)) (c := false) hW1829 (oM hm1652)) (lw_S q715 q716 q64 q717) hd_J4_setColor rfl (Nat.le_of_ble_eq_true rfl) (by decide) (by decide) (by decide) (by decide) rfl dJ4_fixAfterDeletion_127 (fun _ _ h => h.elim) (fun r1838 V1839 hP1840 => ?_)
                        obtain ⟨hW1841, hU1842⟩ := hP1840
                        refine z_st (st' := []) rfl ?_
                        have hU1843 := zUnc.tr (S := tC t L) hU1831 hU1842 (fun _ h => Or.inl h)
                        change tW _ _ _ _ _ _ _ (va_up cl1833 y1620 false) _ _ _ _ at hW1841
                        obtain ⟨cl1845, ec1844⟩ : ∃ q, q = va_up cl1833 y1620 false := ⟨_, rfl⟩
                        rw [← ec1844] at hW1841
                        have k1846 : cl1845 y1620 = false := by rw [ec1844, zvs]
                        have k1847 : cl1845 y1662 = true := by rw [ec1844, zvn nx1808]; exact k1834
                        have nx1848 : x1 ≠ y1620 := (tI.sib hlp_1 hm21 k1610 hy1621)
                        have k1849 : cl1845 x1 = true := by rw [ec1844, zvn nx1848]; exact k1836
                        refine z_aload_n C 1 rfl dJ4_fixAfterDeletion_130 rfl ?_
                        refine z_aload_n C 0 rfl dJ4_fixAfterDeletion_131 rfl ?_
                        refine z_callV C k_TM hW1841.1 (As := [.ref y1620]) (mJ4_rotateRight hW1841 hlp_1 hm1652 hy1663) (lw_V q722 q724 qs9 q64 q725) rfl hd_J4_rotateRight rfl (Nat.le_of_ble_eq_true rfl) (by decide) (by decide) (by decide) (by decide) rfl dJ4_fixAfterDeletion_132 (fun _ _ h => h.elim) (fun r1850 V1851 hP1852 => ?_)
                        obtain ⟨hW1853, hU1854⟩ := hP1852
                        refine z_st (st' := []) rfl ?_
                        have hU1855 := zUnc.tr (S := tC t L) hU1843 hU1854 (fun _ h => Or.inl h)
                        have hI1856 := tI_rotR hlp_1 hm1652 hy1663
                        obtain ⟨lf1863, eB1858⟩ : ∃ q, q = xR rg1 lf1 y1620 y1662 := ⟨_, rfl⟩
                        rw [← eB1858] at hW1853 hI1856
                        obtain ⟨pa1864, eP1859⟩ : ∃ q, q = xP rg1 pa1 y1620 y1662 := ⟨_, rfl⟩
                        rw [← eP1859] at hW1853 hI1856
                        obtain ⟨rg1865, eA1857⟩ : ∃ q, q = xL rg1 y1620 y1662 := ⟨_, rfl⟩
                        rw [← eA1857] at hW1853 hI1856
                        obtain ⟨rt1866, eT1860⟩ : ∃ q, q = xT rt1 y1620 y1662 := ⟨_, rfl⟩
                        rw [← eT1860] at hW1853 hI1856
                        obtain ⟨lo1867, elo1861⟩ : ∃ q, q = va_up lo1 y1620 (ps y1662 + 1) := ⟨_, rfl⟩
                        rw [← elo1861] at hI1856
                        obtain ⟨hi1868, ehi1862⟩ : ∃ q, q = va_up hi1 y1662 (hi1 y1620) := ⟨_, rfl⟩
                        rw [← ehi1862] at hI1856
                        have k1869 : rg1865 y1662 = (some y1620) := by rw [eA1857]; exact xL_r
                        have k1870 : pa1864 y1620 = (some y1662) := by rw [eP1859]; exact xP_p
                        have k1871 : pa1864 y1662 = (some p) := by rw [eP1859, xP_r nx1808]; exact hp1653
                        have nx1872 : p ≠ y1662 := (Ne.symm (tI.gg hlp_1 hm1806 hp1807 hm1652 hp1653))
                        have k1873 : pa1864 x1 = (some p) := by rw [eP1859, xP_o nx1848 nx1835 (fun z => nx1872 (Option.some.inj (hp.symm.trans (hlp_1.mr hm1806 z).2.1)))]; exact hp
                        have k1874 : lf1863 p = (some x1) := by rw [eB1858, xR_o (Ne.symm nx1654) (so_ne k1610 nx1848)]; exact k1610
                        have k1875 : rg1865 p = (some y1662) := by rw [eA1857]; exact xL_u nx1872 hy1621
                        have k1876 : rg1865 y1620 = none := by rw [eA1857, xL_o (Ne.symm nx1808) (sn_ne hy1817)]; exact hy1817
                        refine z_aload_n C 2 rfl dJ4_fixAfterDeletion_135 rfl ?_
                        refine z_callS C (As := [.ref x1]) (mJ4_parentOf (o := (some x1)) hW1853 (oM hlp_3)) (lw_S q706 q707 q64 q708) hd_J4_parentOf rfl (Nat.le_of_ble_eq_true rfl) (by decide) (by decide) (by decide) (by decide) rfl dJ4_fixAfterDeletion_136 (fun _ _ h => h.elim) (fun r1877 V1878 hP1879 => ?_)
                        rw [hP1879.1, hP1879.2]
                        refine z_st (st' := [va_rf (pa1864 x1)]) rfl ?_
                        refine z_top (v := .ref p) (congrArg va_rf (show (pa1864 x1) = (some p) from (by rw [k1873]))) ?_
                        refine z_callS C (As := [.ref p]) (mJ4_rightOf (o := (some p)) hW1853 (oM hm21)) (lw_S q712 q713 q64 q714) hd_J4_rightOf rfl (Nat.le_of_ble_eq_true rfl) (by decide) (by decide) (by decide) (by decide) rfl dJ4_fixAfterDeletion_139 (fun _ _ h => h.elim) (fun r1880 V1881 hP1882 => ?_)
                        rw [hP1882.1, hP1882.2]
                        refine z_st (st' := [va_rf (rg1865 p)]) rfl ?_
                        refine z_top (v := .ref y1662) (congrArg va_rf (show (rg1865 p) = (some y1662) from (by rw [k1875]))) ?_
                        refine z_astore_n C [(2, .ref y1662), (0, .ref t), (1, .ref x1)] dJ4_fixAfterDeletion_142 rfl (by decide) rfl ?_
                        refine z_aload_n C 0 rfl dJ4_fixAfterDeletion_143 rfl ?_
                        refine z_aload_n C 2 rfl dJ4_fixAfterDeletion_144 rfl ?_
                        refine z_callS C (As := [.ref x1]) (mJ4_parentOf (o := (some x1)) hW1853 (oM hlp_3)) (lw_S q706 q707 q64 q708) hd_J4_parentOf rfl (Nat.le_of_ble_eq_true rfl) (by decide) (by decide) (by decide) (by decide) rfl dJ4_fixAfterDeletion_145 (fun _ _ h => h.elim) (fun r1883 V1884 hP1885 => ?_)
                        rw [hP1885.1, hP1885.2]
                        refine z_st (st' := [va_rf (pa1864 x1), .ref y1662]) rfl ?_
                        refine z_top (v := .ref p) (congrArg va_rf (show (pa1864 x1) = (some p) from (by rw [k1873]))) ?_
                        refine z_callS C (As := [.ref p]) (mJ4_colorOf (o := (some p)) hW1853 (oM hm21)) (lw_S q703 q704 q64 q705) hd_J4_colorOf rfl (Nat.le_of_ble_eq_true rfl) (by decide) (by decide) (by decide) (by decide) rfl dJ4_fixAfterDeletion_148 (fun _ _ h => h.elim) (fun r1886 V1887 hP1888 => ?_)
                        rw [hP1888.1, hP1888.2]
                        refine z_st (st' := [.int (zb (cl1845 p)), .ref y1662]) rfl ?_
                        refine z_callS C (As := [.ref y1662, .int (zb (cl1845 p))]) (mJ4_setColor (o := (some y1662)) (c := (cl1845 p)) hW1853 (oM hm1806)) (lw_S q715 q716 q64 q717) hd_J4_setColor rfl (Nat.le_of_ble_eq_true rfl) (by decide) (by decide) (by decide) (by decide) rfl dJ4_fixAfterDeletion_151 (fun _ _ h => h.elim) (fun r1889 V1890 hP1891 => ?_)
                        obtain ⟨hW1892, hU1893⟩ := hP1891
                        refine z_st (st' := []) rfl ?_
                        have hU1894 := zUnc.tr (S := tC t L) hU1855 hU1893 (fun _ h => Or.inl h)
                        change tW _ _ _ _ _ _ _ (va_up cl1845 y1662 (cl1845 p)) _ _ _ _ at hW1892
                        obtain ⟨cl1896, ec1895⟩ : ∃ q, q = va_up cl1845 y1662 (cl1845 p) := ⟨_, rfl⟩
                        rw [← ec1895] at hW1892
                        have k1897 : cl1896 y1662 = (cl1845 p) := by rw [ec1895, zvs]
                        have k1898 : cl1896 y1620 = false := by rw [ec1895, zvn (Ne.symm nx1808)]; exact k1846
                        have k1899 : cl1896 x1 = true := by rw [ec1895, zvn nx1835]; exact k1849
                        refine z_aload_n C 2 rfl dJ4_fixAfterDeletion_154 rfl ?_
                        refine z_callS C (As := [.ref x1]) (mJ4_parentOf (o := (some x1)) hW1892 (oM hlp_3)) (lw_S q706 q707 q64 q708) hd_J4_parentOf rfl (Nat.le_of_ble_eq_true rfl) (by decide) (by decide) (by decide) (by decide) rfl dJ4_fixAfterDeletion_155 (fun _ _ h => h.elim) (fun r1900 V1901 hP1902 => ?_)
                        rw [hP1902.1, hP1902.2]
                        refine z_st (st' := [va_rf (pa1864 x1)]) rfl ?_
                        refine z_top (v := .ref p) (congrArg va_rf (show (pa1864 x1) = (some p) from (by rw [k1873]))) ?_
                        refine z_iconst C (v := (nI 1)) dJ4_fixAfterDeletion_158 rfl ?_
                        refine z_st (st' := [.int (zb true), .ref p]) rfl ?_
                        refine z_callS C (As := [.ref p, .int (zb true)]) (mJ4_setColor (o := (some p)) (c := true) hW1892 (oM hm21)) (lw_S q715 q716 q64 q717) hd_J4_setColor rfl (Nat.le_of_ble_eq_true rfl) (by decide) (by decide) (by decide) (by decide) rfl dJ4_fixAfterDeletion_159 (fun _ _ h => h.elim) (fun r1903 V1904 hP1905 => ?_)
                        obtain ⟨hW1906, hU1907⟩ := hP1905
                        refine z_st (st' := []) rfl ?_
                        have hU1908 := zUnc.tr (S := tC t L) hU1894 hU1907 (fun _ h => Or.inl h)
                        change tW _ _ _ _ _ _ _ (va_up cl1896 p true) _ _ _ _ at hW1906
                        obtain ⟨cl1910, ec1909⟩ : ∃ q, q = va_up cl1896 p true := ⟨_, rfl⟩
                        rw [← ec1909] at hW1906
                        have k1911 : cl1910 p = true := by rw [ec1909, zvs]
                        have k1912 : cl1910 y1620 = false := by rw [ec1909, zvn nx1654]; exact k1898
                        have k1913 : cl1910 x1 = true := by rw [ec1909, zvn nx1613]; exact k1899
                        refine z_aload_n C 0 rfl dJ4_fixAfterDeletion_162 rfl ?_
                        refine z_callS C (As := [.ref y1662]) (mJ4_rightOf (o := (some y1662)) hW1906 (oM hm1806)) (lw_S q712 q713 q64 q714) hd_J4_rightOf rfl (Nat.le_of_ble_eq_true rfl) (by decide) (by decide) (by decide) (by decide) rfl dJ4_fixAfterDeletion_163 (fun _ _ h => h.elim) (fun r1914 V1915 hP1916 => ?_)
                        rw [hP1916.1, hP1916.2]
                        refine z_st (st' := [va_rf (rg1865 y1662)]) rfl ?_
                        refine z_top (v := .ref y1620) (congrArg va_rf (show (rg1865 y1662) = (some y1620) from (by rw [k1869]))) ?_
                        refine z_iconst C (v := (nI 1)) dJ4_fixAfterDeletion_166 rfl ?_
                        refine z_st (st' := [.int (zb true), .ref y1620]) rfl ?_
                        refine z_callS C (As := [.ref y1620, .int (zb true)]) (mJ4_setColor (o := (some y1620)) (c := true) hW1906 (oM hm1652)) (lw_S q715 q716 q64 q717) hd_J4_setColor rfl (Nat.le_of_ble_eq_true rfl) (by decide) (by decide) (by decide) (by decide) rfl dJ4_fixAfterDeletion_167 (fun _ _ h => h.elim) (fun r1917 V1918 hP1919 => ?_)
                        obtain ⟨hW1920, hU1921⟩ := hP1919
                        refine z_st (st' := []) rfl ?_
                        have hU1922 := zUnc.tr (S := tC t L) hU1908 hU1921 (fun _ h => Or.inl h)
                        change tW _ _ _ _ _ _ _ (va_up cl1910 y1620 true) _ _ _ _ at hW1920
                        obtain ⟨cl1924, ec1923⟩ : ∃ q, q = va_up cl1910 y1620 true := ⟨_, rfl⟩
                        rw [← ec1923] at hW1920
                        have k1925 : cl1924 y1620 = true := by rw [ec1923, zvs]
                        have k1926 : cl1924 p = true := by rw [ec1923, zvn (Ne.symm nx1654)]; exact k1911
                        have k1927 : cl1924 x1 = true := by rw [ec1923, zvn nx1848]; exact k1913
                        refine z_aload_n C 1 rfl dJ4_fixAfterDeletion_170 rfl ?_
                        refine z_aload_n C 2 rfl dJ4_fixAfterDeletion_171 rfl ?_
                        refine z_callS C (As := [.ref x1]) (mJ4_parentOf (o := (some x1)) hW1920 (oM hlp_3)) (lw_S q706 q707 q64 q708) hd_J4_parentOf rfl (Nat.le_of_ble_eq_true rfl) (by decide) (by decide) (by decide) (by decide) rfl dJ4_fixAfterDeletion_172 (fun _ _ h => h.elim) (fun r1928 V1929 hP1930 => ?_)
                        rw [hP1930.1, hP1930.2]
                        refine z_st (st' := [va_rf (pa1864 x1), .ref t]) rfl ?_
                        refine z_top (v := .ref p) (congrArg va_rf (show (pa1864 x1) = (some p) from (by rw [k1873]))) ?_
                        refine z_callV C k_TM hW1920.1 (As := [.ref p]) (mJ4_rotateLeft hW1920 hI1856 hm21 k1875) (lw_V q718 q720 qs8 q64 q721) rfl hd_J4_rotateLeft rfl (Nat.le_of_ble_eq_true rfl) (by decide) (by decide) (by decide) (by decide) rfl dJ4_fixAfterDeletion_175 (fun _ _ h => h.elim) (fun r1931 V1932 hP1933 => ?_)
                        obtain ⟨hW1934, hU1935⟩ := hP1933
                        refine z_st (st' := []) rfl ?_
                        have hU1936 := zUnc.tr (S := tC t L) hU1922 hU1935 (fun _ h => Or.inl h)
                        have hI1937 := tI_rotL hI1856 hm21 k1875
                        obtain ⟨rg1944, eB1939⟩ : ∃ q, q = xR lf1863 rg1865 p y1662 := ⟨_, rfl⟩
                        rw [← eB1939] at hW1934 hI1937
                        obtain ⟨pa1945, eP1940⟩ : ∃ q, q = xP lf1863 pa1864 p y1662 := ⟨_, rfl⟩
                        rw [← eP1940] at hW1934 hI1937
                        obtain ⟨lf1946, eA1938⟩ : ∃ q, q = xL lf1863 p y1662 := ⟨_, rfl⟩
                        rw [← eA1938] at hW1934 hI1937
                        obtain ⟨rt1947, eT1941⟩ : ∃ q, q = xT rt1866 p y1662 := ⟨_, rfl⟩
                        rw [← eT1941] at hW1934 hI1937
                        obtain ⟨lo1948, elo1942⟩ : ∃ q, q = va_up lo1867 y1662 (lo1867 p) := ⟨_, rfl⟩
                        rw [← elo1942] at hI1937
                        obtain ⟨hi1949, ehi1943⟩ : ∃ q, q = va_up hi1868 p (ps y1662) := ⟨_, rfl⟩
                        rw [← ehi1943] at hI1937
                        have k1950 : lf1946 y1662 = (some p) := by rw [eA1938]; exact xL_r
                        have k1951 : pa1945 p = (some y1662) := by rw [eP1940]; exact xP_p
                        have k1952 : rg1944 y1662 = (some y1620) := by rw [eB1939, xR_o (Ne.symm nx1872) (so_ne k1869 nx1654)]; exact k1869
                        have k1953 : pa1945 y1620 = (some y1662) := by rw [eP1940, xP_o nx1654 (Ne.symm nx1808) (hI1856.rl hm1806 k1869)]; exact k1870
                        have k1954 : pa1945 x1 = (some p) := by rw [eP1940, xP_o nx1613 nx1835 (fun z => nx1872 (Option.some.inj (k1873.symm.trans (hI1856.ml hm1806 z).2.1)))]; exact k1873
                        have k1955 : lf1946 p = (some x1) := by rw [eA1938, xL_o nx1872 (so_ne k1874 nx1613)]; exact k1874
                        have k1956 : rg1944 y1620 = none := by rw [eB1939, xR_o nx1654 (sn_ne k1876)]; exact k1876
                        refine z_aload_n C 1 rfl dJ4_fixAfterDeletion_178 rfl ?_
                        refine z_get C k_TM hW1934.1 3 (by decide) rfl q162 dJ4_fixAfterDeletion_179 ?_
                        refine z_astore_nQ C (r := rt1947) [(1, va_rf rt1947), (2, .ref y1662), (0, .ref t)] dJ4_fixAfterDeletion_182 rfl (by decide) rfl ?_
                        refine z_goto C 0 dJ4_fixAfterDeletion_183 (by decide) ?_
                        refine z_pick [(0, .ref t), (1, va_rf rt1947)] [2, 0] rfl ?_
                        obtain ⟨r01957, hr1958⟩ := hI1937.rtm hlp_3
                        obtain ⟨hm1959, hp1960, -, -⟩ := hI1937.2.1.1 r01957 hr1958
                        have e1961 : (va_rf rt1947 : Value) = .ref r01957 := (congrArg va_rf hr1958)
                        refine z_lv (lv' := [(0, .ref t), (1, .ref r01957)]) (by rw [e1961]) ?_
                        exact hexit V1932 rt1947 lf1946 rg1944 pa1945 cl1924 lo1948 hi1949 r01957 hW1934 hI1937 hU1936 hm1959 hr1958
                    · skip
                      obtain ⟨hm1962, hp1963, nx1964⟩ := hlp_1.mr hm1652 hy1817
                      refine z_callS C (As := [.ref y1816]) (mJ4_colorOf (o := (some y1816)) hlp_0 (oM hm1962)) (lw_S q703 q704 q64 q705) hd_J4_colorOf rfl (Nat.le_of_ble_eq_true rfl) (by decide) (by decide) (by decide) (by decide) rfl dJ4_fixAfterDeletion_110 (fun _ _ h => h.elim) (fun r1965 V1966 hP1967 => ?_)
                      rw [hP1967.1, hP1967.2]
                      refine z_st (st' := [.int (zb (cl1 y1816))]) rfl ?_
                      refine z_iconst C (v := (nI 1)) dJ4_fixAfterDeletion_113 rfl ?_
                      refine z_icmp_ne C 143 dJ4_fixAfterDeletion_114 (by decide) (fun c114 => ?_) (fun c114 => ?_)
                      · skip
                        have k1968 : (cl1 y1816) = false := zb1f c114
                        refine z_aload_n C 0 rfl dJ4_fixAfterDeletion_143 rfl ?_
                        refine z_aload_n C 2 rfl dJ4_fixAfterDeletion_144 rfl ?_
                        refine z_callS C (As := [.ref x1]) (mJ4_parentOf (o := (some x1)) hlp_0 (oM hlp_3)) (lw_S q706 q707 q64 q708) hd_J4_parentOf rfl (Nat.le_of_ble_eq_true rfl) (by decide) (by decide) (by decide) (by decide) rfl dJ4_fixAfterDeletion_145 (fun _ _ h => h.elim) (fun r1969 V1970 hP1971 => ?_)
                        rw [hP1971.1, hP1971.2]
                        refine z_st (st' := [va_rf (pa1 x1), .ref y1620]) rfl ?_
                        refine z_top (v := .ref p) (congrArg va_rf (show (pa1 x1) = (some p) from (by rw [hp]))) ?_
                        refine z_callS C (As := [.ref p]) (mJ4_colorOf (o := (some p)) hlp_0 (oM hm21)) (lw_S q703 q704 q64 q705) hd_J4_colorOf rfl (Nat.le_of_ble_eq_true rfl) (by decide) (by decide) (by decide) (by decide) rfl dJ4_fixAfterDeletion_148 (fun _ _ h => h.elim) (fun r1972 V1973 hP1974 => ?_)
                        rw [hP1974.1, hP1974.2]
                        refine z_st (st' := [.int (zb (cl1 p)), .ref y1620]) rfl ?_
                        refine z_callS C (As := [.ref y1620, .int (zb (cl1 p))]) (mJ4_setColor (o := (some y1620)) (c := (cl1 p)) hlp_0 (oM hm1652)) (lw_S q715 q716 q64 q717) hd_J4_setColor rfl (Nat.le_of_ble_eq_true rfl) (by decide) (by decide) (by decide) (by decide) rfl dJ4_fixAfterDeletion_151 (fun _ _ h => h.elim) (fun r1975 V1976 hP1977 => ?_)
                        obtain ⟨hW1978, hU1979⟩ := hP1977
                        refine z_st (st' := []) rfl ?_
                        have hU1980 := zUnc.tr (S := tC t L) hlp_2 hU1979 (fun _ h => Or.inl h)
                        change tW _ _ _ _ _ _ _ (va_up cl1 y1620 (cl1 p)) _ _ _ _ at hW1978
                        obtain ⟨cl1982, ec1981⟩ : ∃ q, q = va_up cl1 y1620 (cl1 p) := ⟨_, rfl⟩
                        rw [← ec1981] at hW1978
                        have k1983 : cl1982 y1620 = (cl1 p) := by rw [ec1981, zvs]
                        have nx1984 : x1 ≠ y1620 := (tI.sib hlp_1 hm21 k1610 hy1621)
                        have k1985 : cl1982 x1 = true := by rw [ec1981, zvn nx1984]; exact k37
                        have k1986 : cl1982 y1662 = false := by rw [ec1981, zvn nx1808]; exact k1812
                        have k1987 : cl1982 y1816 = false := by rw [ec1981, zvn nx1964]; exact k1968
                        refine z_aload_n C 2 rfl dJ4_fixAfterDeletion_154 rfl ?_
                        refine z_callS C (As := [.ref x1]) (mJ4_parentOf (o := (some x1)) hW1978 (oM hlp_3)) (lw_S q706 q707 q64 q708) hd_J4_parentOf rfl (Nat.le_of_ble_eq_true rfl) (by decide) (by decide) (by decide) (by decide) rfl dJ4_fixAfterDeletion_155 (fun _ _ h => h.elim) (fun r1988 V1989 hP1990 => ?_)
                        rw [hP1990.1, hP1990.2]
                        refine z_st (st' := [va_rf (pa1 x1)]) rfl ?_
                        refine z_top (v := .ref p) (congrArg va_rf (show (pa1 x1) = (some p) from (by rw [hp]))) ?_
                        refine z_iconst C (v := (nI 1)) dJ4_fixAfterDeletion_158 rfl ?_
                        refine z_st (st' := [.int (zb true), .ref p]) rfl ?_
                        refine z_callS C (As := [.ref p, .int (zb true)]) (mJ4_setColor (o := (some p)) (c := true) hW1978 (oM hm21)) (lw_S q715 q716 q64 q717) hd_J4_setColor rfl (Nat.le_of_ble_eq_true rfl) (by decide) (by decide) (by decide) (by decide) rfl dJ4_fixAfterDeletion_159 (fun _ _ h => h.elim) (fun r1991 V1992 hP1993 => ?_)
                        obtain ⟨hW1994, hU1995⟩ := hP1993
                        refine z_st (st' := []) rfl ?_
                        have hU1996 := zUnc.tr (S := tC t L) hU1980 hU1995 (fun _ h => Or.inl h)
                        change tW _ _ _ _ _ _ _ (va_up cl1982 p true) _ _ _ _ at hW1994
                        obtain ⟨cl1998, ec1997⟩ : ∃ q, q = va_up cl1982 p true := ⟨_, rfl⟩
                        rw [← ec1997] at hW1994
                        have k1999 : cl1998 p = true := by rw [ec1997, zvs]
                        have k2000 : cl1998 x1 = true := by rw [ec1997, zvn nx1613]; exact k1985
                        have nx2001 : y1662 ≠ p := (tI.gg hlp_1 hm1806 hp1807 hm1652 hp1653)
                        have k2002 : cl1998 y1662 = false := by rw [ec1997, zvn nx2001]; exact k1986
                        have nx2003 : y1816 ≠ p := (tI.gg hlp_1 hm1962 hp1963 hm1652 hp1653)
                        have k2004 : cl1998 y1816 = false := by rw [ec1997, zvn nx2003]; exact k1987
                        refine z_aload_n C 0 rfl dJ4_fixAfterDeletion_162 rfl ?_
                        refine z_callS C (As := [.ref y1620]) (mJ4_rightOf (o := (some y1620)) hW1994 (oM hm1652)) (lw_S q712 q713 q64 q714) hd_J4_rightOf rfl (Nat.le_of_ble_eq_true rfl) (by decide) (by decide) (by decide) (by decide) rfl dJ4_fixAfterDeletion_163 (fun _ _ h => h.elim) (fun r2005 V2006 hP2007 => ?_)
                        rw [hP2007.1, hP2007.2]
                        refine z_st (st' := [va_rf (rg1 y1620)]) rfl ?_
                        refine z_top (v := .ref y1816) (congrArg va_rf (show (rg1 y1620) = (some y1816) from (by rw [hy1817]))) ?_
                        refine z_iconst C (v := (nI 1)) dJ4_fixAfterDeletion_166 rfl ?_
                        refine z_st (st' := [.int (zb true), .ref y1816]) rfl ?_
                        refine z_callS C (As := [.ref y1816, .int (zb true)]) (mJ4_setColor (o := (some y1816)) (c := true) hW1994 (oM hm1962)) (lw_S q715 q716 q64 q717) hd_J4_setColor rfl (Nat.le_of_ble_eq_true rfl) (by decide) (by decide) (by decide) (by decide) rfl dJ4_fixAfterDeletion_167 (fun _ _ h => h.elim) (fun r2008 V2009 hP2010 => ?_)
                        obtain ⟨hW2011, hU2012⟩ := hP2010
                        refine z_st (st' := []) rfl ?_
                        have hU2013 := zUnc.tr (S := tC t L) hU1996 hU2012 (fun _ h => Or.inl h)
                        change tW _ _ _ _ _ _ _ (va_up cl1998 y1816 true) _ _ _ _ at hW2011
                        obtain ⟨cl2015, ec2014⟩ : ∃ q, q = va_up cl1998 y1816 true := ⟨_, rfl⟩
                        rw [← ec2014] at hW2011
                        have k2016 : cl2015 y1816 = true := by rw [ec2014, zvs]
                        have k2017 : cl2015 p = true := by rw [ec2014, zvn (Ne.symm nx2003)]; exact k1999
                        have nx2018 : x1 ≠ y1816 := (ne_pa hp hp1963 (Ne.symm nx1654))
                        have k2019 : cl2015 x1 = true := by rw [ec2014, zvn nx2018]; exact k2000
                        have nx2020 : y1662 ≠ y1816 := (tI.sib hlp_1 hm1652 hy1663 hy1817)
                        have k2021 : cl2015 y1662 = false := by rw [ec2014, zvn nx2020]; exact k2002
                        refine z_aload_n C 1 rfl dJ4_fixAfterDeletion_170 rfl ?_
                        refine z_aload_n C 2 rfl dJ4_fixAfterDeletion_171 rfl ?_
                        refine z_callS C (As := [.ref x1]) (mJ4_parentOf (o := (some x1)) hW2011 (oM hlp_3)) (lw_S q706 q707 q64 q708) hd_J4_parentOf rfl (Nat.le_of_ble_eq_true rfl) (by decide) (by decide) (by decide) (by decide) rfl dJ4_fixAfterDeletion_172 (fun _ _ h => h.elim) (fun r2022 V2023 hP2024 => ?_)
                        rw [hP2024.1, hP2024.2]
                        refine z_st (st' := [va_rf (pa1 x1), .ref t]) rfl ?_
                        refine z_top (v := .ref p) (congrArg va_rf (show (pa1 x1) = (some p) from (by rw [hp]))) ?_
                        refine z_callV C k_TM hW2011.1 (As := [.ref p]) (mJ4_rotateLeft hW2011 hlp_1 hm21 hy1621) (lw_V q718 q720 qs8 q64 q721) rfl hd_J4_rotateLeft rfl (Nat.le_of_ble_eq_true rfl) (by decide) (by decide) (by decide) (by decide) rfl dJ4_fixAfterDeletion_175 (fun _ _ h => h.elim) (fun r2025 V2026 hP2027 => ?_)
                        obtain ⟨hW2028, hU2029⟩ := hP2027
                        refine z_st (st' := []) rfl ?_
                        have hU2030 := zUnc.tr (S := tC t L) hU2013 hU2029 (fun _ h => Or.inl h)
                        have hI2031 := tI_rotL hlp_1 hm21 hy1621
                        obtain ⟨rg2038, eB2033⟩ : ∃ q, q = xR lf1 rg1 p y1620 := ⟨_, rfl⟩
                        rw [← eB2033] at hW2028 hI2031
                        obtain ⟨pa2039, eP2034⟩ : ∃ q, q = xP lf1 pa1 p y1620 := ⟨_, rfl⟩
                        rw [← eP2034] at hW2028 hI2031
                        obtain ⟨lf2040, eA2032⟩ : ∃ q, q = xL lf1 p y1620 := ⟨_, rfl⟩
                        rw [← eA2032] at hW2028 hI2031
                        obtain ⟨rt2041, eT2035⟩ : ∃ q, q = xT rt1 p y1620 := ⟨_, rfl⟩
                        rw [← eT2035] at hW2028 hI2031
                        obtain ⟨lo2042, elo2036⟩ : ∃ q, q = va_up lo1 y1620 (lo1 p) := ⟨_, rfl⟩
                        rw [← elo2036] at hI2031
                        obtain ⟨hi2043, ehi2037⟩ : ∃ q, q = va_up hi1 p (ps y1620) := ⟨_, rfl⟩
                        rw [← ehi2037] at hI2031
                        have k2044 : lf2040 y1620 = (some p) := by rw [eA2032]; exact xL_r
                        have k2045 : pa2039 p = (some y1620) := by rw [eP2034]; exact xP_p
                        have k2046 : rg2038 p = (some y1662) := by rw [eB2033, xR_p]; exact hy1663
                        have nx2047 : y1662 ≠ x1 := (ne_pa hp1807 hp nx1654)
                        have k2048 : pa2039 x1 = (some p) := by rw [eP2034, xP_o nx1613 nx1984 (so_ne hy1663 nx2047)]; exact hp
                        have k2049 : lf2040 p = (some x1) := by rw [eA2032, xL_o (Ne.symm nx1654) (so_ne k1610 nx1613)]; exact k1610
                        have k2050 : pa2039 y1662 = (some p) := by rw [eP2034]; exact xP_c nx2001 nx1808 hy1663
                        have k2051 : rg2038 y1620 = (some y1816) := by rw [eB2033, xR_o nx1654 (so_ne hy1817 nx2003)]; exact hy1817
                        have k2052 : pa2039 y1816 = (some y1620) := by rw [eP2034, xP_o nx2003 nx1964 (so_ne hy1663 nx2020)]; exact hp1963
                        refine z_aload_n C 1 rfl dJ4_fixAfterDeletion_178 rfl ?_
                        refine z_get C k_TM hW2028.1 3 (by decide) rfl q162 dJ4_fixAfterDeletion_179 ?_
                        refine z_astore_nQ C (r := rt2041) [(1, va_rf rt2041), (2, .ref y1620), (0, .ref t)] dJ4_fixAfterDeletion_182 rfl (by decide) rfl ?_
                        refine z_goto C 0 dJ4_fixAfterDeletion_183 (by decide) ?_
                        refine z_pick [(0, .ref t), (1, va_rf rt2041)] [2, 0] rfl ?_
                        obtain ⟨r02053, hr2054⟩ := hI2031.rtm hlp_3
                        obtain ⟨hm2055, hp2056, -, -⟩ := hI2031.2.1.1 r02053 hr2054
                        have e2057 : (va_rf rt2041 : Value) = .ref r02053 := (congrArg va_rf hr2054)
                        refine z_lv (lv' := [(0, .ref t), (1, .ref r02053)]) (by rw [e2057]) ?_
                        exact hexit V2026 rt2041 lf2040 rg2038 pa2039 cl2015 lo2042 hi2043 r02053 hW2028 hI2031 hU2030 hm2055 hr2054
                      · skip
                        have k2058 : (cl1 y1816) = true := zb1 c114
                        refine z_aload_n C 0 rfl dJ4_fixAfterDeletion_117 rfl ?_
                        refine z_callS C (As := [.ref y1620]) (mJ4_leftOf (o := (some y1620)) hlp_0 (oM hm1652)) (lw_S q709 q710 q64 q711) hd_J4_leftOf rfl (Nat.le_of_ble_eq_true rfl) (by decide) (by decide) (by decide) (by decide) rfl dJ4_fixAfterDeletion_118 (fun _ _ h => h.elim) (fun r2059 V2060 hP2061 => ?_)
                        rw [hP2061.1, hP2061.2]
                        refine z_st (st' := [va_rf (lf1 y1620)]) rfl ?_
                        refine z_top (v := .ref y1662) (congrArg va_rf (show (lf1 y1620) = (some y1662) from (by rw [hy1663]))) ?_
                        refine z_iconst C (v := (nI 1)) dJ4_fixAfterDeletion_121 rfl ?_
                        refine z_st (st' := [.int (zb true), .ref y1662]) rfl ?_
                        refine z_callS C (As := [.ref y1662, .int (zb true)]) (mJ4_setColor (o := (some y1662)) (c := true) hlp_0 (oM hm1806)) (lw_S q715 q716 q64 q717) hd_J4_setColor rfl (Nat.le_of_ble_eq_true rfl) (by decide) (by decide) (by decide) (by decide) rfl dJ4_fixAfterDeletion_122 (fun _ _ h => h.elim) (fun r2062 V2063 hP2064 => ?_)
                        obtain ⟨hW2065, hU2066⟩ := hP2064
                        refine z_st (st' := []) rfl ?_
                        have hU2067 := zUnc.tr (S := tC t L) hlp_2 hU2066 (fun _ h => Or.inl h)
                        change tW _ _ _ _ _ _ _ (va_up cl1 y1662 true) _ _ _ _ at hW2065
                        obtain ⟨cl2069, ec2068⟩ : ∃ q, q = va_up cl1 y1662 true := ⟨_, rfl⟩
                        rw [← ec2068] at hW2065
                        have k2070 : cl2069 y1662 = true := by rw [ec2068, zvs]
                        have nx2071 : x1 ≠ y1662 := (ne_pa hp hp1807 (Ne.symm nx1654))
                        have k2072 : cl2069 x1 = true := by rw [ec2068, zvn nx2071]; exact k37
                        have k2073 : cl2069 y1620 = true := by rw [ec2068, zvn (Ne.symm nx1808)]; exact k1658
                        have nx2074 : y1816 ≠ y1662 := (Ne.symm (tI.sib hlp_1 hm1652 hy1663 hy1817))
                        have k2075 : cl2069 y1816 = true := by rw [ec2068, zvn nx2074]; exact k2058
                        refine z_aload_n C 0 rfl dJ4_fixAfterDeletion_125 rfl ?_
                        refine z_iconst C (v := (nI 0)) dJ4_fixAfterDeletion_126 rfl ?_
                        refine z_st (st' := [.int (zb false), .ref y1620]) rfl ?_
                        refine z_callS C (As := [.ref y1620, .int (zb false)]) (mJ4_setColor (o := (some y1620)) (c := false) hW2065 (oM hm1652)) (lw_S q715 q716 q64 q717) hd_J4_setColor rfl (Nat.le_of_ble_eq_true rfl) (by decide) (by decide) (by decide) (by decide) rfl dJ4_fixAfterDeletion_127 (fun _ _ h => h.elim) (fun r2076 V2077 hP2078 => ?_)
                        obtain ⟨hW2079, hU2080⟩ := hP2078
                        refine z_st (st' := []) rfl ?_
                        have hU2081 := zUnc.tr (S := tC t L) hU2067 hU2080 (fun _ h => Or.inl h)
                        change tW _ _ _ _ _ _ _ (va_up cl2069 y1620 false) _ _ _ _ at hW2079
                        obtain ⟨cl2083, ec2082⟩ : ∃ q, q = va_up cl2069 y1620 false := ⟨_, rfl⟩
                        rw [← ec2082] at hW2079
                        have k2084 : cl2083 y1620 = false := by rw [ec2082, zvs]
                        have k2085 : cl2083 y1662 = true := by rw [ec2082, zvn nx1808]; exact k2070
                        have nx2086 : x1 ≠ y1620 := (tI.sib hlp_1 hm21 k1610 hy1621)
                        have k2087 : cl2083 x1 = true := by rw [ec2082, zvn nx2086]; exact k2072
                        have k2088 : cl2083 y1816 = true := by rw [ec2082, zvn nx1964]; exact k2075
                        refine z_aload_n C 1 rfl dJ4_fixAfterDeletion_130 rfl ?_
                        refine z_aload_n C 0 rfl dJ4_fixAfterDeletion_131 rfl ?_
                        refine z_callV C k_TM hW2079.1 (As := [.ref y1620]) (mJ4_rotateRight hW2079 hlp_1 hm1652 hy1663) (lw_V q722 q724 qs9 q64 q725) rfl hd_J4_rotateRight rfl (Nat.le_of_ble_eq_true rfl) (by decide) (by decide) (by decide) (by decide) rfl dJ4_fixAfterDeletion_132 (fun _ _ h => h.elim) (fun r2089 V2090 hP2091 => ?_)
                        obtain ⟨hW2092, hU2093⟩ := hP2091
                        refine z_st (st' := []) rfl ?_
                        have hU2094 := zUnc.tr (S := tC t L) hU2081 hU2093 (fun _ h => Or.inl h)
                        have hI2095 := tI_rotR hlp_1 hm1652 hy1663
                        obtain ⟨lf2102, eB2097⟩ : ∃ q, q = xR rg1 lf1 y1620 y1662 := ⟨_, rfl⟩
                        rw [← eB2097] at hW2092 hI2095
                        obtain ⟨pa2103, eP2098⟩ : ∃ q, q = xP rg1 pa1 y1620 y1662 := ⟨_, rfl⟩
                        rw [← eP2098] at hW2092 hI2095
                        obtain ⟨rg2104, eA2096⟩ : ∃ q, q = xL rg1 y1620 y1662 := ⟨_, rfl⟩
                        rw [← eA2096] at hW2092 hI2095
                        obtain ⟨rt2105, eT2099⟩ : ∃ q, q = xT rt1 y1620 y1662 := ⟨_, rfl⟩
                        rw [← eT2099] at hW2092 hI2095
                        obtain ⟨lo2106, elo2100⟩ : ∃ q, q = va_up lo1 y1620 (ps y1662 + 1) := ⟨_, rfl⟩
                        rw [← elo2100] at hI2095
                        obtain ⟨hi2107, ehi2101⟩ : ∃ q, q = va_up hi1 y1662 (hi1 y1620) := ⟨_, rfl⟩
                        rw [← ehi2101] at hI2095
                        have k2108 : rg2104 y1662 = (some y1620) := by rw [eA2096]; exact xL_r
                        have k2109 : pa2103 y1620 = (some y1662) := by rw [eP2098]; exact xP_p
                        have k2110 : pa2103 y1662 = (some p) := by rw [eP2098, xP_r nx1808]; exact hp1653
                        have nx2111 : p ≠ y1662 := (Ne.symm (tI.gg hlp_1 hm1806 hp1807 hm1652 hp1653))
                        have k2112 : pa2103 x1 = (some p) := by rw [eP2098, xP_o nx2086 nx2071 (fun z => nx2111 (Option.some.inj (hp.symm.trans (hlp_1.mr hm1806 z).2.1)))]; exact hp
                        have k2113 : lf2102 p = (some x1) := by rw [eB2097, xR_o (Ne.symm nx1654) (so_ne k1610 nx2086)]; exact k1610
                        have k2114 : rg2104 p = (some y1662) := by rw [eA2096]; exact xL_u nx2111 hy1621
                        have k2115 : rg2104 y1620 = (some y1816) := by rw [eA2096, xL_o (Ne.symm nx1808) (so_ne hy1817 nx1964)]; exact hy1817
                        have k2116 : pa2103 y1816 = (some y1620) := by rw [eP2098, xP_o nx1964 nx2074 (fun z => (Ne.symm nx1808) (Option.some.inj (hp1963.symm.trans (hlp_1.mr hm1806 z).2.1)))]; exact hp1963
                        refine z_aload_n C 2 rfl dJ4_fixAfterDeletion_135 rfl ?_
                        refine z_callS C (As := [.ref x1]) (mJ4_parentOf (o := (some x1)) hW2092 (oM hlp_3)) (lw_S q706 q707 q64 q708) hd_J4_parentOf rfl (Nat.le_of_ble_eq_true rfl) (by decide) (by decide) (by decide) (by decide) rfl dJ4_fixAfterDeletion_136 (fun _ _ h => h.elim) (fun r2117 V2118 hP2119 => ?_)
                        rw [hP2119.1, hP2119.2]
                        refine z_st (st' := [va_rf (pa2103 x1)]) rfl ?_
                        refine z_top (v := .ref p) (congrArg va_rf (show (pa2103 x1) = (some p) from (by rw [k2112]))) ?_
                        refine z_callS C (As := [.ref p]) (mJ4_rightOf (o := (some p)) hW2092 (oM hm21)) (lw_S q712 q713 q64 q714) hd_J4_rightOf rfl (Nat.le_of_ble_eq_true rfl) (by decide) (by decide) (by decide) (by decide) rfl dJ4_fixAfterDeletion_139 (fun _ _ h => h.elim) (fun r2120 V2121 hP2122 => ?_)
                        rw [hP2122.1, hP2122.2]
                        refine z_st (st' := [va_rf (rg2104 p)]) rfl ?_
                        refine z_top (v := .ref y1662) (congrArg va_rf (show (rg2104 p) = (some y1662) from (by rw [k2114]))) ?_
                        refine z_astore_n C [(2, .ref y1662), (0, .ref t), (1, .ref x1)] dJ4_fixAfterDeletion_142 rfl (by decide) rfl ?_
                        refine z_aload_n C 0 rfl dJ4_fixAfterDeletion_143 rfl ?_
                        refine z_aload_n C 2 rfl dJ4_fixAfterDeletion_144 rfl ?_
                        refine z_callS C (As := [.ref x1]) (mJ4_parentOf (o := (some x1)) hW2092 (oM hlp_3)) (lw_S q706 q707 q64 q708) hd_J4_parentOf rfl (Nat.le_of_ble_eq_true rfl) (by decide) (by decide) (by decide) (by decide) rfl dJ4_fixAfterDeletion_145 (fun _ _ h => h.elim) (fun r2123 V2124 hP2125 => ?_)
                        rw [hP2125.1, hP2125.2]
                        refine z_st (st' := [va_rf (pa2103 x1), .ref y1662]) rfl ?_
                        refine z_top (v := .ref p) (congrArg va_rf (show (pa2103 x1) = (some p) from (by rw [k2112]))) ?_
                        refine z_callS C (As := [.ref p]) (mJ4_colorOf (o := (some p)) hW2092 (oM hm21)) (lw_S q703 q704 q64 q705) hd_J4_colorOf rfl (Nat.le_of_ble_eq_true rfl) (by decide) (by decide) (by decide) (by decide) rfl dJ4_fixAfterDeletion_148 (fun _ _ h => h.elim) (fun r2126 V2127 hP2128 => ?_)
                        rw [hP2128.1, hP2128.2]
                        refine z_st (st' := [.int (zb (cl2083 p)), .ref y1662]) rfl ?_
                        refine z_callS C (As := [.ref y1662, .int (zb (cl2083 p))]) (mJ4_setColor (o := (some y1662)) (c := (cl2083 p)) hW2092 (oM hm1806)) (lw_S q715 q716 q64 q717) hd_J4_setColor rfl (Nat.le_of_ble_eq_true rfl) (by decide) (by decide) (by decide) (by decide) rfl dJ4_fixAfterDeletion_151 (fun _ _ h => h.elim) (fun r2129 V2130 hP2131 => ?_)
                        obtain ⟨hW2132, hU2133⟩ := hP2131
                        refine z_st (st' := []) rfl ?_
                        have hU2134 := zUnc.tr (S := tC t L) hU2094 hU2133 (fun _ h => Or.inl h)
                        change tW _ _ _ _ _ _ _ (va_up cl2083 y1662 (cl2083 p)) _ _ _ _ at hW2132
                        obtain ⟨cl2136, ec2135⟩ : ∃ q, q = va_up cl2083 y1662 (cl2083 p) := ⟨_, rfl⟩
                        rw [← ec2135] at hW2132
                        have k2137 : cl2136 y1662 = (cl2083 p) := by rw [ec2135, zvs]
                        have k2138 : cl2136 y1620 = false := by rw [ec2135, zvn (Ne.symm nx1808)]; exact k2084
                        have k2139 : cl2136 x1 = true := by rw [ec2135, zvn nx2071]; exact k2087
                        have k2140 : cl2136 y1816 = true := by rw [ec2135, zvn nx2074]; exact k2088
                        refine z_aload_n C 2 rfl dJ4_fixAfterDeletion_154 rfl ?_
                        refine z_callS C (As := [.ref x1]) (mJ4_parentOf (o := (some x1)) hW2132 (oM hlp_3)) (lw_S q706 q707 q64 q708) hd_J4_parentOf rfl (Nat.le_of_ble_eq_true rfl) (by decide) (by decide) (by decide) (by decide) rfl dJ4_fixAfterDeletion_155 (fun _ _ h => h.elim) (fun r2141 V2142 hP2143 => ?_)
                        rw [hP2143.1, hP2143.2]
                        refine z_st (st' := [va_rf (pa2103 x1)]) rfl ?_
                        refine z_top (v := .ref p) (congrArg va_rf (show (pa2103 x1) = (some p) from (by rw [k2112]))) ?_
                        refine z_iconst C (v := (nI 1)) dJ4_fixAfterDeletion_158 rfl ?_
                        refine z_st (st' := [.int (zb true), .ref p]) rfl ?_
                        refine z_callS C (As := [.ref p, .int (zb true)]) (mJ4_setColor (o := (some p)) (c := true) hW2132 (oM hm21)) (lw_S q715 q716 q64 q717) hd_J4_setColor rfl (Nat.le_of_ble_eq_true rfl) (by decide) (by decide) (by decide) (by decide) rfl dJ4_fixAfterDeletion_159 (fun _ _ h => h.elim) (fun r2144 V2145 hP2146 => ?_)
                        obtain ⟨hW2147, hU2148⟩ := hP2146
                        refine z_st (st' := []) rfl ?_
                        have hU2149 := zUnc.tr (S := tC t L) hU2134 hU2148 (fun _ h => Or.inl h)
                        change tW _ _ _ _ _ _ _ (va_up cl2136 p true) _ _ _ _ at hW2147
                        obtain ⟨cl2151, ec2150⟩ : ∃ q, q = va_up cl2136 p true := ⟨_, rfl⟩
                        rw [← ec2150] at hW2147
                        have k2152 : cl2151 p = true := by rw [ec2150, zvs]
                        have k2153 : cl2151 y1620 = false := by rw [ec2150, zvn nx1654]; exact k2138
                        have k2154 : cl2151 x1 = true := by rw [ec2150, zvn nx1613]; exact k2139
                        refine z_aload_n C 0 rfl dJ4_fixAfterDeletion_162 rfl ?_
                        refine z_callS C (As := [.ref y1662]) (mJ4_rightOf (o := (some y1662)) hW2147 (oM hm1806)) (lw_S q712 q713 q64 q714) hd_J4_rightOf rfl (Nat.le_of_ble_eq_true rfl) (by decide) (by decide) (by decide) (by decide) rfl dJ4_fixAfterDeletion_163 (fun _ _ h => h.elim) (fun r2155 V2156 hP2157 => ?_)
                        rw [hP2157.1, hP2157.2]
                        refine z_st (st' := [va_rf (rg2104 y1662)]) rfl ?_
                        refine z_top (v := .ref y1620) (congrArg va_rf (show (rg2104 y1662) = (some y1620) from (by rw [k2108]))) ?_
                        refine z_iconst C (v := (nI 1)) dJ4_fixAfterDeletion_166 rfl ?_
                        refine z_st (st' := [.int (zb true), .ref y1620]) rfl ?_
                        refine z_callS C (As := [.ref y1620, .int (zb true)]) (mJ4_setColor (o := (some y1620)) (c := true) hW2147 (oM hm1652)) (lw_S q715 q716 q64 q717) hd_J4_setColor rfl (Nat.le_of_ble_eq_true rfl) (by decide) (by decide) (by decide) (by decide) rfl dJ4_fixAfterDeletion_167 (fun _ _ h => h.elim) (fun r2158 V2159 hP2160 => ?_)
                        obtain ⟨hW2161, hU2162⟩ := hP2160
                        refine z_st (st' := []) rfl ?_
                        have hU2163 := zUnc.tr (S := tC t L) hU2149 hU2162 (fun _ h => Or.inl h)
                        change tW _ _ _ _ _ _ _ (va_up cl2151 y1620 true) _ _ _ _ at hW2161
                        obtain ⟨cl2165, ec2164⟩ : ∃ q, q = va_up cl2151 y1620 true := ⟨_, rfl⟩
                        rw [← ec2164] at hW2161
                        have k2166 : cl2165 y1620 = true := by rw [ec2164, zvs]
                        have k2167 : cl2165 p = true := by rw [ec2164, zvn (Ne.symm nx1654)]; exact k2152
                        have k2168 : cl2165 x1 = true := by rw [ec2164, zvn nx2086]; exact k2154
                        refine z_aload_n C 1 rfl dJ4_fixAfterDeletion_170 rfl ?_
                        refine z_aload_n C 2 rfl dJ4_fixAfterDeletion_171 rfl ?_
                        refine z_callS C (As := [.ref x1]) (mJ4_parentOf (o := (some x1)) hW2161 (oM hlp_3)) (lw_S q706 q707 q64 q708) hd_J4_parentOf rfl (Nat.le_of_ble_eq_true rfl) (by decide) (by decide) (by decide) (by decide) rfl dJ4_fixAfterDeletion_172 (fun _ _ h => h.elim) (fun r2169 V2170 hP2171 => ?_)
                        rw [hP2171.1, hP2171.2]
                        refine z_st (st' := [va_rf (pa2103 x1), .ref t]) rfl ?_
                        refine z_top (v := .ref p) (congrArg va_rf (show (pa2103 x1) = (some p) from (by rw [k2112]))) ?_
                        refine z_callV C k_TM hW2161.1 (As := [.ref p]) (mJ4_rotateLeft hW2161 hI2095 hm21 k2114) (lw_V q718 q720 qs8 q64 q721) rfl hd_J4_rotateLeft rfl (Nat.le_of_ble_eq_true rfl) (by decide) (by decide) (by decide) (by decide) rfl dJ4_fixAfterDeletion_175 (fun _ _ h => h.elim) (fun r2172 V2173 hP2174 => ?_)
                        obtain ⟨hW2175, hU2176⟩ := hP2174
                        refine z_st (st' := []) rfl ?_
                        have hU2177 := zUnc.tr (S := tC t L) hU2163 hU2176 (fun _ h => Or.inl h)
                        have hI2178 := tI_rotL hI2095 hm21 k2114
                        obtain ⟨rg2185, eB2180⟩ : ∃ q, q = xR lf2102 rg2104 p y1662 := ⟨_, rfl⟩
                        rw [← eB2180] at hW2175 hI2178
                        obtain ⟨pa2186, eP2181⟩ : ∃ q, q = xP lf2102 pa2103 p y1662 := ⟨_, rfl⟩
                        rw [← eP2181] at hW2175 hI2178
                        obtain ⟨lf2187, eA2179⟩ : ∃ q, q = xL lf2102 p y1662 := ⟨_, rfl⟩
                        rw [← eA2179] at hW2175 hI2178
                        obtain ⟨rt2188, eT2182⟩ : ∃ q, q = xT rt2105 p y1662 := ⟨_, rfl⟩
                        rw [← eT2182] at hW2175 hI2178
                        obtain ⟨lo2189, elo2183⟩ : ∃ q, q = va_up lo2106 y1662 (lo2106 p) := ⟨_, rfl⟩
                        rw [← elo2183] at hI2178
                        obtain ⟨hi2190, ehi2184⟩ : ∃ q, q = va_up hi2107 p (ps y1662) := ⟨_, rfl⟩
                        rw [← ehi2184] at hI2178
                        have k2191 : lf2187 y1662 = (some p) := by rw [eA2179]; exact xL_r
                        have k2192 : pa2186 p = (some y1662) := by rw [eP2181]; exact xP_p
                        have k2193 : rg2185 y1662 = (some y1620) := by rw [eB2180, xR_o (Ne.symm nx2111) (so_ne k2108 nx1654)]; exact k2108
                        have k2194 : pa2186 y1620 = (some y1662) := by rw [eP2181, xP_o nx1654 (Ne.symm nx1808) (hI2095.rl hm1806 k2108)]; exact k2109
                        have k2195 : pa2186 x1 = (some p) := by rw [eP2181, xP_o nx1613 nx2071 (fun z => nx2111 (Option.some.inj (k2112.symm.trans (hI2095.ml hm1806 z).2.1)))]; exact k2112
                        have k2196 : lf2187 p = (some x1) := by rw [eA2179, xL_o nx2111 (so_ne k2113 nx1613)]; exact k2113
                        refine z_aload_n C 1 rfl dJ4_fixAfterDeletion_178 rfl ?_
                        refine z_get C k_TM hW2175.1 3 (by decide) rfl q162 dJ4_fixAfterDeletion_179 ?_
                        refine z_astore_nQ C (r := rt2188) [(1, va_rf rt2188), (2, .ref y1662), (0, .ref t)] dJ4_fixAfterDeletion_182 rfl (by decide) rfl ?_
                        refine z_goto C 0 dJ4_fixAfterDeletion_183 (by decide) ?_
                        refine z_pick [(0, .ref t), (1, va_rf rt2188)] [2, 0] rfl ?_
                        obtain ⟨r02197, hr2198⟩ := hI2178.rtm hlp_3
                        obtain ⟨hm2199, hp2200, -, -⟩ := hI2178.2.1.1 r02197 hr2198
                        have e2201 : (va_rf rt2188 : Value) = .ref r02197 := (congrArg va_rf hr2198)
                        refine z_lv (lv' := [(0, .ref t), (1, .ref r02197)]) (by rw [e2201]) ?_
                        exact hexit V2173 rt2188 lf2187 rg2185 pa2186 cl2165 lo2189 hi2190 r02197 hW2175 hI2178 hU2177 hm2199 hr2198
                  · skip
                    have k2202 : (cl1 y1662) = true := zb1 c79
                    refine z_aload_n C 0 rfl dJ4_fixAfterDeletion_82 rfl ?_
                    refine z_callS C (As := [.ref y1620]) (mJ4_rightOf (o := (some y1620)) hlp_0 (oM hm1652)) (lw_S q712 q713 q64 q714) hd_J4_rightOf rfl (Nat.le_of_ble_eq_true rfl) (by decide) (by decide) (by decide) (by decide) rfl dJ4_fixAfterDeletion_83 (fun _ _ h => h.elim) (fun r2203 V2204 hP2205 => ?_)
                    rw [hP2205.1, hP2205.2]
                    refine z_st (st' := [va_rf (rg1 y1620)]) rfl ?_
                    rcases hy2207 : rg1 y1620 with _ | y2206
                    · skip
                      refine z_callS C (As := [.null]) (mJ4_colorOf (o := none) hlp_0 oN) (lw_S q703 q704 q64 q705) hd_J4_colorOf rfl (Nat.le_of_ble_eq_true rfl) (by decide) (by decide) (by decide) (by decide) rfl dJ4_fixAfterDeletion_86 (fun _ _ h => h.elim) (fun r2208 V2209 hP2210 => ?_)
                      rw [hP2210.1, hP2210.2]
                      refine z_st (st' := [.int (zb true)]) rfl ?_
                      refine z_iconst C (v := (nI 1)) dJ4_fixAfterDeletion_89 rfl ?_
                      refine z_icmp_ne C 106 dJ4_fixAfterDeletion_90 (by decide) (fun c90 => ?_) (fun c90 => ?_)
                      · skip
                        have k2211 : true = false := zb1f c90
                        cases k2211
                      · skip
                        have k2212 : true = true := zb1 c90
                        refine z_aload_n C 0 rfl dJ4_fixAfterDeletion_93 rfl ?_
                        refine z_iconst C (v := (nI 0)) dJ4_fixAfterDeletion_94 rfl ?_
                        refine z_st (st' := [.int (zb false), .ref y1620]) rfl ?_
                        refine z_callS C (As := [.ref y1620, .int (zb false)]) (mJ4_setColor (o := (some y1620)) (c := false) hlp_0 (oM hm1652)) (lw_S q715 q716 q64 q717) hd_J4_setColor rfl (Nat.le_of_ble_eq_true rfl) (by decide) (by decide) (by decide) (by decide) rfl dJ4_fixAfterDeletion_95 (fun _ _ h => h.elim) (fun r2213 V2214 hP2215 => ?_)
                        obtain ⟨hW2216, hU2217⟩ := hP2215
                        refine z_st (st' := []) rfl ?_
                        have hU2218 := zUnc.tr (S := tC t L) hlp_2 hU2217 (fun _ h => Or.inl h)
                        change tW _ _ _ _ _ _ _ (va_up cl1 y1620 false) _ _ _ _ at hW2216
                        obtain ⟨cl2220, ec2219⟩ : ∃ q, q = va_up cl1 y1620 false := ⟨_, rfl⟩
                        rw [← ec2219] at hW2216
                        have k2221 : cl2220 y1620 = false := by rw [ec2219, zvs]
                        have nx2222 : x1 ≠ y1620 := (tI.sib hlp_1 hm21 k1610 hy1621)
                        have k2223 : cl2220 x1 = true := by rw [ec2219, zvn nx2222]; exact k37
                        have k2224 : cl2220 y1662 = true := by rw [ec2219, zvn nx1808]; exact k2202
                        refine z_aload_n C 2 rfl dJ4_fixAfterDeletion_98 rfl ?_
                        refine z_callS C (As := [.ref x1]) (mJ4_parentOf (o := (some x1)) hW2216 (oM hlp_3)) (lw_S q706 q707 q64 q708) hd_J4_parentOf rfl (Nat.le_of_ble_eq_true rfl) (by decide) (by decide) (by decide) (by decide) rfl dJ4_fixAfterDeletion_99 (fun _ _ h => h.elim) (fun r2225 V2226 hP2227 => ?_)
                        rw [hP2227.1, hP2227.2]
                        refine z_st (st' := [va_rf (pa1 x1)]) rfl ?_
                        refine z_top (v := .ref p) (congrArg va_rf (show (pa1 x1) = (some p) from (by rw [hp]))) ?_
                        refine z_astore_n C [(1, .ref p), (2, .ref y1620), (0, .ref t)] dJ4_fixAfterDeletion_102 rfl (by decide) rfl ?_
                        refine z_goto C 183 dJ4_fixAfterDeletion_103 (by decide) ?_
                        refine z_goto C 0 dJ4_fixAfterDeletion_183 (by decide) ?_
                        refine z_pick [(0, .ref t), (1, .ref p)] [2, 0] rfl ?_
                        have q1 := (hlp_1.mp hlp_3 hp).2
                        exact ih_lp V2214 rt1 lf1 rg1 pa1 cl2220 lo1 hi1 p hW2216 hlp_1 hU2218 hm21 (by omega)
                    · skip
                      obtain ⟨hm2228, hp2229, nx2230⟩ := hlp_1.mr hm1652 hy2207
                      refine z_callS C (As := [.ref y2206]) (mJ4_colorOf (o := (some y2206)) hlp_0 (oM hm2228)) (lw_S q703 q704 q64 q705) hd_J4_colorOf rfl (Nat.le_of_ble_eq_true rfl) (by decide) (by decide) (by decide) (by decide) rfl dJ4_fixAfterDeletion_86 (fun _ _ h => h.elim) (fun r2231 V2232 hP2233 => ?_)
                      rw [hP2233.1, hP2233.2]
                      refine z_st (st' := [.int (zb (cl1 y2206))]) rfl ?_
                      refine z_iconst C (v := (nI 1)) dJ4_fixAfterDeletion_89 rfl ?_
                      refine z_icmp_ne C 106 dJ4_fixAfterDeletion_90 (by decide) (fun c90 => ?_) (fun c90 => ?_)
                      · skip
                        have k2234 : (cl1 y2206) = false := zb1f c90
                        refine z_aload_n C 0 rfl dJ4_fixAfterDeletion_106 rfl ?_
                        refine z_callS C (As := [.ref y1620]) (mJ4_rightOf (o := (some y1620)) hlp_0 (oM hm1652)) (lw_S q712 q713 q64 q714) hd_J4_rightOf rfl (Nat.le_of_ble_eq_true rfl) (by decide) (by decide) (by decide) (by decide) rfl dJ4_fixAfterDeletion_107 (fun _ _ h => h.elim) (fun r2235 V2236 hP2237 => ?_)
                        rw [hP2237.1, hP2237.2]
                        refine z_st (st' := [va_rf (rg1 y1620)]) rfl ?_
                        refine z_top (v := .ref y2206) (congrArg va_rf (show (rg1 y1620) = (some y2206) from (by rw [hy2207]))) ?_
                        refine z_callS C (As := [.ref y2206]) (mJ4_colorOf (o := (some y2206)) hlp_0 (oM hm2228)) (lw_S q703 q704 q64 q705) hd_J4_colorOf rfl (Nat.le_of_ble_eq_true rfl) (by decide) (by decide) (by decide) (by decide) rfl dJ4_fixAfterDeletion_110 (fun _ _ h => h.elim) (fun r2238 V2239 hP2240 => ?_)
                        rw [hP2240.1, hP2240.2]
                        refine z_st (st' := [.int (zb (cl1 y2206))]) rfl ?_
                        refine z_top (v := .int (zb false)) (congrArg (fun c => Value.int (zb c)) (show (cl1 y2206) = false from (by rw [k2234]))) ?_
                        refine z_iconst C (v := (nI 1)) dJ4_fixAfterDeletion_113 rfl ?_
                        refine z_icmp_ne C 143 dJ4_fixAfterDeletion_114 (by decide) (fun c114 => ?_) (fun c114 => ?_)
                        · skip
                          have k2241 : false = false := zb1f c114
                          refine z_aload_n C 0 rfl dJ4_fixAfterDeletion_143 rfl ?_
                          refine z_aload_n C 2 rfl dJ4_fixAfterDeletion_144 rfl ?_
                          refine z_callS C (As := [.ref x1]) (mJ4_parentOf (o := (some x1)) hlp_0 (oM hlp_3)) (lw_S q706 q707 q64 q708) hd_J4_parentOf rfl (Nat.le_of_ble_eq_true rfl) (by decide) (by decide) (by decide) (by decide) rfl dJ4_fixAfterDeletion_145 (fun _ _ h => h.elim) (fun r2242 V2243 hP2244 => ?_)
                          rw [hP2244.1, hP2244.2]
                          refine z_st (st' := [va_rf (pa1 x1), .ref y1620]) rfl ?_
                          refine z_top (v := .ref p) (congrArg va_rf (show (pa1 x1) = (some p) from (by rw [hp]))) ?_
                          refine z_callS C (As := [.ref p]) (mJ4_colorOf (o := (some p)) hlp_0 (oM hm21)) (lw_S q703 q704 q64 q705) hd_J4_colorOf rfl (Nat.le_of_ble_eq_true rfl) (by decide) (by decide) (by decide) (by decide) rfl dJ4_fixAfterDeletion_148 (fun _ _ h => h.elim) (fun r2245 V2246 hP2247 => ?_)
                          rw [hP2247.1, hP2247.2]
                          refine z_st (st' := [.int (zb (cl1 p)), .ref y1620]) rfl ?_
                          refine z_callS C (As := [.ref y1620, .int (zb (cl1 p))]) (mJ4_setColor (o := (some y1620)) (c := (cl1 p)) hlp_0 (oM hm1652)) (lw_S q715 q716 q64 q717) hd_J4_setColor rfl (Nat.le_of_ble_eq_true rfl) (by decide) (by decide) (by decide) (by decide) rfl dJ4_fixAfterDeletion_151 (fun _ _ h => h.elim) (fun r2248 V2249 hP2250 => ?_)
                          obtain ⟨hW2251, hU2252⟩ := hP2250
                          refine z_st (st' := []) rfl ?_
                          have hU2253 := zUnc.tr (S := tC t L) hlp_2 hU2252 (fun _ h => Or.inl h)
                          change tW _ _ _ _ _ _ _ (va_up cl1 y1620 (cl1 p)) _ _ _ _ at hW2251
                          obtain ⟨cl2255, ec2254⟩ : ∃ q, q = va_up cl1 y1620 (cl1 p) := ⟨_, rfl⟩
                          rw [← ec2254] at hW2251
                          have k2256 : cl2255 y1620 = (cl1 p) := by rw [ec2254, zvs]
                          have nx2257 : x1 ≠ y1620 := (tI.sib hlp_1 hm21 k1610 hy1621)
                          have k2258 : cl2255 x1 = true := by rw [ec2254, zvn nx2257]; exact k37
                          have k2259 : cl2255 y1662 = true := by rw [ec2254, zvn nx1808]; exact k2202
                          have k2260 : cl2255 y2206 = false := by rw [ec2254, zvn nx2230]; exact k2234
                          refine z_aload_n C 2 rfl dJ4_fixAfterDeletion_154 rfl ?_
                          refine z_callS C (As := [.ref x1]) (mJ4_parentOf (o := (some x1)) hW2251 (oM hlp_3)) (lw_S q706 q707 q64 q708) hd_J4_parentOf rfl (Nat.le_of_ble_eq_true rfl) (by decide) (by decide) (by decide) (by decide) rfl dJ4_fixAfterDeletion_155 (fun _ _ h => h.elim) (fun r2261 V2262 hP2263 => ?_)
                          rw [hP2263.1, hP2263.2]
                          refine z_st (st' := [va_rf (pa1 x1)]) rfl ?_
                          refine z_top (v := .ref p) (congrArg va_rf (show (pa1 x1) = (some p) from (by rw [hp]))) ?_
                          refine z_iconst C (v := (nI 1)) dJ4_fixAfterDeletion_158 rfl ?_
                          refine z_st (st' := [.int (zb true), .ref p]) rfl ?_
                          refine z_callS C (As := [.ref p, .int (zb true)]) (mJ4_setColor (o := (some p)) (c := true) hW2251 (oM hm21)) (lw_S q715 q716 q64 q717) hd_J4_setColor rfl (Nat.le_of_ble_eq_true rfl) (by decide) (by decide) (by decide) (by decide) rfl dJ4_fixAfterDeletion_159 (fun _ _ h => h.elim) (fun r2264 V2265 hP2266 => ?_)
                          obtain ⟨hW2267, hU2268⟩ := hP2266
                          refine z_st (st' := []) rfl ?_
                          have hU2269 := zUnc.tr (S := tC t L) hU2253 hU2268 (fun _ h => Or.inl h)
                          change tW _ _ _ _ _ _ _ (va_up cl2255 p true) _ _ _ _ at hW2267
                          obtain ⟨cl2271, ec2270⟩ : ∃ q, q = va_up cl2255 p true := ⟨_, rfl⟩
                          rw [← ec2270] at hW2267
                          have k2272 : cl2271 p = true := by rw [ec2270, zvs]
                          have k2273 : cl2271 x1 = true := by rw [ec2270, zvn nx1613]; exact k2258
                          have nx2274 : y1662 ≠ p := (tI.gg hlp_1 hm1806 hp1807 hm1652 hp1653)
                          have k2275 : cl2271 y1662 = true := by rw [ec2270, zvn nx2274]; exact k2259
                          have nx2276 : y2206 ≠ p := (tI.gg hlp_1 hm2228 hp2229 hm1652 hp1653)
                          have k2277 : cl2271 y2206 = false := by rw [ec2270, zvn nx2276]; exact k2260
                          refine z_aload_n C 0 rfl dJ4_fixAfterDeletion_162 rfl ?_
                          refine z_callS C (As := [.ref y1620]) (mJ4_rightOf (o := (some y1620)) hW2267 (oM hm1652)) (lw_S q712 q713 q64 q714) hd_J4_rightOf rfl (Nat.le_of_ble_eq_true rfl) (by decide) (by decide) (by decide) (by decide) rfl dJ4_fixAfterDeletion_163 (fun _ _ h => h.elim) (fun r2278 V2279 hP2280 => ?_)
                          rw [hP2280.1, hP2280.2]
                          refine z_st (st' := [va_rf (rg1 y1620)]) rfl ?_
                          refine z_top (v := .ref y2206) (congrArg va_rf (show (rg1 y1620) = (some y2206) from (by rw [hy2207]))) ?_
                          refine z_iconst C (v := (nI 1)) dJ4_fixAfterDeletion_166 rfl ?_
                          refine z_st (st' := [.int (zb true), .ref y2206]) rfl ?_
                          refine z_callS C (As := [.ref y2206, .int (zb true)]) (mJ4_setColor (o := (some y2206)) (c := true) hW2267 (oM hm2228)) (lw_S q715 q716 q64 q717) hd_J4_setColor rfl (Nat.le_of_ble_eq_true rfl) (by decide) (by decide) (by decide) (by decide) rfl dJ4_fixAfterDeletion_167 (fun _ _ h => h.elim) (fun r2281 V2282 hP2283 => ?_)
                          obtain ⟨hW2284, hU2285⟩ := hP2283
                          refine z_st (st' := []) rfl ?_
                          have hU2286 := zUnc.tr (S := tC t L) hU2269 hU2285 (fun _ h => Or.inl h)
                          change tW _ _ _ _ _ _ _ (va_up cl2271 y2206 true) _ _ _ _ at hW2284
                          obtain ⟨cl2288, ec2287⟩ : ∃ q, q = va_up cl2271 y2206 true := ⟨_, rfl⟩
                          rw [← ec2287] at hW2284
                          have k2289 : cl2288 y2206 = true := by rw [ec2287, zvs]
                          have k2290 : cl2288 p = true := by rw [ec2287, zvn (Ne.symm nx2276)]; exact k2272
                          have nx2291 : x1 ≠ y2206 := (ne_pa hp hp2229 (Ne.symm nx1654))
                          have k2292 : cl2288 x1 = true := by rw [ec2287, zvn nx2291]; exact k2273
                          have nx2293 : y1662 ≠ y2206 := (tI.sib hlp_1 hm1652 hy1663 hy2207)
                          have k2294 : cl2288 y1662 = true := by rw [ec2287, zvn nx2293]; exact k2275
                          refine z_aload_n C 1 rfl dJ4_fixAfterDeletion_170 rfl ?_
                          refine z_aload_n C 2 rfl dJ4_fixAfterDeletion_171 rfl ?_
                          refine z_callS C (As := [.ref x1]) (mJ4_parentOf (o := (some x1)) hW2284 (oM hlp_3)) (lw_S q706 q707 q64 q708) hd_J4_parentOf rfl (Nat.le_of_ble_eq_true rfl) (by decide) (by decide) (by decide) (by decide) rfl dJ4_fixAfterDeletion_172 (fun _ _ h => h.elim) (fun r2295 V2296 hP2297 => ?_)
                          rw [hP2297.1, hP2297.2]
                          refine z_st (st' := [va_rf (pa1 x1), .ref t]) rfl ?_
                          refine z_top (v := .ref p) (congrArg va_rf (show (pa1 x1) = (some p) from (by rw [hp]))) ?_
                          refine z_callV C k_TM hW2284.1 (As := [.ref p]) (mJ4_rotateLeft hW2284 hlp_1 hm21 hy1621) (lw_V q718 q720 qs8 q64 q721) rfl hd_J4_rotateLeft rfl (Nat.le_of_ble_eq_true rfl) (by decide) (by decide) (by decide) (by decide) rfl dJ4_fixAfterDeletion_175 (fun _ _ h => h.elim) (fun r2298 V2299 hP2300 => ?_)
                          obtain ⟨hW2301, hU2302⟩ := hP2300
                          refine z_st (st' := []) rfl ?_
                          have hU2303 := zUnc.tr (S := tC t L) hU2286 hU2302 (fun _ h => Or.inl h)
                          have hI2304 := tI_rotL hlp_1 hm21 hy1621
                          obtain ⟨rg2311, eB2306⟩ : ∃ q, q = xR lf1 rg1 p y1620 := ⟨_, rfl⟩
                          rw [← eB2306] at hW2301 hI2304
                          obtain ⟨pa2312, eP2307⟩ : ∃ q, q = xP lf1 pa1 p y1620 := ⟨_, rfl⟩
                          rw [← eP2307] at hW2301 hI2304
                          obtain ⟨lf2313, eA2305⟩ : ∃ q, q = xL lf1 p y1620 := ⟨_, rfl⟩
                          rw [← eA2305] at hW2301 hI2304
                          obtain ⟨rt2314, eT2308⟩ : ∃ q, q = xT rt1 p y1620 := ⟨_, rfl⟩
                          rw [← eT2308] at hW2301 hI2304
                          obtain ⟨lo2315, elo2309⟩ : ∃ q, q = va_up lo1 y1620 (lo1 p) := ⟨_, rfl⟩
                          rw [← elo2309] at hI2304
                          obtain ⟨hi2316, ehi2310⟩ : ∃ q, q = va_up hi1 p (ps y1620) := ⟨_, rfl⟩
                          rw [← ehi2310] at hI2304
                          have k2317 : lf2313 y1620 = (some p) := by rw [eA2305]; exact xL_r
                          have k2318 : pa2312 p = (some y1620) := by rw [eP2307]; exact xP_p
                          have k2319 : rg2311 p = (some y1662) := by rw [eB2306, xR_p]; exact hy1663
                          have nx2320 : y1662 ≠ x1 := (ne_pa hp1807 hp nx1654)
                          have k2321 : pa2312 x1 = (some p) := by rw [eP2307, xP_o nx1613 nx2257 (so_ne hy1663 nx2320)]; exact hp
                          have k2322 : lf2313 p = (some x1) := by rw [eA2305, xL_o (Ne.symm nx1654) (so_ne k1610 nx1613)]; exact k1610
                          have k2323 : pa2312 y1662 = (some p) := by rw [eP2307]; exact xP_c nx2274 nx1808 hy1663
                          have k2324 : rg2311 y1620 = (some y2206) := by rw [eB2306, xR_o nx1654 (so_ne hy2207 nx2276)]; exact hy2207
                          have k2325 : pa2312 y2206 = (some y1620) := by rw [eP2307, xP_o nx2276 nx2230 (so_ne hy1663 nx2293)]; exact hp2229
                          refine z_aload_n C 1 rfl dJ4_fixAfterDeletion_178 rfl ?_
                          refine z_get C k_TM hW2301.1 3 (by decide) rfl q162 dJ4_fixAfterDeletion_179 ?_
                          refine z_astore_nQ C (r := rt2314) [(1, va_rf rt2314), (2, .ref y1620), (0, .ref t)] dJ4_fixAfterDeletion_182 rfl (by decide) rfl ?_
                          refine z_goto C 0 dJ4_fixAfterDeletion_183 (by decide) ?_
                          refine z_pick [(0, .ref t), (1, va_rf rt2314)] [2, 0] rfl ?_
                          obtain ⟨r02326, hr2327⟩ := hI2304.rtm hlp_3
                          obtain ⟨hm2328, hp2329, -, -⟩ := hI2304.2.1.1 r02326 hr2327
                          have e2330 : (va_rf rt2314 : Value) = .ref r02326 := (congrArg va_rf hr2327)
                          refine z_lv (lv' := [(0, .ref t), (1, .ref r02326)]) (by rw [e2330]) ?_
                          exact hexit V2299 rt2314 lf2313 rg2311 pa2312 cl2288 lo2315 hi2316 r02326 hW2301 hI2304 hU2303 hm2328 hr2327
                        · skip
                          have k2331 : false = true := zb1 c114
                          cases k2331
                      · skip
                        have k2332 : (cl1 y2206) = true := zb1 c90
                        refine z_aload_n C 0 rfl dJ4_fixAfterDeletion_93 rfl ?_
                        refine z_iconst C (v := (nI 0)) dJ4_fixAfterDeletion_94 rfl ?_
                        refine z_st (st' := [.int (zb false), .ref y1620]) rfl ?_
                        refine z_callS C (As := [.ref y1620, .int (zb false)]) (mJ4_setColor (o := (some y1620)) (c := false) hlp_0 (oM hm1652)) (lw_S q715 q716 q64 q717) hd_J4_setColor rfl (Nat.le_of_ble_eq_true rfl) (by decide) (by decide) (by decide) (by decide) rfl dJ4_fixAfterDeletion_95 (fun _ _ h => h.elim) (fun r2333 V2334 hP2335 => ?_)
                        obtain ⟨hW2336, hU2337⟩ := hP2335
                        refine z_st (st' := []) rfl ?_
                        have hU2338 := zUnc.tr (S := tC t L) hlp_2 hU2337 (fun _ h => Or.inl h)
                        change tW _ _ _ _ _ _ _ (va_up cl1 y1620 false) _ _ _ _ at hW2336
                        obtain ⟨cl2340, ec2339⟩ : ∃ q, q = va_up cl1 y1620 false := ⟨_, rfl⟩
                        rw [← ec2339] at hW2336
                        have k2341 : cl2340 y1620 = false := by rw [ec2339, zvs]
                        have nx2342 : x1 ≠ y1620 := (tI.sib hlp_1 hm21 k1610 hy1621)
                        have k2343 : cl2340 x1 = true := by rw [ec2339, zvn nx2342]; exact k37
                        have k2344 : cl2340 y1662 = true := by rw [ec2339, zvn nx1808]; exact k2202
                        have k2345 : cl2340 y2206 = true := by rw [ec2339, zvn nx2230]; exact k2332
                        refine z_aload_n C 2 rfl dJ4_fixAfterDeletion_98 rfl ?_
                        refine z_callS C (As := [.ref x1]) (mJ4_parentOf (o := (some x1)) hW2336 (oM hlp_3)) (lw_S q706 q707 q64 q708) hd_J4_parentOf rfl (Nat.le_of_ble_eq_true rfl) (by decide) (by decide) (by decide) (by decide) rfl dJ4_fixAfterDeletion_99 (fun _ _ h => h.elim) (fun r2346 V2347 hP2348 => ?_)
                        rw [hP2348.1, hP2348.2]
                        refine z_st (st' := [va_rf (pa1 x1)]) rfl ?_
                        refine z_top (v := .ref p) (congrArg va_rf (show (pa1 x1) = (some p) from (by rw [hp]))) ?_
                        refine z_astore_n C [(1, .ref p), (2, .ref y1620), (0, .ref t)] dJ4_fixAfterDeletion_102 rfl (by decide) rfl ?_
                        refine z_goto C 183 dJ4_fixAfterDeletion_103 (by decide) ?_
                        refine z_goto C 0 dJ4_fixAfterDeletion_183 (by decide) ?_
                        refine z_pick [(0, .ref t), (1, .ref p)] [2, 0] rfl ?_
                        have q1 := (hlp_1.mp hlp_3 hp).2
                        exact ih_lp V2334 rt1 lf1 rg1 pa1 cl2340 lo1 hi1 p hW2336 hlp_1 hU2338 hm21 (by omega)
              · skip
                have k2349 : (cl1 y1620) = false := c39
                refine z_aload_n C 0 rfl dJ4_fixAfterDeletion_42 rfl ?_
                refine z_iconst C (v := (nI 1)) dJ4_fixAfterDeletion_43 rfl ?_
                refine z_st (st' := [.int (zb true), .ref y1620]) rfl ?_
                refine z_callS C (As := [.ref y1620, .int (zb true)]) (mJ4_setColor (o := (some y1620)) (c := true) hlp_0 (oM hm1652)) (lw_S q715 q716 q64 q717) hd_J4_setColor rfl (Nat.le_of_ble_eq_true rfl) (by decide) (by decide) (by decide) (by decide) rfl dJ4_fixAfterDeletion_44 (fun _ _ h => h.elim) (fun r2350 V2351 hP2352 => ?_)
                obtain ⟨hW2353, hU2354⟩ := hP2352
                refine z_st (st' := []) rfl ?_
                have hU2355 := zUnc.tr (S := tC t L) hlp_2 hU2354 (fun _ h => Or.inl h)
                change tW _ _ _ _ _ _ _ (va_up cl1 y1620 true) _ _ _ _ at hW2353
                obtain ⟨cl2357, ec2356⟩ : ∃ q, q = va_up cl1 y1620 true := ⟨_, rfl⟩
                rw [← ec2356] at hW2353
                have k2358 : cl2357 y1620 = true := by rw [ec2356, zvs]
                have nx2359 : x1 ≠ y1620 := (tI.sib hlp_1 hm21 k1610 hy1621)
                have k2360 : cl2357 x1 = true := by rw [ec2356, zvn nx2359]; exact k37
                refine z_aload_n C 2 rfl dJ4_fixAfterDeletion_47 rfl ?_
                refine z_callS C (As := [.ref x1]) (mJ4_parentOf (o := (some x1)) hW2353 (oM hlp_3)) (lw_S q706 q707 q64 q708) hd_J4_parentOf rfl (Nat.le_of_ble_eq_true rfl) (by decide) (by decide) (by decide) (by decide) rfl dJ4_fixAfterDeletion_48 (fun _ _ h => h.elim) (fun r2361 V2362 hP2363 => ?_)
                rw [hP2363.1, hP2363.2]
                refine z_st (st' := [va_rf (pa1 x1)]) rfl ?_
                refine z_top (v := .ref p) (congrArg va_rf (show (pa1 x1) = (some p) from (by rw [hp]))) ?_
                refine z_iconst C (v := (nI 0)) dJ4_fixAfterDeletion_51 rfl ?_
                refine z_st (st' := [.int (zb false), .ref p]) rfl ?_
                refine z_callS C (As := [.ref p, .int (zb false)]) (mJ4_setColor (o := (some p)) (c := false) hW2353 (oM hm21)) (lw_S q715 q716 q64 q717) hd_J4_setColor rfl (Nat.le_of_ble_eq_true rfl) (by decide) (by decide) (by decide) (by decide) rfl dJ4_fixAfterDeletion_52 (fun _ _ h => h.elim) (fun r2364 V2365 hP2366 => ?_)
                obtain ⟨hW2367, hU2368⟩ := hP2366
                refine z_st (st' := []) rfl ?_
                have hU2369 := zUnc.tr (S := tC t L) hU2355 hU2368 (fun _ h => Or.inl h)
                change tW _ _ _ _ _ _ _ (va_up cl2357 p false) _ _ _ _ at hW2367
                obtain ⟨cl2371, ec2370⟩ : ∃ q, q = va_up cl2357 p false := ⟨_, rfl⟩
                rw [← ec2370] at hW2367
                have k2372 : cl2371 p = false := by rw [ec2370, zvs]
                have k2373 : cl2371 y1620 = true := by rw [ec2370, zvn nx1654]; exact k2358
                have k2374 : cl2371 x1 = true := by rw [ec2370, zvn nx1613]; exact k2360
                refine z_aload_n C 1 rfl dJ4_fixAfterDeletion_55 rfl ?_
                refine z_aload_n C 2 rfl dJ4_fixAfterDeletion_56 rfl ?_
                refine z_callS C (As := [.ref x1]) (mJ4_parentOf (o := (some x1)) hW2367 (oM hlp_3)) (lw_S q706 q707 q64 q708) hd_J4_parentOf rfl (Nat.le_of_ble_eq_true rfl) (by decide) (by decide) (by decide) (by decide) rfl dJ4_fixAfterDeletion_57 (fun _ _ h => h.elim) (fun r2375 V2376 hP2377 => ?_)
                rw [hP2377.1, hP2377.2]
                refine z_st (st' := [va_rf (pa1 x1), .ref t]) rfl ?_
                refine z_top (v := .ref p) (congrArg va_rf (show (pa1 x1) = (some p) from (by rw [hp]))) ?_
                refine z_callV C k_TM hW2367.1 (As := [.ref p]) (mJ4_rotateLeft hW2367 hlp_1 hm21 hy1621) (lw_V q718 q720 qs8 q64 q721) rfl hd_J4_rotateLeft rfl (Nat.le_of_ble_eq_true rfl) (by decide) (by decide) (by decide) (by decide) rfl dJ4_fixAfterDeletion_60 (fun _ _ h => h.elim) (fun r2378 V2379 hP2380 => ?_)
                obtain ⟨hW2381, hU2382⟩ := hP2380
                refine z_st (st' := []) rfl ?_
                have hU2383 := zUnc.tr (S := tC t L) hU2369 hU2382 (fun _ h => Or.inl h)
                have hI2384 := tI_rotL hlp_1 hm21 hy1621
                obtain ⟨rg2391, eB2386⟩ : ∃ q, q = xR lf1 rg1 p y1620 := ⟨_, rfl⟩
                rw [← eB2386] at hW2381 hI2384
                obtain ⟨pa2392, eP2387⟩ : ∃ q, q = xP lf1 pa1 p y1620 := ⟨_, rfl⟩
                rw [← eP2387] at hW2381 hI2384
                obtain ⟨lf2393, eA2385⟩ : ∃ q, q = xL lf1 p y1620 := ⟨_, rfl⟩
                rw [← eA2385] at hW2381 hI2384
                obtain ⟨rt2394, eT2388⟩ : ∃ q, q = xT rt1 p y1620 := ⟨_, rfl⟩
                rw [← eT2388] at hW2381 hI2384
                obtain ⟨lo2395, elo2389⟩ : ∃ q, q = va_up lo1 y1620 (lo1 p) := ⟨_, rfl⟩
                rw [← elo2389] at hI2384
                obtain ⟨hi2396, ehi2390⟩ : ∃ q, q = va_up hi1 p (ps y1620) := ⟨_, rfl⟩
                rw [← ehi2390] at hI2384
                have k2397 : lf2393 y1620 = (some p) := by rw [eA2385]; exact xL_r
                have k2398 : pa2392 p = (some y1620) := by rw [eP2387]; exact xP_p
                have k2399 : pa2392 x1 = (some p) := by rw [eP2387, xP_o nx1613 nx2359 (fun z => (Ne.symm nx1654) (Option.some.inj (hp.symm.trans (hlp_1.ml hm1652 z).2.1)))]; exact hp
                have k2400 : lf2393 p = (some x1) := by rw [eA2385, xL_o (Ne.symm nx1654) (so_ne k1610 nx1613)]; exact k1610
                refine z_aload_n C 2 rfl dJ4_fixAfterDeletion_63 rfl ?_
                refine z_callS C (As := [.ref x1]) (mJ4_parentOf (o := (some x1)) hW2381 (oM hlp_3)) (lw_S q706 q707 q64 q708) hd_J4_parentOf rfl (Nat.le_of_ble_eq_true rfl) (by decide) (by decide) (by decide) (by decide) rfl dJ4_fixAfterDeletion_64 (fun _ _ h => h.elim) (fun r2401 V2402 hP2403 => ?_)
                rw [hP2403.1, hP2403.2]
                refine z_st (st' := [va_rf (pa2392 x1)]) rfl ?_
                refine z_top (v := .ref p) (congrArg va_rf (show (pa2392 x1) = (some p) from (by rw [k2399]))) ?_
                refine z_callS C (As := [.ref p]) (mJ4_rightOf (o := (some p)) hW2381 (oM hm21)) (lw_S q712 q713 q64 q714) hd_J4_rightOf rfl (Nat.le_of_ble_eq_true rfl) (by decide) (by decide) (by decide) (by decide) rfl dJ4_fixAfterDeletion_67 (fun _ _ h => h.elim) (fun r2404 V2405 hP2406 => ?_)
                rw [hP2406.1, hP2406.2]
                refine z_st (st' := [va_rf (rg2391 p)]) rfl ?_
                refine z_astore_nQ C (r := (rg2391 p)) [(2, va_rf (rg2391 p)), (0, .ref t), (1, .ref x1)] dJ4_fixAfterDeletion_70 rfl (by decide) rfl ?_
                refine z_aload_nQ C 0 (r := (rg2391 p)) rfl dJ4_fixAfterDeletion_71 rfl ?_
                rcases hy2408 : rg2391 p with _ | y2407
                · skip
                  refine z_callS C (As := [.null]) (mJ4_leftOf (o := none) hW2381 oN) (lw_S q709 q710 q64 q711) hd_J4_leftOf rfl (Nat.le_of_ble_eq_true rfl) (by decide) (by decide) (by decide) (by decide) rfl dJ4_fixAfterDeletion_72 (fun _ _ h => h.elim) (fun r2409 V2410 hP2411 => ?_)
                  rw [hP2411.1, hP2411.2]
                  refine z_st (st' := [.null]) rfl ?_
                  refine z_callS C (As := [.null]) (mJ4_colorOf (o := none) hW2381 oN) (lw_S q703 q704 q64 q705) hd_J4_colorOf rfl (Nat.le_of_ble_eq_true rfl) (by decide) (by decide) (by decide) (by decide) rfl dJ4_fixAfterDeletion_75 (fun _ _ h => h.elim) (fun r2412 V2413 hP2414 => ?_)
                  rw [hP2414.1, hP2414.2]
                  refine z_st (st' := [.int (zb true)]) rfl ?_
                  refine z_iconst C (v := (nI 1)) dJ4_fixAfterDeletion_78 rfl ?_
                  refine z_icmp_ne C 106 dJ4_fixAfterDeletion_79 (by decide) (fun c79 => ?_) (fun c79 => ?_)
                  · skip
                    have k2415 : true = false := zb1f c79
                    cases k2415
                  · skip
                    have k2416 : true = true := zb1 c79
                    refine z_aload_nQ C 0 (r := none) rfl dJ4_fixAfterDeletion_82 rfl ?_
                    refine z_callS C (As := [.null]) (mJ4_rightOf (o := none) hW2381 oN) (lw_S q712 q713 q64 q714) hd_J4_rightOf rfl (Nat.le_of_ble_eq_true rfl) (by decide) (by decide) (by decide) (by decide) rfl dJ4_fixAfterDeletion_83 (fun _ _ h => h.elim) (fun r2417 V2418 hP2419 => ?_)
                    rw [hP2419.1, hP2419.2]
                    refine z_st (st' := [.null]) rfl ?_
                    refine z_callS C (As := [.null]) (mJ4_colorOf (o := none) hW2381 oN) (lw_S q703 q704 q64 q705) hd_J4_colorOf rfl (Nat.le_of_ble_eq_true rfl) (by decide) (by decide) (by decide) (by decide) rfl dJ4_fixAfterDeletion_86 (fun _ _ h => h.elim) (fun r2420 V2421 hP2422 => ?_)
                    rw [hP2422.1, hP2422.2]
                    refine z_st (st' := [.int (zb true)]) rfl ?_
                    refine z_iconst C (v := (nI 1)) dJ4_fixAfterDeletion_89 rfl ?_
                    refine z_icmp_ne C 106 dJ4_fixAfterDeletion_90 (by decide) (fun c90 => ?_) (fun c90 => ?_)
                    · skip
                      have k2423 : true = false := zb1f c90
                      cases k2423
                    · skip
                      have k2424 : true = true := zb1 c90
                      refine z_aload_nQ C 0 (r := none) rfl dJ4_fixAfterDeletion_93 rfl ?_
                      refine z_iconst C (v := (nI 0)) dJ4_fixAfterDeletion_94 rfl ?_
                      refine z_st (st' := [.int (zb false), .null]) rfl ?_
                      refine z_callS C (As := [.null, .int (zb false)]) (mJ4_setColor (o := none) (c := false) hW2381 oN) (lw_S q715 q716 q64 q717) hd_J4_setColor rfl (Nat.le_of_ble_eq_true rfl) (by decide) (by decide) (by decide) (by decide) rfl dJ4_fixAfterDeletion_95 (fun _ _ h => h.elim) (fun r2425 V2426 hP2427 => ?_)
                      obtain ⟨hW2428, hU2429⟩ := hP2427
                      refine z_st (st' := []) rfl ?_
                      have hU2430 := zUnc.tr (S := tC t L) hU2383 hU2429 (fun _ h => Or.inl h)
                      change tW _ _ _ _ _ _ _ cl2371 _ _ _ _ at hW2428
                      refine z_aload_n C 2 rfl dJ4_fixAfterDeletion_98 rfl ?_
                      refine z_callS C (As := [.ref x1]) (mJ4_parentOf (o := (some x1)) hW2428 (oM hlp_3)) (lw_S q706 q707 q64 q708) hd_J4_parentOf rfl (Nat.le_of_ble_eq_true rfl) (by decide) (by decide) (by decide) (by decide) rfl dJ4_fixAfterDeletion_99 (fun _ _ h => h.elim) (fun r2431 V2432 hP2433 => ?_)
                      rw [hP2433.1, hP2433.2]
                      refine z_st (st' := [va_rf (pa2392 x1)]) rfl ?_
                      refine z_top (v := .ref p) (congrArg va_rf (show (pa2392 x1) = (some p) from (by rw [k2399]))) ?_
                      refine z_astore_n C [(1, .ref p), (2, .null), (0, .ref t)] dJ4_fixAfterDeletion_102 rfl (by decide) rfl ?_
                      refine z_goto C 183 dJ4_fixAfterDeletion_103 (by decide) ?_
                      refine z_goto C 0 dJ4_fixAfterDeletion_183 (by decide) ?_
                      refine z_pick [(0, .ref t), (1, .ref p)] [2, 0] rfl ?_
                      have q1 := (hI2384.mp hlp_3 k2399).2
                      have qa := congrFun elo2389 x1
                      rw [zvn nx2359] at qa
                      have qb := congrFun ehi2390 x1
                      rw [zvn nx1613] at qb
                      exact ih_lp V2426 rt2394 lf2393 rg2391 pa2392 cl2371 lo2395 hi2396 p hW2428 hI2384 hU2430 hm21 (by omega)
                · skip
                  obtain ⟨hm2434, hp2435, nx2436⟩ := hI2384.mr hm21 hy2408
                  refine z_callS C (As := [.ref y2407]) (mJ4_leftOf (o := (some y2407)) hW2381 (oM hm2434)) (lw_S q709 q710 q64 q711) hd_J4_leftOf rfl (Nat.le_of_ble_eq_true rfl) (by decide) (by decide) (by decide) (by decide) rfl dJ4_fixAfterDeletion_72 (fun _ _ h => h.elim) (fun r2437 V2438 hP2439 => ?_)
                  rw [hP2439.1, hP2439.2]
                  refine z_st (st' := [va_rf (lf2393 y2407)]) rfl ?_
                  rcases hy2441 : lf2393 y2407 with _ | y2440
                  · skip
                    refine z_callS C (As := [.null]) (mJ4_colorOf (o := none) hW2381 oN) (lw_S q703 q704 q64 q705) hd_J4_colorOf rfl (Nat.le_of_ble_eq_true rfl) (by decide) (by decide) (by decide) (by decide) rfl dJ4_fixAfterDeletion_75 (fun _ _ h => h.elim) (fun r2442 V2443 hP2444 => ?_)
                    rw [hP2444.1, hP2444.2]
                    refine z_st (st' := [.int (zb true)]) rfl ?_
                    refine z_iconst C (v := (nI 1)) dJ4_fixAfterDeletion_78 rfl ?_
                    refine z_icmp_ne C 106 dJ4_fixAfterDeletion_79 (by decide) (fun c79 => ?_) (fun c79 => ?_)
                    · skip
                      have k2445 : true = false := zb1f c79
                      cases k2445
                    · skip
                      have k2446 : true = true := zb1 c79
                      refine z_aload_n C 0 rfl dJ4_fixAfterDeletion_82 rfl ?_
                      refine z_callS C (As := [.ref y2407]) (mJ4_rightOf (o := (some y2407)) hW2381 (oM hm2434)) (lw_S q712 q713 q64 q714) hd_J4_rightOf rfl (Nat.le_of_ble_eq_true rfl) (by decide) (by decide) (by decide) (by decide) rfl dJ4_fixAfterDeletion_83 (fun _ _ h => h.elim) (fun r2447 V2448 hP2449 => ?_)
                      rw [hP2449.1, hP2449.2]
                      refine z_st (st' := [va_rf (rg2391 y2407)]) rfl ?_
                      rcases hy2451 : rg2391 y2407 with _ | y2450
                      · skip
                        refine z_callS C (As := [.null]) (mJ4_colorOf (o := none) hW2381 oN) (lw_S q703 q704 q64 q705) hd_J4_colorOf rfl (Nat.le_of_ble_eq_true rfl) (by decide) (by decide) (by decide) (by decide) rfl dJ4_fixAfterDeletion_86 (fun _ _ h => h.elim) (fun r2452 V2453 hP2454 => ?_)
                        rw [hP2454.1, hP2454.2]
                        refine z_st (st' := [.int (zb true)]) rfl ?_
                        refine z_iconst C (v := (nI 1)) dJ4_fixAfterDeletion_89 rfl ?_
                        refine z_icmp_ne C 106 dJ4_fixAfterDeletion_90 (by decide) (fun c90 => ?_) (fun c90 => ?_)
                        · skip
                          have k2455 : true = false := zb1f c90
                          cases k2455
                        · skip
                          have k2456 : true = true := zb1 c90
                          refine z_aload_n C 0 rfl dJ4_fixAfterDeletion_93 rfl ?_
                          refine z_iconst C (v := (nI 0)) dJ4_fixAfterDeletion_94 rfl ?_
                          refine z_st (st' := [.int (zb false), .ref y2407]) rfl ?_
                          refine z_callS C (As := [.ref y2407, .int (zb false)]) (mJ4_setColor (o := (some y2407)) (c := false) hW2381 (oM hm2434)) (lw_S q715 q716 q64 q717) hd_J4_setColor rfl (Nat.le_of_ble_eq_true rfl) (by decide) (by decide) (by decide) (by decide) rfl dJ4_fixAfterDeletion_95 (fun _ _ h => h.elim) (fun r2457 V2458 hP2459 => ?_)
                          obtain ⟨hW2460, hU2461⟩ := hP2459
                          refine z_st (st' := []) rfl ?_
                          have hU2462 := zUnc.tr (S := tC t L) hU2383 hU2461 (fun _ h => Or.inl h)
                          change tW _ _ _ _ _ _ _ (va_up cl2371 y2407 false) _ _ _ _ at hW2460
                          obtain ⟨cl2464, ec2463⟩ : ∃ q, q = va_up cl2371 y2407 false := ⟨_, rfl⟩
                          rw [← ec2463] at hW2460
                          have k2465 : cl2464 y2407 = false := by rw [ec2463, zvs]
                          have k2466 : cl2464 p = false := by rw [ec2463, zvn (Ne.symm nx2436)]; exact k2372
                          have nx2467 : y1620 ≠ y2407 := (Ne.symm (tI.gg hI2384 hm2434 hp2435 hm21 k2398))
                          have k2468 : cl2464 y1620 = true := by rw [ec2463, zvn nx2467]; exact k2373
                          have nx2469 : x1 ≠ y2407 := (tI.sib hI2384 hm21 k2400 hy2408)
                          have k2470 : cl2464 x1 = true := by rw [ec2463, zvn nx2469]; exact k2374
                          refine z_aload_n C 2 rfl dJ4_fixAfterDeletion_98 rfl ?_
                          refine z_callS C (As := [.ref x1]) (mJ4_parentOf (o := (some x1)) hW2460 (oM hlp_3)) (lw_S q706 q707 q64 q708) hd_J4_parentOf rfl (Nat.le_of_ble_eq_true rfl) (by decide) (by decide) (by decide) (by decide) rfl dJ4_fixAfterDeletion_99 (fun _ _ h => h.elim) (fun r2471 V2472 hP2473 => ?_)
                          rw [hP2473.1, hP2473.2]
                          refine z_st (st' := [va_rf (pa2392 x1)]) rfl ?_
                          refine z_top (v := .ref p) (congrArg va_rf (show (pa2392 x1) = (some p) from (by rw [k2399]))) ?_
                          refine z_astore_n C [(1, .ref p), (2, .ref y2407), (0, .ref t)] dJ4_fixAfterDeletion_102 rfl (by decide) rfl ?_
                          refine z_goto C 183 dJ4_fixAfterDeletion_103 (by decide) ?_
                          refine z_goto C 0 dJ4_fixAfterDeletion_183 (by decide) ?_
                          refine z_pick [(0, .ref t), (1, .ref p)] [2, 0] rfl ?_
                          have q1 := (hI2384.mp hlp_3 k2399).2
                          have qa := congrFun elo2389 x1
                          rw [zvn nx2359] at qa
                          have qb := congrFun ehi2390 x1
                          rw [zvn nx1613] at qb
                          exact ih_lp V2458 rt2394 lf2393 rg2391 pa2392 cl2464 lo2395 hi2396 p hW2460 hI2384 hU2462 hm21 (by omega)
                      · skip
                        obtain ⟨hm2474, hp2475, nx2476⟩ := hI2384.mr hm2434 hy2451
                        refine z_callS C (As := [.ref y2450]) (mJ4_colorOf (o := (some y2450)) hW2381 (oM hm2474)) (lw_S q703 q704 q64 q705) hd_J4_colorOf rfl (Nat.le_of_ble_eq_true rfl) (by decide) (by decide) (by decide) (by decide) rfl dJ4_fixAfterDeletion_86 (fun _ _ h => h.elim) (fun r2477 V2478 hP2479 => ?_)
                        rw [hP2479.1, hP2479.2]
                        refine z_st (st' := [.int (zb (cl2371 y2450))]) rfl ?_
                        refine z_iconst C (v := (nI 1)) dJ4_fixAfterDeletion_89 rfl ?_
                        refine z_icmp_ne C 106 dJ4_fixAfterDeletion_90 (by decide) (fun c90 => ?_) (fun c90 => ?_)
                        · skip
                          have k2480 : (cl2371 y2450) = false := zb1f c90
                          refine z_aload_n C 0 rfl dJ4_fixAfterDeletion_106 rfl ?_
                          refine z_callS C (As := [.ref y2407]) (mJ4_rightOf (o := (some y2407)) hW2381 (oM hm2434)) (lw_S q712 q713 q64 q714) hd_J4_rightOf rfl (Nat.le_of_ble_eq_true rfl) (by decide) (by decide) (by decide) (by decide) rfl dJ4_fixAfterDeletion_107 (fun _ _ h => h.elim) (fun r2481 V2482 hP2483 => ?_)
                          rw [hP2483.1, hP2483.2]
                          refine z_st (st' := [va_rf (rg2391 y2407)]) rfl ?_
                          refine z_top (v := .ref y2450) (congrArg va_rf (show (rg2391 y2407) = (some y2450) from (by rw [hy2451]))) ?_
                          refine z_callS C (As := [.ref y2450]) (mJ4_colorOf (o := (some y2450)) hW2381 (oM hm2474)) (lw_S q703 q704 q64 q705) hd_J4_colorOf rfl (Nat.le_of_ble_eq_true rfl) (by decide) (by decide) (by decide) (by decide) rfl dJ4_fixAfterDeletion_110 (fun _ _ h => h.elim) (fun r2484 V2485 hP2486 => ?_)
                          rw [hP2486.1, hP2486.2]
                          refine z_st (st' := [.int (zb (cl2371 y2450))]) rfl ?_
                          refine z_top (v := .int (zb false)) (congrArg (fun c => Value.int (zb c)) (show (cl2371 y2450) = false from (by rw [k2480]))) ?_
                          refine z_iconst C (v := (nI 1)) dJ4_fixAfterDeletion_113 rfl ?_
                          refine z_icmp_ne C 143 dJ4_fixAfterDeletion_114 (by decide) (fun c114 => ?_) (fun c114 => ?_)
                          · skip
                            have k2487 : false = false := zb1f c114
                            refine z_aload_n C 0 rfl dJ4_fixAfterDeletion_143 rfl ?_
                            refine z_aload_n C 2 rfl dJ4_fixAfterDeletion_144 rfl ?_
                            refine z_callS C (As := [.ref x1]) (mJ4_parentOf (o := (some x1)) hW2381 (oM hlp_3)) (lw_S q706 q707 q64 q708) hd_J4_parentOf rfl (Nat.le_of_ble_eq_true rfl) (by decide) (by decide) (by decide) (by decide) rfl dJ4_fixAfterDeletion_145 (fun _ _ h => h.elim) (fun r2488 V2489 hP2490 => ?_)
                            rw [hP2490.1, hP2490.2]
                            refine z_st (st' := [va_rf (pa2392 x1), .ref y2407]) rfl ?_
                            refine z_top (v := .ref p) (congrArg va_rf (show (pa2392 x1) = (some p) from (by rw [k2399]))) ?_
                            refine z_callS C (As := [.ref p]) (mJ4_colorOf (o := (some p)) hW2381 (oM hm21)) (lw_S q703 q704 q64 q705) hd_J4_colorOf rfl (Nat.le_of_ble_eq_true rfl) (by decide) (by decide) (by decide) (by decide) rfl dJ4_fixAfterDeletion_148 (fun _ _ h => h.elim) (fun r2491 V2492 hP2493 => ?_)
                            rw [hP2493.1, hP2493.2]
                            refine z_st (st' := [.int (zb (cl2371 p)), .ref y2407]) rfl ?_
                            refine z_top (v := .int (zb false)) (congrArg (fun c => Value.int (zb c)) (show (cl2371 p) = false from (by rw [k2372]))) ?_
                            refine z_callS C (As := [.ref y2407, .int (zb false)]) (mJ4_setColor (o := (some y2407)) (c := false) hW2381 (oM hm2434)) (lw_S q715 q716 q64 q717) hd_J4_setColor rfl (Nat.le_of_ble_eq_true rfl) (by decide) (by decide) (by decide) (by decide) rfl dJ4_fixAfterDeletion_151 (fun _ _ h => h.elim) (fun r2494 V2495 hP2496 => ?_)
                            obtain ⟨hW2497, hU2498⟩ := hP2496
                            refine z_st (st' := []) rfl ?_
                            have hU2499 := zUnc.tr (S := tC t L) hU2383 hU2498 (fun _ h => Or.inl h)
                            change tW _ _ _ _ _ _ _ (va_up cl2371 y2407 false) _ _ _ _ at hW2497
                            obtain ⟨cl2501, ec2500⟩ : ∃ q, q = va_up cl2371 y2407 false := ⟨_, rfl⟩
                            rw [← ec2500] at hW2497
                            have k2502 : cl2501 y2407 = false := by rw [ec2500, zvs]
                            have k2503 : cl2501 p = false := by rw [ec2500, zvn (Ne.symm nx2436)]; exact k2372
                            have nx2504 : y1620 ≠ y2407 := (Ne.symm (tI.gg hI2384 hm2434 hp2435 hm21 k2398))
                            have k2505 : cl2501 y1620 = true := by rw [ec2500, zvn nx2504]; exact k2373
                            have nx2506 : x1 ≠ y2407 := (tI.sib hI2384 hm21 k2400 hy2408)
                            have k2507 : cl2501 x1 = true := by rw [ec2500, zvn nx2506]; exact k2374
                            have k2508 : cl2501 y2450 = false := by rw [ec2500, zvn nx2476]; exact k2480
                            refine z_aload_n C 2 rfl dJ4_fixAfterDeletion_154 rfl ?_
                            refine z_callS C (As := [.ref x1]) (mJ4_parentOf (o := (some x1)) hW2497 (oM hlp_3)) (lw_S q706 q707 q64 q708) hd_J4_parentOf rfl (Nat.le_of_ble_eq_true rfl) (by decide) (by decide) (by decide) (by decide) rfl dJ4_fixAfterDeletion_155 (fun _ _ h => h.elim) (fun r2509 V2510 hP2511 => ?_)
                            rw [hP2511.1, hP2511.2]
                            refine z_st (st' := [va_rf (pa2392 x1)]) rfl ?_
                            refine z_top (v := .ref p) (congrArg va_rf (show (pa2392 x1) = (some p) from (by rw [k2399]))) ?_
                            refine z_iconst C (v := (nI 1)) dJ4_fixAfterDeletion_158 rfl ?_
                            refine z_st (st' := [.int (zb true), .ref p]) rfl ?_
                            refine z_callS C (As := [.ref p, .int (zb true)]) (mJ4_setColor (o := (some p)) (c := true) hW2497 (oM hm21)) (lw_S q715 q716 q64 q717) hd_J4_setColor rfl (Nat.le_of_ble_eq_true rfl) (by decide) (by decide) (by decide) (by decide) rfl dJ4_fixAfterDeletion_159 (fun _ _ h => h.elim) (fun r2512 V2513 hP2514 => ?_)
                            obtain ⟨hW2515, hU2516⟩ := hP2514
                            refine z_st (st' := []) rfl ?_
                            have hU2517 := zUnc.tr (S := tC t L) hU2499 hU2516 (fun _ h => Or.inl h)
                            change tW _ _ _ _ _ _ _ (va_up cl2501 p true) _ _ _ _ at hW2515
                            obtain ⟨cl2519, ec2518⟩ : ∃ q, q = va_up cl2501 p true := ⟨_, rfl⟩
                            rw [← ec2518] at hW2515
                            have k2520 : cl2519 p = true := by rw [ec2518, zvs]
                            have k2521 : cl2519 y2407 = false := by rw [ec2518, zvn nx2436]; exact k2502
                            have k2522 : cl2519 y1620 = true := by rw [ec2518, zvn nx1654]; exact k2505
                            have k2523 : cl2519 x1 = true := by rw [ec2518, zvn nx1613]; exact k2507
                            have nx2524 : y2450 ≠ p := (tI.gg hI2384 hm2474 hp2475 hm2434 hp2435)
                            have k2525 : cl2519 y2450 = false := by rw [ec2518, zvn nx2524]; exact k2508
                            refine z_aload_n C 0 rfl dJ4_fixAfterDeletion_162 rfl ?_
                            refine z_callS C (As := [.ref y2407]) (mJ4_rightOf (o := (some y2407)) hW2515 (oM hm2434)) (lw_S q712 q713 q64 q714) hd_J4_rightOf rfl (Nat.le_of_ble_eq_true rfl) (by decide) (by decide) (by decide) (by decide) rfl dJ4_fixAfterDeletion_163 (fun _ _ h => h.elim) (fun r2526 V2527 hP2528 => ?_)
                            rw [hP2528.1, hP2528.2]
                            refine z_st (st' := [va_rf (rg2391 y2407)]) rfl ?_
                            refine z_top (v := .ref y2450) (congrArg va_rf (show (rg2391 y2407) = (some y2450) from (by rw [hy2451]))) ?_
                            refine z_iconst C (v := (nI 1)) dJ4_fixAfterDeletion_166 rfl ?_
                            refine z_st (st' := [.int (zb true), .ref y2450]) rfl ?_
                            refine z_callS C (As := [.ref y2450, .int (zb true)]) (mJ4_setColor (o := (some y2450)) (c := true) hW2515 (oM hm2474)) (lw_S q715 q716 q64 q717) hd_J4_setColor rfl (Nat.le_of_ble_eq_true rfl) (by decide) (by decide) (by decide) (by decide) rfl dJ4_fixAfterDeletion_167 (fun _ _ h => h.elim) (fun r2529 V2530 hP2531 => ?_)
                            obtain ⟨hW2532, hU2533⟩ := hP2531
                            refine z_st (st' := []) rfl ?_
                            have hU2534 := zUnc.tr (S := tC t L) hU2517 hU2533 (fun _ h => Or.inl h)
                            change tW _ _ _ _ _ _ _ (va_up cl2519 y2450 true) _ _ _ _ at hW2532
                            obtain ⟨cl2536, ec2535⟩ : ∃ q, q = va_up cl2519 y2450 true := ⟨_, rfl⟩
                            rw [← ec2535] at hW2532
                            have k2537 : cl2536 y2450 = true := by rw [ec2535, zvs]
                            have k2538 : cl2536 p = true := by rw [ec2535, zvn (Ne.symm nx2524)]; exact k2520
                            have k2539 : cl2536 y2407 = false := by rw [ec2535, zvn (Ne.symm nx2476)]; exact k2521
                            have nx2540 : x1 ≠ y2450 := (ne_pa k2399 hp2475 (Ne.symm nx2436))
                            have k2541 : cl2536 x1 = true := by rw [ec2535, zvn nx2540]; exact k2523
                            refine z_aload_n C 1 rfl dJ4_fixAfterDeletion_170 rfl ?_
                            refine z_aload_n C 2 rfl dJ4_fixAfterDeletion_171 rfl ?_
                            refine z_callS C (As := [.ref x1]) (mJ4_parentOf (o := (some x1)) hW2532 (oM hlp_3)) (lw_S q706 q707 q64 q708) hd_J4_parentOf rfl (Nat.le_of_ble_eq_true rfl) (by decide) (by decide) (by decide) (by decide) rfl dJ4_fixAfterDeletion_172 (fun _ _ h => h.elim) (fun r2542 V2543 hP2544 => ?_)
                            rw [hP2544.1, hP2544.2]
                            refine z_st (st' := [va_rf (pa2392 x1), .ref t]) rfl ?_
                            refine z_top (v := .ref p) (congrArg va_rf (show (pa2392 x1) = (some p) from (by rw [k2399]))) ?_
                            refine z_callV C k_TM hW2532.1 (As := [.ref p]) (mJ4_rotateLeft hW2532 hI2384 hm21 hy2408) (lw_V q718 q720 qs8 q64 q721) rfl hd_J4_rotateLeft rfl (Nat.le_of_ble_eq_true rfl) (by decide) (by decide) (by decide) (by decide) rfl dJ4_fixAfterDeletion_175 (fun _ _ h => h.elim) (fun r2545 V2546 hP2547 => ?_)
                            obtain ⟨hW2548, hU2549⟩ := hP2547
                            refine z_st (st' := []) rfl ?_
                            have hU2550 := zUnc.tr (S := tC t L) hU2534 hU2549 (fun _ h => Or.inl h)
                            have hI2551 := tI_rotL hI2384 hm21 hy2408
                            obtain ⟨rg2558, eB2553⟩ : ∃ q, q = xR lf2393 rg2391 p y2407 := ⟨_, rfl⟩
                            rw [← eB2553] at hW2548 hI2551
                            obtain ⟨pa2559, eP2554⟩ : ∃ q, q = xP lf2393 pa2392 p y2407 := ⟨_, rfl⟩
                            rw [← eP2554] at hW2548 hI2551
                            obtain ⟨lf2560, eA2552⟩ : ∃ q, q = xL lf2393 p y2407 := ⟨_, rfl⟩
                            rw [← eA2552] at hW2548 hI2551
                            obtain ⟨rt2561, eT2555⟩ : ∃ q, q = xT rt2394 p y2407 := ⟨_, rfl⟩
                            rw [← eT2555] at hW2548 hI2551
                            obtain ⟨lo2562, elo2556⟩ : ∃ q, q = va_up lo2395 y2407 (lo2395 p) := ⟨_, rfl⟩
                            rw [← elo2556] at hI2551
                            obtain ⟨hi2563, ehi2557⟩ : ∃ q, q = va_up hi2396 p (ps y2407) := ⟨_, rfl⟩
                            rw [← ehi2557] at hI2551
                            have k2564 : lf2560 y2407 = (some p) := by rw [eA2552]; exact xL_r
                            have k2565 : pa2559 p = (some y2407) := by rw [eP2554]; exact xP_p
                            have k2566 : rg2558 p = none := by rw [eB2553, xR_p]; exact hy2441
                            have k2567 : pa2559 y2407 = (some y1620) := by rw [eP2554, xP_r nx2436]; exact k2398
                            have k2568 : lf2560 y1620 = (some y2407) := by rw [eA2552]; exact xL_u nx2504 k2397
                            have k2569 : pa2559 x1 = (some p) := by rw [eP2554, xP_o nx1613 nx2506 (sn_ne hy2441)]; exact k2399
                            have k2570 : lf2560 p = (some x1) := by rw [eA2552, xL_o (Ne.symm nx2436) (so_ne k2400 nx1613)]; exact k2400
                            have k2571 : rg2558 y2407 = (some y2450) := by rw [eB2553, xR_o nx2436 (so_ne hy2451 nx2524)]; exact hy2451
                            have k2572 : pa2559 y2450 = (some y2407) := by rw [eP2554, xP_o nx2524 nx2476 (sn_ne hy2441)]; exact hp2475
                            refine z_aload_n C 1 rfl dJ4_fixAfterDeletion_178 rfl ?_
                            refine z_get C k_TM hW2548.1 3 (by decide) rfl q162 dJ4_fixAfterDeletion_179 ?_
                            refine z_astore_nQ C (r := rt2561) [(1, va_rf rt2561), (2, .ref y2407), (0, .ref t)] dJ4_fixAfterDeletion_182 rfl (by decide) rfl ?_
                            refine z_goto C 0 dJ4_fixAfterDeletion_183 (by decide) ?_
                            refine z_pick [(0, .ref t), (1, va_rf rt2561)] [2, 0] rfl ?_
                            obtain ⟨r02573, hr2574⟩ := hI2551.rtm hlp_3
                            obtain ⟨hm2575, hp2576, -, -⟩ := hI2551.2.1.1 r02573 hr2574
                            have e2577 : (va_rf rt2561 : Value) = .ref r02573 := (congrArg va_rf hr2574)
                            refine z_lv (lv' := [(0, .ref t), (1, .ref r02573)]) (by rw [e2577]) ?_
                            exact hexit V2546 rt2561 lf2560 rg2558 pa2559 cl2536 lo2562 hi2563 r02573 hW2548 hI2551 hU2550 hm2575 hr2574
                          · skip
                            have k2578 : false = true := zb1 c114
                            cases k2578
                        · skip
                          have k2579 : (cl2371 y2450) = true := zb1 c90
                          refine z_aload_n C 0 rfl dJ4_fixAfterDeletion_93 rfl ?_
                          refine z_iconst C (v := (nI 0)) dJ4_fixAfterDeletion_94 rfl ?_
                          refine z_st (st' := [.int (zb false), .ref y2407]) rfl ?_
                          refine z_callS C (As := [.ref y2407, .int (zb false)]) (mJ4_setColor (o := (some y2407)) (c := false) hW2381 (oM hm2434)) (lw_S q715 q716 q64 q717) hd_J4_setColor rfl (Nat.le_of_ble_eq_true rfl) (by decide) (by decide) (by decide) (by decide) rfl dJ4_fixAfterDeletion_95 (fun _ _ h => h.elim) (fun r2580 V2581 hP2582 => ?_)
                          obtain ⟨hW2583, hU2584⟩ := hP2582
                          refine z_st (st' := []) rfl ?_
                          have hU2585 := zUnc.tr (S := tC t L) hU2383 hU2584 (fun _ h => Or.inl h)
                          change tW _ _ _ _ _ _ _ (va_up cl2371 y2407 false) _ _ _ _ at hW2583
                          obtain ⟨cl2587, ec2586⟩ : ∃ q, q = va_up cl2371 y2407 false := ⟨_, rfl⟩
                          rw [← ec2586] at hW2583
                          have k2588 : cl2587 y2407 = false := by rw [ec2586, zvs]
                          have k2589 : cl2587 p = false := by rw [ec2586, zvn (Ne.symm nx2436)]; exact k2372
                          have nx2590 : y1620 ≠ y2407 := (Ne.symm (tI.gg hI2384 hm2434 hp2435 hm21 k2398))
                          have k2591 : cl2587 y1620 = true := by rw [ec2586, zvn nx2590]; exact k2373
                          have nx2592 : x1 ≠ y2407 := (tI.sib hI2384 hm21 k2400 hy2408)
                          have k2593 : cl2587 x1 = true := by rw [ec2586, zvn nx2592]; exact k2374
                          have k2594 : cl2587 y2450 = true := by rw [ec2586, zvn nx2476]; exact k2579
                          refine z_aload_n C 2 rfl dJ4_fixAfterDeletion_98 rfl ?_
                          refine z_callS C (As := [.ref x1]) (mJ4_parentOf (o := (some x1)) hW2583 (oM hlp_3)) (lw_S q706 q707 q64 q708) hd_J4_parentOf rfl (Nat.le_of_ble_eq_true rfl) (by decide) (by decide) (by decide) (by decide) rfl dJ4_fixAfterDeletion_99 (fun _ _ h => h.elim) (fun r2595 V2596 hP2597 => ?_)
                          rw [hP2597.1, hP2597.2]
                          refine z_st (st' := [va_rf (pa2392 x1)]) rfl ?_
                          refine z_top (v := .ref p) (congrArg va_rf (show (pa2392 x1) = (some p) from (by rw [k2399]))) ?_
                          refine z_astore_n C [(1, .ref p), (2, .ref y2407), (0, .ref t)] dJ4_fixAfterDeletion_102 rfl (by decide) rfl ?_
                          refine z_goto C 183 dJ4_fixAfterDeletion_103 (by decide) ?_
                          refine z_goto C 0 dJ4_fixAfterDeletion_183 (by decide) ?_
                          refine z_pick [(0, .ref t), (1, .ref p)] [2, 0] rfl ?_
                          have q1 := (hI2384.mp hlp_3 k2399).2
                          have qa := congrFun elo2389 x1
                          rw [zvn nx2359] at qa
                          have qb := congrFun ehi2390 x1
                          rw [zvn nx1613] at qb
                          exact ih_lp V2581 rt2394 lf2393 rg2391 pa2392 cl2587 lo2395 hi2396 p hW2583 hI2384 hU2585 hm21 (by omega)
                  · skip
                    obtain ⟨hm2598, hp2599, nx2600⟩ := hI2384.ml hm2434 hy2441
                    refine z_callS C (As := [.ref y2440]) (mJ4_colorOf (o := (some y2440)) hW2381 (oM hm2598)) (lw_S q703 q704 q64 q705) hd_J4_colorOf rfl (Nat.le_of_ble_eq_true rfl) (by decide) (by decide) (by decide) (by decide) rfl dJ4_fixAfterDeletion_75 (fun _ _ h => h.elim) (fun r2601 V2602 hP2603 => ?_)
                    rw [hP2603.1, hP2603.2]
                    refine z_st (st' := [.int (zb (cl2371 y2440))]) rfl ?_
                    refine z_iconst C (v := (nI 1)) dJ4_fixAfterDeletion_78 rfl ?_
                    refine z_icmp_ne C 106 dJ4_fixAfterDeletion_79 (by decide) (fun c79 => ?_) (fun c79 => ?_)
                    · skip
                      have k2604 : (cl2371 y2440) = false := zb1f c79
                      refine z_aload_n C 0 rfl dJ4_fixAfterDeletion_106 rfl ?_
                      refine z_callS C (As := [.ref y2407]) (mJ4_rightOf (o := (some y2407)) hW2381 (oM hm2434)) (lw_S q712 q713 q64 q714) hd_J4_rightOf rfl (Nat.le_of_ble_eq_true rfl) (by decide) (by decide) (by decide) (by decide) rfl dJ4_fixAfterDeletion_107 (fun _ _ h => h.elim) (fun r2605 V2606 hP2607 => ?_)
                      rw [hP2607.1, hP2607.2]
                      refine z_st (st' := [va_rf (rg2391 y2407)]) rfl ?_
                      rcases hy2609 : rg2391 y2407 with _ | y2608
                      · skip
                        refine z_callS C (As := [.null]) (mJ4_colorOf (o := none) hW2381 oN) (lw_S q703 q704 q64 q705) hd_J4_colorOf rfl (Nat.le_of_ble_eq_true rfl) (by decide) (by decide) (by decide) (by decide) rfl dJ4_fixAfterDeletion_110 (fun _ _ h => h.elim) (fun r2610 V2611 hP2612 => ?_)
                        rw [hP2612.1, hP2612.2]
                        refine z_st (st' := [.int (zb true)]) rfl ?_
                        refine z_iconst C (v := (nI 1)) dJ4_fixAfterDeletion_113 rfl ?_
                        refine z_icmp_ne C 143 dJ4_fixAfterDeletion_114 (by decide) (fun c114 => ?_) (fun c114 => ?_)
                        · skip
                          have k2613 : true = false := zb1f c114
                          cases k2613
                        · skip
                          have k2614 : true = true := zb1 c114
                          refine z_aload_n C 0 rfl dJ4_fixAfterDeletion_117 rfl ?_
                          refine z_callS C (As := [.ref y2407]) (mJ4_leftOf (o := (some y2407)) hW2381 (oM hm2434)) (lw_S q709 q710 q64 q711) hd_J4_leftOf rfl (Nat.le_of_ble_eq_true rfl) (by decide) (by decide) (by decide) (by decide) rfl dJ4_fixAfterDeletion_118 (fun _ _ h => h.elim) (fun r2615 V2616 hP2617 => ?_)
                          rw [hP2617.1, hP2617.2]
                          refine z_st (st' := [va_rf (lf2393 y2407)]) rfl ?_
                          refine z_top (v := .ref y2440) (congrArg va_rf (show (lf2393 y2407) = (some y2440) from (by rw [hy2441]))) ?_
                          refine z_iconst C (v := (nI 1)) dJ4_fixAfterDeletion_121 rfl ?_
                          refine z_st (st' := [.int (zb true), .ref y2440]) rfl ?_
                          refine z_callS C (As := [.ref y2440, .int (zb true)]) (mJ4_setColor (o := (some y2440)) (c := true) hW2381 (oM hm2598)) (lw_S q715 q716 q64 q717) hd_J4_setColor rfl (Nat.le_of_ble_eq_true rfl) (by decide) (by decide) (by decide) (by decide) rfl dJ4_fixAfterDeletion_122 (fun _ _ h => h.elim) (fun r2618 V2619 hP2620 => ?_)
                          obtain ⟨hW2621, hU2622⟩ := hP2620
                          refine z_st (st' := []) rfl ?_
                          have hU2623 := zUnc.tr (S := tC t L) hU2383 hU2622 (fun _ h => Or.inl h)
                          change tW _ _ _ _ _ _ _ (va_up cl2371 y2440 true) _ _ _ _ at hW2621
                          obtain ⟨cl2625, ec2624⟩ : ∃ q, q = va_up cl2371 y2440 true := ⟨_, rfl⟩
                          rw [← ec2624] at hW2621
                          have k2626 : cl2625 y2440 = true := by rw [ec2624, zvs]
                          have nx2627 : y1620 ≠ y2407 := (Ne.symm (tI.gg hI2384 hm2434 hp2435 hm21 k2398))
                          have nx2628 : p ≠ y2440 := (ne_pa k2398 hp2599 nx2627)
                          have k2629 : cl2625 p = false := by rw [ec2624, zvn nx2628]; exact k2372
                          have nx2630 : x1 ≠ y2440 := (ne_pa k2399 hp2599 (Ne.symm nx2436))
                          have k2631 : cl2625 x1 = true := by rw [ec2624, zvn nx2630]; exact k2374
                          refine z_aload_n C 0 rfl dJ4_fixAfterDeletion_125 rfl ?_
                          refine z_iconst C (v := (nI 0)) dJ4_fixAfterDeletion_126 rfl ?_
                          refine z_st (st' := [.int (zb false), .ref y2407]) rfl ?_
                          refine z_callS C (As := [.ref y2407, .int (zb false)]) (mJ4_setColor (o := (some y2407)) (c := false) hW2621 (oM hm2434)) (lw_S q715 q716 q64 q717) hd_J4_setColor rfl (Nat.le_of_ble_eq_true rfl) (by decide) (by decide) (by decide) (by decide) rfl dJ4_fixAfterDeletion_127 (fun _ _ h => h.elim) (fun r2632 V2633 hP2634 => ?_)
                          obtain ⟨hW2635, hU2636⟩ := hP2634
                          refine z_st (st' := []) rfl ?_
                          have hU2637 := zUnc.tr (S := tC t L) hU2623 hU2636 (fun _ h => Or.inl h)
                          change tW _ _ _ _ _ _ _ (va_up cl2625 y2407 false) _ _ _ _ at hW2635
                          obtain ⟨cl2639, ec2638⟩ : ∃ q, q = va_up cl2625 y2407 false := ⟨_, rfl⟩
                          rw [← ec2638] at hW2635
                          have k2640 : cl2639 y2407 = false := by rw [ec2638, zvs]
                          have k2641 : cl2639 y2440 = true := by rw [ec2638, zvn nx2600]; exact k2626
                          have k2642 : cl2639 p = false := by rw [ec2638, zvn (Ne.symm nx2436)]; exact k2629
                          have nx2643 : x1 ≠ y2407 := (tI.sib hI2384 hm21 k2400 hy2408)
                          have k2644 : cl2639 x1 = true := by rw [ec2638, zvn nx2643]; exact k2631
                          refine z_aload_n C 1 rfl dJ4_fixAfterDeletion_130 rfl ?_
                          refine z_aload_n C 0 rfl dJ4_fixAfterDeletion_131 rfl ?_
                          refine z_callV C k_TM hW2635.1 (As := [.ref y2407]) (mJ4_rotateRight hW2635 hI2384 hm2434 hy2441) (lw_V q722 q724 qs9 q64 q725) rfl hd_J4_rotateRight rfl (Nat.le_of_ble_eq_true rfl) (by decide) (by decide) (by decide) (by decide) rfl dJ4_fixAfterDeletion_132 (fun _ _ h => h.elim) (fun r2645 V2646 hP2647 => ?_)
                          obtain ⟨hW2648, hU2649⟩ := hP2647
                          refine z_st (st' := []) rfl ?_
                          have hU2650 := zUnc.tr (S := tC t L) hU2637 hU2649 (fun _ h => Or.inl h)
                          have hI2651 := tI_rotR hI2384 hm2434 hy2441
                          obtain ⟨lf2658, eB2653⟩ : ∃ q, q = xR rg2391 lf2393 y2407 y2440 := ⟨_, rfl⟩
                          rw [← eB2653] at hW2648 hI2651
                          obtain ⟨pa2659, eP2654⟩ : ∃ q, q = xP rg2391 pa2392 y2407 y2440 := ⟨_, rfl⟩
                          rw [← eP2654] at hW2648 hI2651
                          obtain ⟨rg2660, eA2652⟩ : ∃ q, q = xL rg2391 y2407 y2440 := ⟨_, rfl⟩
                          rw [← eA2652] at hW2648 hI2651
                          obtain ⟨rt2661, eT2655⟩ : ∃ q, q = xT rt2394 y2407 y2440 := ⟨_, rfl⟩
                          rw [← eT2655] at hW2648 hI2651
                          obtain ⟨lo2662, elo2656⟩ : ∃ q, q = va_up lo2395 y2407 (ps y2440 + 1) := ⟨_, rfl⟩
                          rw [← elo2656] at hI2651
                          obtain ⟨hi2663, ehi2657⟩ : ∃ q, q = va_up hi2396 y2440 (hi2396 y2407) := ⟨_, rfl⟩
                          rw [← ehi2657] at hI2651
                          have k2664 : rg2660 y2440 = (some y2407) := by rw [eA2652]; exact xL_r
                          have k2665 : pa2659 y2407 = (some y2440) := by rw [eP2654]; exact xP_p
                          have k2666 : pa2659 y2440 = (some p) := by rw [eP2654, xP_r nx2600]; exact hp2435
                          have k2667 : lf2658 y1620 = (some p) := by rw [eB2653, xR_o nx2627 (so_ne k2397 (Ne.symm nx2436))]; exact k2397
                          have k2668 : pa2659 x1 = (some p) := by rw [eP2654, xP_o nx2643 nx2630 (fun z => nx2628 (Option.some.inj (k2399.symm.trans (hI2384.mr hm2598 z).2.1)))]; exact k2399
                          have k2669 : lf2658 p = (some x1) := by rw [eB2653, xR_o (Ne.symm nx2436) (so_ne k2400 nx2643)]; exact k2400
                          have k2670 : rg2660 p = (some y2440) := by rw [eA2652]; exact xL_u nx2628 hy2408
                          have k2671 : rg2660 y2407 = none := by rw [eA2652, xL_o (Ne.symm nx2600) (sn_ne hy2609)]; exact hy2609
                          refine z_aload_n C 2 rfl dJ4_fixAfterDeletion_135 rfl ?_
                          refine z_callS C (As := [.ref x1]) (mJ4_parentOf (o := (some x1)) hW2648 (oM hlp_3)) (lw_S q706 q707 q64 q708) hd_J4_parentOf rfl (Nat.le_of_ble_eq_true rfl) (by decide) (by decide) (by decide) (by decide) rfl dJ4_fixAfterDeletion_136 (fun _ _ h => h.elim) (fun r2672 V2673 hP2674 => ?_)
                          rw [hP2674.1, hP2674.2]
                          refine z_st (st' := [va_rf (pa2659 x1)]) rfl ?_
                          refine z_top (v := .ref p) (congrArg va_rf (show (pa2659 x1) = (some p) from (by rw [k2668]))) ?_
                          refine z_callS C (As := [.ref p]) (mJ4_rightOf (o := (some p)) hW2648 (oM hm21)) (lw_S q712 q713 q64 q714) hd_J4_rightOf rfl (Nat.le_of_ble_eq_true rfl) (by decide) (by decide) (by decide) (by decide) rfl dJ4_fixAfterDeletion_139 (fun _ _ h => h.elim) (fun r2675 V2676 hP2677 => ?_)
                          rw [hP2677.1, hP2677.2]
                          refine z_st (st' := [va_rf (rg2660 p)]) rfl ?_
                          refine z_top (v := .ref y2440) (congrArg va_rf (show (rg2660 p) = (some y2440) from (by rw [k2670]))) ?_
                          refine z_astore_n C [(2, .ref y2440), (0, .ref t), (1, .ref x1)] dJ4_fixAfterDeletion_142 rfl (by decide) rfl ?_
                          refine z_aload_n C 0 rfl dJ4_fixAfterDeletion_143 rfl ?_
                          refine z_aload_n C 2 rfl dJ4_fixAfterDeletion_144 rfl ?_
                          refine z_callS C (As := [.ref x1]) (mJ4_parentOf (o := (some x1)) hW2648 (oM hlp_3)) (lw_S q706 q707 q64 q708) hd_J4_parentOf rfl (Nat.le_of_ble_eq_true rfl) (by decide) (by decide) (by decide) (by decide) rfl dJ4_fixAfterDeletion_145 (fun _ _ h => h.elim) (fun r2678 V2679 hP2680 => ?_)
                          rw [hP2680.1, hP2680.2]
                          refine z_st (st' := [va_rf (pa2659 x1), .ref y2440]) rfl ?_
                          refine z_top (v := .ref p) (congrArg va_rf (show (pa2659 x1) = (some p) from (by rw [k2668]))) ?_
                          refine z_callS C (As := [.ref p]) (mJ4_colorOf (o := (some p)) hW2648 (oM hm21)) (lw_S q703 q704 q64 q705) hd_J4_colorOf rfl (Nat.le_of_ble_eq_true rfl) (by decide) (by decide) (by decide) (by decide) rfl dJ4_fixAfterDeletion_148 (fun _ _ h => h.elim) (fun r2681 V2682 hP2683 => ?_)
                          rw [hP2683.1, hP2683.2]
                          refine z_st (st' := [.int (zb (cl2639 p)), .ref y2440]) rfl ?_
                          refine z_top (v := .int (zb false)) (congrArg (fun c => Value.int (zb c)) (show (cl2639 p) = false from (by rw [k2642]))) ?_
                          refine z_callS C (As := [.ref y2440, .int (zb false)]) (mJ4_setColor (o := (some y2440)) (c := false) hW2648 (oM hm2598)) (lw_S q715 q716 q64 q717) hd_J4_setColor rfl (Nat.le_of_ble_eq_true rfl) (by decide) (by decide) (by decide) (by decide) rfl dJ4_fixAfterDeletion_151 (fun _ _ h => h.elim) (fun r2684 V2685 hP2686 => ?_)
                          obtain ⟨hW2687, hU2688⟩ := hP2686
                          refine z_st (st' := []) rfl ?_
                          have hU2689 := zUnc.tr (S := tC t L) hU2650 hU2688 (fun _ h => Or.inl h)
                          change tW _ _ _ _ _ _ _ (va_up cl2639 y2440 false) _ _ _ _ at hW2687
                          obtain ⟨cl2691, ec2690⟩ : ∃ q, q = va_up cl2639 y2440 false := ⟨_, rfl⟩
                          rw [← ec2690] at hW2687
                          have k2692 : cl2691 y2440 = false := by rw [ec2690, zvs]
                          have k2693 : cl2691 y2407 = false := by rw [ec2690, zvn (Ne.symm nx2600)]; exact k2640
                          have k2694 : cl2691 p = false := by rw [ec2690, zvn nx2628]; exact k2642
                          have k2695 : cl2691 x1 = true := by rw [ec2690, zvn nx2630]; exact k2644
                          refine z_aload_n C 2 rfl dJ4_fixAfterDeletion_154 rfl ?_
                          refine z_callS C (As := [.ref x1]) (mJ4_parentOf (o := (some x1)) hW2687 (oM hlp_3)) (lw_S q706 q707 q64 q708) hd_J4_parentOf rfl (Nat.le_of_ble_eq_true rfl) (by decide) (by decide) (by decide) (by decide) rfl dJ4_fixAfterDeletion_155 (fun _ _ h => h.elim) (fun r2696 V2697 hP2698 => ?_)
                          rw [hP2698.1, hP2698.2]
                          refine z_st (st' := [va_rf (pa2659 x1)]) rfl ?_
                          refine z_top (v := .ref p) (congrArg va_rf (show (pa2659 x1) = (some p) from (by rw [k2668]))) ?_
                          refine z_iconst C (v := (nI 1)) dJ4_fixAfterDeletion_158 rfl ?_
                          refine z_st (st' := [.int (zb true), .ref p]) rfl ?_
                          refine z_callS C (As := [.ref p, .int (zb true)]) (mJ4_setColor (o := (some p)) (c := true) hW2687 (oM hm21)) (lw_S q715 q716 q64 q717) hd_J4_setColor rfl (Nat.le_of_ble_eq_true rfl) (by decide) (by decide) (by decide) (by decide) rfl dJ4_fixAfterDeletion_159 (fun _ _ h => h.elim) (fun r2699 V2700 hP2701 => ?_)
                          obtain ⟨hW2702, hU2703⟩ := hP2701
                          refine z_st (st' := []) rfl ?_
                          have hU2704 := zUnc.tr (S := tC t L) hU2689 hU2703 (fun _ h => Or.inl h)
                          change tW _ _ _ _ _ _ _ (va_up cl2691 p true) _ _ _ _ at hW2702
                          obtain ⟨cl2706, ec2705⟩ : ∃ q, q = va_up cl2691 p true := ⟨_, rfl⟩
                          rw [← ec2705] at hW2702
                          have k2707 : cl2706 p = true := by rw [ec2705, zvs]
                          have k2708 : cl2706 y2440 = false := by rw [ec2705, zvn (Ne.symm nx2628)]; exact k2692
                          have k2709 : cl2706 y2407 = false := by rw [ec2705, zvn nx2436]; exact k2693
                          have k2710 : cl2706 x1 = true := by rw [ec2705, zvn nx1613]; exact k2695
                          refine z_aload_n C 0 rfl dJ4_fixAfterDeletion_162 rfl ?_
                          refine z_callS C (As := [.ref y2440]) (mJ4_rightOf (o := (some y2440)) hW2702 (oM hm2598)) (lw_S q712 q713 q64 q714) hd_J4_rightOf rfl (Nat.le_of_ble_eq_true rfl) (by decide) (by decide) (by decide) (by decide) rfl dJ4_fixAfterDeletion_163 (fun _ _ h => h.elim) (fun r2711 V2712 hP2713 => ?_)
                          rw [hP2713.1, hP2713.2]
                          refine z_st (st' := [va_rf (rg2660 y2440)]) rfl ?_
                          refine z_top (v := .ref y2407) (congrArg va_rf (show (rg2660 y2440) = (some y2407) from (by rw [k2664]))) ?_
                          refine z_iconst C (v := (nI 1)) dJ4_fixAfterDeletion_166 rfl ?_
                          refine z_st (st' := [.int (zb true), .ref y2407]) rfl ?_
                          refine z_callS C (As := [.ref y2407, .int (zb true)]) (mJ4_setColor (o := (some y2407)) (c := true) hW2702 (oM hm2434)) (lw_S q715 q716 q64 q717) hd_J4_setColor rfl (Nat.le_of_ble_eq_true rfl) (by decide) (by decide) (by decide) (by decide) rfl dJ4_fixAfterDeletion_167 (fun _ _ h => h.elim) (fun r2714 V2715 hP2716 => ?_)
                          obtain ⟨hW2717, hU2718⟩ := hP2716
                          refine z_st (st' := []) rfl ?_
                          have hU2719 := zUnc.tr (S := tC t L) hU2704 hU2718 (fun _ h => Or.inl h)
                          change tW _ _ _ _ _ _ _ (va_up cl2706 y2407 true) _ _ _ _ at hW2717
                          obtain ⟨cl2721, ec2720⟩ : ∃ q, q = va_up cl2706 y2407 true := ⟨_, rfl⟩
                          rw [← ec2720] at hW2717
                          have k2722 : cl2721 y2407 = true := by rw [ec2720, zvs]
                          have k2723 : cl2721 p = true := by rw [ec2720, zvn (Ne.symm nx2436)]; exact k2707
                          have k2724 : cl2721 y2440 = false := by rw [ec2720, zvn nx2600]; exact k2708
                          have k2725 : cl2721 x1 = true := by rw [ec2720, zvn nx2643]; exact k2710
                          refine z_aload_n C 1 rfl dJ4_fixAfterDeletion_170 rfl ?_
                          refine z_aload_n C 2 rfl dJ4_fixAfterDeletion_171 rfl ?_
                          refine z_callS C (As := [.ref x1]) (mJ4_parentOf (o := (some x1)) hW2717 (oM hlp_3)) (lw_S q706 q707 q64 q708) hd_J4_parentOf rfl (Nat.le_of_ble_eq_true rfl) (by decide) (by decide) (by decide) (by decide) rfl dJ4_fixAfterDeletion_172 (fun _ _ h => h.elim) (fun r2726 V2727 hP2728 => ?_)
                          rw [hP2728.1, hP2728.2]
                          refine z_st (st' := [va_rf (pa2659 x1), .ref t]) rfl ?_
                          refine z_top (v := .ref p) (congrArg va_rf (show (pa2659 x1) = (some p) from (by rw [k2668]))) ?_
                          refine z_callV C k_TM hW2717.1 (As := [.ref p]) (mJ4_rotateLeft hW2717 hI2651 hm21 k2670) (lw_V q718 q720 qs8 q64 q721) rfl hd_J4_rotateLeft rfl (Nat.le_of_ble_eq_true rfl) (by decide) (by decide) (by decide) (by decide) rfl dJ4_fixAfterDeletion_175 (fun _ _ h => h.elim) (fun r2729 V2730 hP2731 => ?_)
                          obtain ⟨hW2732, hU2733⟩ := hP2731
                          refine z_st (st' := []) rfl ?_
                          have hU2734 := zUnc.tr (S := tC t L) hU2719 hU2733 (fun _ h => Or.inl h)
                          have hI2735 := tI_rotL hI2651 hm21 k2670
                          obtain ⟨rg2742, eB2737⟩ : ∃ q, q = xR lf2658 rg2660 p y2440 := ⟨_, rfl⟩
                          rw [← eB2737] at hW2732 hI2735
                          obtain ⟨pa2743, eP2738⟩ : ∃ q, q = xP lf2658 pa2659 p y2440 := ⟨_, rfl⟩
                          rw [← eP2738] at hW2732 hI2735
                          obtain ⟨lf2744, eA2736⟩ : ∃ q, q = xL lf2658 p y2440 := ⟨_, rfl⟩
                          rw [← eA2736] at hW2732 hI2735
                          obtain ⟨rt2745, eT2739⟩ : ∃ q, q = xT rt2661 p y2440 := ⟨_, rfl⟩
                          rw [← eT2739] at hW2732 hI2735
                          obtain ⟨lo2746, elo2740⟩ : ∃ q, q = va_up lo2662 y2440 (lo2662 p) := ⟨_, rfl⟩
                          rw [← elo2740] at hI2735
                          obtain ⟨hi2747, ehi2741⟩ : ∃ q, q = va_up hi2663 p (ps y2440) := ⟨_, rfl⟩
                          rw [← ehi2741] at hI2735
                          have k2748 : lf2744 y2440 = (some p) := by rw [eA2736]; exact xL_r
                          have k2749 : pa2743 p = (some y2440) := by rw [eP2738]; exact xP_p
                          have k2750 : rg2742 y2440 = (some y2407) := by rw [eB2737, xR_o (Ne.symm nx2628) (so_ne k2664 nx2436)]; exact k2664
                          have k2751 : pa2743 y2407 = (some y2440) := by rw [eP2738, xP_o nx2436 (Ne.symm nx2600) (hI2651.rl hm2598 k2664)]; exact k2665
                          have k2752 : pa2743 x1 = (some p) := by rw [eP2738, xP_o nx1613 nx2630 (fun z => nx2628 (Option.some.inj (k2668.symm.trans (hI2651.ml hm2598 z).2.1)))]; exact k2668
                          have k2753 : lf2744 p = (some x1) := by rw [eA2736, xL_o nx2628 (so_ne k2669 nx1613)]; exact k2669
                          have k2754 : rg2742 y2407 = none := by rw [eB2737, xR_o nx2436 (sn_ne k2671)]; exact k2671
                          refine z_aload_n C 1 rfl dJ4_fixAfterDeletion_178 rfl ?_
                          refine z_get C k_TM hW2732.1 3 (by decide) rfl q162 dJ4_fixAfterDeletion_179 ?_
                          refine z_astore_nQ C (r := rt2745) [(1, va_rf rt2745), (2, .ref y2440), (0, .ref t)] dJ4_fixAfterDeletion_182 rfl (by decide) rfl ?_
                          refine z_goto C 0 dJ4_fixAfterDeletion_183 (by decide) ?_
                          refine z_pick [(0, .ref t), (1, va_rf rt2745)] [2, 0] rfl ?_
                          obtain ⟨r02755, hr2756⟩ := hI2735.rtm hlp_3
                          obtain ⟨hm2757, hp2758, -, -⟩ := hI2735.2.1.1 r02755 hr2756
                          have e2759 : (va_rf rt2745 : Value) = .ref r02755 := (congrArg va_rf hr2756)
                          refine z_lv (lv' := [(0, .ref t), (1, .ref r02755)]) (by rw [e2759]) ?_
                          exact hexit V2730 rt2745 lf2744 rg2742 pa2743 cl2721 lo2746 hi2747 r02755 hW2732 hI2735 hU2734 hm2757 hr2756
                      · skip
                        obtain ⟨hm2760, hp2761, nx2762⟩ := hI2384.mr hm2434 hy2609
                        refine z_callS C (As := [.ref y2608]) (mJ4_colorOf (o := (some y2608)) hW2381 (oM hm2760)) (lw_S q703 q704 q64 q705) hd_J4_colorOf rfl (Nat.le_of_ble_eq_true rfl) (by decide) (by decide) (by decide) (by decide) rfl dJ4_fixAfterDeletion_110 (fun _ _ h => h.elim) (fun r2763 V2764 hP2765 => ?_)
                        rw [hP2765.1, hP2765.2]
                        refine z_st (st' := [.int (zb (cl2371 y2608))]) rfl ?_
                        refine z_iconst C (v := (nI 1)) dJ4_fixAfterDeletion_113 rfl ?_
                        refine z_icmp_ne C 143 dJ4_fixAfterDeletion_114 (by decide) (fun c114 => ?_) (fun c114 => ?_)
                        · skip
                          have k2766 : (cl2371 y2608) = false := zb1f c114
                          refine z_aload_n C 0 rfl dJ4_fixAfterDeletion_143 rfl ?_
                          refine z_aload_n C 2 rfl dJ4_fixAfterDeletion_144 rfl ?_
                          refine z_callS C (As := [.ref x1]) (mJ4_parentOf (o := (some x1)) hW2381 (oM hlp_3)) (lw_S q706 q707 q64 q708) hd_J4_parentOf rfl (Nat.le_of_ble_eq_true rfl) (by decide) (by decide) (by decide) (by decide) rfl dJ4_fixAfterDeletion_145 (fun _ _ h => h.elim) (fun r2767 V2768 hP2769 => ?_)
                          rw [hP2769.1, hP2769.2]
                          refine z_st (st' := [va_rf (pa2392 x1), .ref y2407]) rfl ?_
                          refine z_top (v := .ref p) (congrArg va_rf (show (pa2392 x1) = (some p) from (by rw [k2399]))) ?_
                          refine z_callS C (As := [.ref p]) (mJ4_colorOf (o := (some p)) hW2381 (oM hm21)) (lw_S q703 q704 q64 q705) hd_J4_colorOf rfl (Nat.le_of_ble_eq_true rfl) (by decide) (by decide) (by decide) (by decide) rfl dJ4_fixAfterDeletion_148 (fun _ _ h => h.elim) (fun r2770 V2771 hP2772 => ?_)
                          rw [hP2772.1, hP2772.2]
                          refine z_st (st' := [.int (zb (cl2371 p)), .ref y2407]) rfl ?_
                          refine z_top (v := .int (zb false)) (congrArg (fun c => Value.int (zb c)) (show (cl2371 p) = false from (by rw [k2372]))) ?_
                          refine z_callS C (As := [.ref y2407, .int (zb false)]) (mJ4_setColor (o := (some y2407)) (c := false) hW2381 (oM hm2434)) (lw_S q715 q716 q64 q717) hd_J4_setColor rfl (Nat.le_of_ble_eq_true rfl) (by decide) (by decide) (by decide) (by decide) rfl dJ4_fixAfterDeletion_151 (fun _ _ h => h.elim) (fun r2773 V2774 hP2775 => ?_)
                          obtain ⟨hW2776, hU2777⟩ := hP2775
                          refine z_st (st' := []) rfl ?_
                          have hU2778 := zUnc.tr (S := tC t L) hU2383 hU2777 (fun _ h => Or.inl h)
                          change tW _ _ _ _ _ _ _ (va_up cl2371 y2407 false) _ _ _ _ at hW2776
                          obtain ⟨cl2780, ec2779⟩ : ∃ q, q = va_up cl2371 y2407 false := ⟨_, rfl⟩
                          rw [← ec2779] at hW2776
                          have k2781 : cl2780 y2407 = false := by rw [ec2779, zvs]
                          have k2782 : cl2780 p = false := by rw [ec2779, zvn (Ne.symm nx2436)]; exact k2372
                          have nx2783 : y1620 ≠ y2407 := (Ne.symm (tI.gg hI2384 hm2434 hp2435 hm21 k2398))
                          have k2784 : cl2780 y1620 = true := by rw [ec2779, zvn nx2783]; exact k2373
                          have nx2785 : x1 ≠ y2407 := (tI.sib hI2384 hm21 k2400 hy2408)
                          have k2786 : cl2780 x1 = true := by rw [ec2779, zvn nx2785]; exact k2374
                          have k2787 : cl2780 y2440 = false := by rw [ec2779, zvn nx2600]; exact k2604
                          have k2788 : cl2780 y2608 = false := by rw [ec2779, zvn nx2762]; exact k2766
                          refine z_aload_n C 2 rfl dJ4_fixAfterDeletion_154 rfl ?_
                          refine z_callS C (As := [.ref x1]) (mJ4_parentOf (o := (some x1)) hW2776 (oM hlp_3)) (lw_S q706 q707 q64 q708) hd_J4_parentOf rfl (Nat.le_of_ble_eq_true rfl) (by decide) (by decide) (by decide) (by decide) rfl dJ4_fixAfterDeletion_155 (fun _ _ h => h.elim) (fun r2789 V2790 hP2791 => ?_)
                          rw [hP2791.1, hP2791.2]
                          refine z_st (st' := [va_rf (pa2392 x1)]) rfl ?_
                          refine z_top (v := .ref p) (congrArg va_rf (show (pa2392 x1) = (some p) from (by rw [k2399]))) ?_
                          refine z_iconst C (v := (nI 1)) dJ4_fixAfterDeletion_158 rfl ?_
                          refine z_st (st' := [.int (zb true), .ref p]) rfl ?_
                          refine z_callS C (As := [.ref p, .int (zb true)]) (mJ4_setColor (o := (some p)) (c := true) hW2776 (oM hm21)) (lw_S q715 q716 q64 q717) hd_J4_setColor rfl (Nat.le_of_ble_eq_true rfl) (by decide) (by decide) (by decide) (by decide) rfl dJ4_fixAfterDeletion_159 (fun _ _ h => h.elim) (fun r2792 V2793 hP2794 => ?_)
                          obtain ⟨hW2795, hU2796⟩ := hP2794
                          refine z_st (st' := []) rfl ?_
                          have hU2797 := zUnc.tr (S := tC t L) hU2778 hU2796 (fun _ h => Or.inl h)
                          change tW _ _ _ _ _ _ _ (va_up cl2780 p true) _ _ _ _ at hW2795
                          obtain ⟨cl2799, ec2798⟩ : ∃ q, q = va_up cl2780 p true := ⟨_, rfl⟩
                          rw [← ec2798] at hW2795
                          have k2800 : cl2799 p = true := by rw [ec2798, zvs]
                          have k2801 : cl2799 y2407 = false := by rw [ec2798, zvn nx2436]; exact k2781
                          have k2802 : cl2799 y1620 = true := by rw [ec2798, zvn nx1654]; exact k2784
                          have k2803 : cl2799 x1 = true := by rw [ec2798, zvn nx1613]; exact k2786
                          have nx2804 : y2440 ≠ p := (tI.gg hI2384 hm2598 hp2599 hm2434 hp2435)
                          have k2805 : cl2799 y2440 = false := by rw [ec2798, zvn nx2804]; exact k2787
                          have nx2806 : y2608 ≠ p := (tI.gg hI2384 hm2760 hp2761 hm2434 hp2435)
                          have k2807 : cl2799 y2608 = false := by rw [ec2798, zvn nx2806]; exact k2788
                          refine z_aload_n C 0 rfl dJ4_fixAfterDeletion_162 rfl ?_
                          refine z_callS C (As := [.ref y2407]) (mJ4_rightOf (o := (some y2407)) hW2795 (oM hm2434)) (lw_S q712 q713 q64 q714) hd_J4_rightOf rfl (Nat.le_of_ble_eq_true rfl) (by decide) (by decide) (by decide) (by decide) rfl dJ4_fixAfterDeletion_163 (fun _ _ h => h.elim) (fun r2808 V2809 hP2810 => ?_)
                          rw [hP2810.1, hP2810.2]
                          refine z_st (st' := [va_rf (rg2391 y2407)]) rfl ?_
                          refine z_top (v := .ref y2608) (congrArg va_rf (show (rg2391 y2407) = (some y2608) from (by rw [hy2609]))) ?_
                          refine z_iconst C (v := (nI 1)) dJ4_fixAfterDeletion_166 rfl ?_
                          refine z_st (st' := [.int (zb true), .ref y2608]) rfl ?_
                          refine z_callS C (As := [.ref y2608, .int (zb true)]) (mJ4_setColor (o := (some y2608)) (c := true) hW2795 (oM hm2760)) (lw_S q715 q716 q64 q717) hd_J4_setColor rfl (Nat.le_of_ble_eq_true rfl) (by decide) (by decide) (by decide) (by decide) rfl dJ4_fixAfterDeletion_167 (fun _ _ h => h.elim) (fun r2811 V2812 hP2813 => ?_)
                          obtain ⟨hW2814, hU2815⟩ := hP2813
                          refine z_st (st' := []) rfl ?_
                          have hU2816 := zUnc.tr (S := tC t L) hU2797 hU2815 (fun _ h => Or.inl h)
                          change tW _ _ _ _ _ _ _ (va_up cl2799 y2608 true) _ _ _ _ at hW2814
                          obtain ⟨cl2818, ec2817⟩ : ∃ q, q = va_up cl2799 y2608 true := ⟨_, rfl⟩
                          rw [← ec2817] at hW2814
                          have k2819 : cl2818 y2608 = true := by rw [ec2817, zvs]
                          have k2820 : cl2818 p = true := by rw [ec2817, zvn (Ne.symm nx2806)]; exact k2800
                          have k2821 : cl2818 y2407 = false := by rw [ec2817, zvn (Ne.symm nx2762)]; exact k2801
                          have nx2822 : x1 ≠ y2608 := (ne_pa k2399 hp2761 (Ne.symm nx2436))
                          have k2823 : cl2818 x1 = true := by rw [ec2817, zvn nx2822]; exact k2803
                          have nx2824 : y2440 ≠ y2608 := (tI.sib hI2384 hm2434 hy2441 hy2609)
                          have k2825 : cl2818 y2440 = false := by rw [ec2817, zvn nx2824]; exact k2805
                          refine z_aload_n C 1 rfl dJ4_fixAfterDeletion_170 rfl ?_
                          refine z_aload_n C 2 rfl dJ4_fixAfterDeletion_171 rfl ?_
                          refine z_callS C (As := [.ref x1]) (mJ4_parentOf (o := (some x1)) hW2814 (oM hlp_3)) (lw_S q706 q707 q64 q708) hd_J4_parentOf rfl (Nat.le_of_ble_eq_true rfl) (by decide) (by decide) (by decide) (by decide) rfl dJ4_fixAfterDeletion_172 (fun _ _ h => h.elim) (fun r2826 V2827 hP2828 => ?_)
                          rw [hP2828.1, hP2828.2]
                          refine z_st (st' := [va_rf (pa2392 x1), .ref t]) rfl ?_
                          refine z_top (v := .ref p) (congrArg va_rf (show (pa2392 x1) = (some p) from (by rw [k2399]))) ?_
                          refine z_callV C k_TM hW2814.1 (As := [.ref p]) (mJ4_rotateLeft hW2814 hI2384 hm21 hy2408) (lw_V q718 q720 qs8 q64 q721) rfl hd_J4_rotateLeft rfl (Nat.le_of_ble_eq_true rfl) (by decide) (by decide) (by decide) (by decide) rfl dJ4_fixAfterDeletion_175 (fun _ _ h => h.elim) (fun r2829 V2830 hP2831 => ?_)
                          obtain ⟨hW2832, hU2833⟩ := hP2831
                          refine z_st (st' := []) rfl ?_
                          have hU2834 := zUnc.tr (S := tC t L) hU2816 hU2833 (fun _ h => Or.inl h)
                          have hI2835 := tI_rotL hI2384 hm21 hy2408
                          obtain ⟨rg2842, eB2837⟩ : ∃ q, q = xR lf2393 rg2391 p y2407 := ⟨_, rfl⟩
                          rw [← eB2837] at hW2832 hI2835
                          obtain ⟨pa2843, eP2838⟩ : ∃ q, q = xP lf2393 pa2392 p y2407 := ⟨_, rfl⟩
                          rw [← eP2838] at hW2832 hI2835
                          obtain ⟨lf2844, eA2836⟩ : ∃ q, q = xL lf2393 p y2407 := ⟨_, rfl⟩
                          rw [← eA2836] at hW2832 hI2835
                          obtain ⟨rt2845, eT2839⟩ : ∃ q, q = xT rt2394 p y2407 := ⟨_, rfl⟩
                          rw [← eT2839] at hW2832 hI2835
                          obtain ⟨lo2846, elo2840⟩ : ∃ q, q = va_up lo2395 y2407 (lo2395 p) := ⟨_, rfl⟩
                          rw [← elo2840] at hI2835
                          obtain ⟨hi2847, ehi2841⟩ : ∃ q, q = va_up hi2396 p (ps y2407) := ⟨_, rfl⟩
                          rw [← ehi2841] at hI2835
                          have k2848 : lf2844 y2407 = (some p) := by rw [eA2836]; exact xL_r
                          have k2849 : pa2843 p = (some y2407) := by rw [eP2838]; exact xP_p
                          have k2850 : rg2842 p = (some y2440) := by rw [eB2837, xR_p]; exact hy2441
                          have k2851 : pa2843 y2407 = (some y1620) := by rw [eP2838, xP_r nx2436]; exact k2398
                          have k2852 : lf2844 y1620 = (some y2407) := by rw [eA2836]; exact xL_u nx2783 k2397
                          have nx2853 : y2440 ≠ x1 := (ne_pa hp2599 k2399 nx2436)
                          have k2854 : pa2843 x1 = (some p) := by rw [eP2838, xP_o nx1613 nx2785 (so_ne hy2441 nx2853)]; exact k2399
                          have k2855 : lf2844 p = (some x1) := by rw [eA2836, xL_o (Ne.symm nx2436) (so_ne k2400 nx1613)]; exact k2400
                          have k2856 : pa2843 y2440 = (some p) := by rw [eP2838]; exact xP_c nx2804 nx2600 hy2441
                          have k2857 : rg2842 y2407 = (some y2608) := by rw [eB2837, xR_o nx2436 (so_ne hy2609 nx2806)]; exact hy2609
                          have k2858 : pa2843 y2608 = (some y2407) := by rw [eP2838, xP_o nx2806 nx2762 (so_ne hy2441 nx2824)]; exact hp2761
                          refine z_aload_n C 1 rfl dJ4_fixAfterDeletion_178 rfl ?_
                          refine z_get C k_TM hW2832.1 3 (by decide) rfl q162 dJ4_fixAfterDeletion_179 ?_
                          refine z_astore_nQ C (r := rt2845) [(1, va_rf rt2845), (2, .ref y2407), (0, .ref t)] dJ4_fixAfterDeletion_182 rfl (by decide) rfl ?_
                          refine z_goto C 0 dJ4_fixAfterDeletion_183 (by decide) ?_
                          refine z_pick [(0, .ref t), (1, va_rf rt2845)] [2, 0] rfl ?_
                          obtain ⟨r02859, hr2860⟩ := hI2835.rtm hlp_3
                          obtain ⟨hm2861, hp2862, -, -⟩ := hI2835.2.1.1 r02859 hr2860
                          have e2863 : (va_rf rt2845 : Value) = .ref r02859 := (congrArg va_rf hr2860)
                          refine z_lv (lv' := [(0, .ref t), (1, .ref r02859)]) (by rw [e2863]) ?_
                          exact hexit V2830 rt2845 lf2844 rg2842 pa2843 cl2818 lo2846 hi2847 r02859 hW2832 hI2835 hU2834 hm2861 hr2860
                        · skip
                          have k2864 : (cl2371 y2608) = true := zb1 c114
                          refine z_aload_n C 0 rfl dJ4_fixAfterDeletion_117 rfl ?_
                          refine z_callS C (As := [.ref y2407]) (mJ4_leftOf (o := (some y2407)) hW2381 (oM hm2434)) (lw_S q709 q710 q64 q711) hd_J4_leftOf rfl (Nat.le_of_ble_eq_true rfl) (by decide) (by decide) (by decide) (by decide) rfl dJ4_fixAfterDeletion_118 (fun _ _ h => h.elim) (fun r2865 V2866 hP2867 => ?_)
                          rw [hP2867.1, hP2867.2]
                          refine z_st (st' := [va_rf (lf2393 y2407)]) rfl ?_
                          refine z_top (v := .ref y2440) (congrArg va_rf (show (lf2393 y2407) = (some y2440) from (by rw [hy2441]))) ?_
                          refine z_iconst C (v := (nI 1)) dJ4_fixAfterDeletion_121 rfl ?_
                          refine z_st (st' := [.int (zb true), .ref y2440]) rfl ?_
                          refine z_callS C (As := [.ref y2440, .int (zb true)]) (mJ4_setColor (o := (some y2440)) (c := true) hW2381 (oM hm2598)) (lw_S q715 q716 q64 q717) hd_J4_setColor rfl (Nat.le_of_ble_eq_true rfl) (by decide) (by decide) (by decide) (by decide) rfl dJ4_fixAfterDeletion_122 (fun _ _ h => h.elim) (fun r2868 V2869 hP2870 => ?_)
                          obtain ⟨hW2871, hU2872⟩ := hP2870
                          refine z_st (st' := []) rfl ?_
                          have hU2873 := zUnc.tr (S := tC t L) hU2383 hU2872 (fun _ h => Or.inl h)
                          change tW _ _ _ _ _ _ _ (va_up cl2371 y2440 true) _ _ _ _ at hW2871
                          obtain ⟨cl2875, ec2874⟩ : ∃ q, q = va_up cl2371 y2440 true := ⟨_, rfl⟩
                          rw [← ec2874] at hW2871
                          have k2876 : cl2875 y2440 = true := by rw [ec2874, zvs]
                          have nx2877 : y1620 ≠ y2407 := (Ne.symm (tI.gg hI2384 hm2434 hp2435 hm21 k2398))
                          have nx2878 : p ≠ y2440 := (ne_pa k2398 hp2599 nx2877)
                          have k2879 : cl2875 p = false := by rw [ec2874, zvn nx2878]; exact k2372
                          have nx2880 : x1 ≠ y2440 := (ne_pa k2399 hp2599 (Ne.symm nx2436))
                          have k2881 : cl2875 x1 = true := by rw [ec2874, zvn nx2880]; exact k2374
                          have nx2882 : y2608 ≠ y2440 := (Ne.symm (tI.sib hI2384 hm2434 hy2441 hy2609))
                          have k2883 : cl2875 y2608 = true := by rw [ec2874, zvn nx2882]; exact k2864
                          refine z_aload_n C 0 rfl dJ4_fixAfterDeletion_125 rfl ?_
                          refine z_iconst C (v := (nI 0)) dJ4_fixAfterDeletion_126 rfl ?_
                          refine z_st (st' := [.int (zb false), .ref y2407]) rfl ?_
                          refine z_callS C (As := [.ref y2407, .int (zb false)]) (mJ4_setColor (o := (some y2407)) (c := false) hW2871 (oM hm2434)) (lw_S q715 q716 q64 q717) hd_J4_setColor rfl (Nat.le_of_ble_eq_true rfl) (by decide) (by decide) (by decide) (by decide) rfl dJ4_fixAfterDeletion_127 (fun _ _ h => h.elim) (fun r2884 V2885 hP2886 => ?_)
                          obtain ⟨hW2887, hU2888⟩ := hP2886
                          refine z_st (st' := []) rfl ?_
                          have hU2889 := zUnc.tr (S := tC t L) hU2873 hU2888 (fun _ h => Or.inl h)
                          change tW _ _ _ _ _ _ _ (va_up cl2875 y2407 false) _ _ _ _ at hW2887
                          obtain ⟨cl2891, ec2890⟩ : ∃ q, q = va_up cl2875 y2407 false := ⟨_, rfl⟩
                          rw [← ec2890] at hW2887
                          have k2892 : cl2891 y2407 = false := by rw [ec2890, zvs]
                          have k2893 : cl2891 y2440 = true := by rw [ec2890, zvn nx2600]; exact k2876
                          have k2894 : cl2891 p = false := by rw [ec2890, zvn (Ne.symm nx2436)]; exact k2879
                          have nx2895 : x1 ≠ y2407 := (tI.sib hI2384 hm21 k2400 hy2408)
                          have k2896 : cl2891 x1 = true := by rw [ec2890, zvn nx2895]; exact k2881
                          have k2897 : cl2891 y2608 = true := by rw [ec2890, zvn nx2762]; exact k2883
                          refine z_aload_n C 1 rfl dJ4_fixAfterDeletion_130 rfl ?_
                          refine z_aload_n C 0 rfl dJ4_fixAfterDeletion_131 rfl ?_
                          refine z_callV C k_TM hW2887.1 (As := [.ref y2407]) (mJ4_rotateRight hW2887 hI2384 hm2434 hy2441) (lw_V q722 q724 qs9 q64 q725) rfl hd_J4_rotateRight rfl (Nat.le_of_ble_eq_true rfl) (by decide) (by decide) (by decide) (by decide) rfl dJ4_fixAfterDeletion_132 (fun _ _ h => h.elim) (fun r2898 V2899 hP2900 => ?_)
                          obtain ⟨hW2901, hU2902⟩ := hP2900
                          refine z_st (st' := []) rfl ?_
                          have hU2903 := zUnc.tr (S := tC t L) hU2889 hU2902 (fun _ h => Or.inl h)
                          have hI2904 := tI_rotR hI2384 hm2434 hy2441
                          obtain ⟨lf2911, eB2906⟩ : ∃ q, q = xR rg2391 lf2393 y2407 y2440 := ⟨_, rfl⟩
                          rw [← eB2906] at hW2901 hI2904
                          obtain ⟨pa2912, eP2907⟩ : ∃ q, q = xP rg2391 pa2392 y2407 y2440 := ⟨_, rfl⟩
                          rw [← eP2907] at hW2901 hI2904
                          obtain ⟨rg2913, eA2905⟩ : ∃ q, q = xL rg2391 y2407 y2440 := ⟨_, rfl⟩
                          rw [← eA2905] at hW2901 hI2904
                          obtain ⟨rt2914, eT2908⟩ : ∃ q, q = xT rt2394 y2407 y2440 := ⟨_, rfl⟩
                          rw [← eT2908] at hW2901 hI2904
                          obtain ⟨lo2915, elo2909⟩ : ∃ q, q = va_up lo2395 y2407 (ps y2440 + 1) := ⟨_, rfl⟩
                          rw [← elo2909] at hI2904
                          obtain ⟨hi2916, ehi2910⟩ : ∃ q, q = va_up hi2396 y2440 (hi2396 y2407) := ⟨_, rfl⟩
                          rw [← ehi2910] at hI2904
                          have k2917 : rg2913 y2440 = (some y2407) := by rw [eA2905]; exact xL_r
                          have k2918 : pa2912 y2407 = (some y2440) := by rw [eP2907]; exact xP_p
                          have k2919 : pa2912 y2440 = (some p) := by rw [eP2907, xP_r nx2600]; exact hp2435
                          have k2920 : lf2911 y1620 = (some p) := by rw [eB2906, xR_o nx2877 (so_ne k2397 (Ne.symm nx2436))]; exact k2397
                          have k2921 : pa2912 x1 = (some p) := by rw [eP2907, xP_o nx2895 nx2880 (fun z => nx2878 (Option.some.inj (k2399.symm.trans (hI2384.mr hm2598 z).2.1)))]; exact k2399
                          have k2922 : lf2911 p = (some x1) := by rw [eB2906, xR_o (Ne.symm nx2436) (so_ne k2400 nx2895)]; exact k2400
                          have k2923 : rg2913 p = (some y2440) := by rw [eA2905]; exact xL_u nx2878 hy2408
                          have k2924 : rg2913 y2407 = (some y2608) := by rw [eA2905, xL_o (Ne.symm nx2600) (so_ne hy2609 nx2762)]; exact hy2609
                          have k2925 : pa2912 y2608 = (some y2407) := by rw [eP2907, xP_o nx2762 nx2882 (fun z => (Ne.symm nx2600) (Option.some.inj (hp2761.symm.trans (hI2384.mr hm2598 z).2.1)))]; exact hp2761
                          refine z_aload_n C 2 rfl dJ4_fixAfterDeletion_135 rfl ?_
                          refine z_callS C (As := [.ref x1]) (mJ4_parentOf (o := (some x1)) hW2901 (oM hlp_3)) (lw_S q706 q707 q64 q708) hd_J4_parentOf rfl (Nat.le_of_ble_eq_true rfl) (by decide) (by decide) (by decide) (by decide) rfl dJ4_fixAfterDeletion_136 (fun _ _ h => h.elim) (fun r2926 V2927 hP2928 => ?_)
                          rw [hP2928.1, hP2928.2]
                          refine z_st (st' := [va_rf (pa2912 x1)]) rfl ?_
                          refine z_top (v := .ref p) (congrArg va_rf (show (pa2912 x1) = (some p) from (by rw [k2921]))) ?_
                          refine z_callS C (As := [.ref p]) (mJ4_rightOf (o := (some p)) hW2901 (oM hm21)) (lw_S q712 q713 q64 q714) hd_J4_rightOf rfl (Nat.le_of_ble_eq_true rfl) (by decide) (by decide) (by decide) (by decide) rfl dJ4_fixAfterDeletion_139 (fun _ _ h => h.elim) (fun r2929 V2930 hP2931 => ?_)
                          rw [hP2931.1, hP2931.2]
                          refine z_st (st' := [va_rf (rg2913 p)]) rfl ?_
                          refine z_top (v := .ref y2440) (congrArg va_rf (show (rg2913 p) = (some y2440) from (by rw [k2923]))) ?_
                          refine z_astore_n C [(2, .ref y2440), (0, .ref t), (1, .ref x1)] dJ4_fixAfterDeletion_142 rfl (by decide) rfl ?_
                          refine z_aload_n C 0 rfl dJ4_fixAfterDeletion_143 rfl ?_
                          refine z_aload_n C 2 rfl dJ4_fixAfterDeletion_144 rfl ?_
                          refine z_callS C (As := [.ref x1]) (mJ4_parentOf (o := (some x1)) hW2901 (oM hlp_3)) (lw_S q706 q707 q64 q708) hd_J4_parentOf rfl (Nat.le_of_ble_eq_true rfl) (by decide) (by decide) (by decide) (by decide) rfl dJ4_fixAfterDeletion_145 (fun _ _ h => h.elim) (fun r2932 V2933 hP2934 => ?_)
                          rw [hP2934.1, hP2934.2]
                          refine z_st (st' := [va_rf (pa2912 x1), .ref y2440]) rfl ?_
                          refine z_top (v := .ref p) (congrArg va_rf (show (pa2912 x1) = (some p) from (by rw [k2921]))) ?_
                          refine z_callS C (As := [.ref p]) (mJ4_colorOf (o := (some p)) hW2901 (oM hm21)) (lw_S q703 q704 q64 q705) hd_J4_colorOf rfl (Nat.le_of_ble_eq_true rfl) (by decide) (by decide) (by decide) (by decide) rfl dJ4_fixAfterDeletion_148 (fun _ _ h => h.elim) (fun r2935 V2936 hP2937 => ?_)
                          rw [hP2937.1, hP2937.2]
                          refine z_st (st' := [.int (zb (cl2891 p)), .ref y2440]) rfl ?_
                          refine z_top (v := .int (zb false)) (congrArg (fun c => Value.int (zb c)) (show (cl2891 p) = false from (by rw [k2894]))) ?_
                          refine z_callS C (As := [.ref y2440, .int (zb false)]) (mJ4_setColor (o := (some y2440)) (c := false) hW2901 (oM hm2598)) (lw_S q715 q716 q64 q717) hd_J4_setColor rfl (Nat.le_of_ble_eq_true rfl) (by decide) (by decide) (by decide) (by decide) rfl dJ4_fixAfterDeletion_151 (fun _ _ h => h.elim) (fun r2938 V2939 hP2940 => ?_)
                          obtain ⟨hW2941, hU2942⟩ := hP2940
                          refine z_st (st' := []) rfl ?_
                          have hU2943 := zUnc.tr (S := tC t L) hU2903 hU2942 (fun _ h => Or.inl h)
                          change tW _ _ _ _ _ _ _ (va_up cl2891 y2440 false) _ _ _ _ at hW2941
                          obtain ⟨cl2945, ec2944⟩ : ∃ q, q = va_up cl2891 y2440 false := ⟨_, rfl⟩
                          rw [← ec2944] at hW2941
                          have k2946 : cl2945 y2440 = false := by rw [ec2944, zvs]
                          have k2947 : cl2945 y2407 = false := by rw [ec2944, zvn (Ne.symm nx2600)]; exact k2892
                          have k2948 : cl2945 p = false := by rw [ec2944, zvn nx2878]; exact k2894
                          have k2949 : cl2945 x1 = true := by rw [ec2944, zvn nx2880]; exact k2896
                          have k2950 : cl2945 y2608 = true := by rw [ec2944, zvn nx2882]; exact k2897
                          refine z_aload_n C 2 rfl dJ4_fixAfterDeletion_154 rfl ?_
                          refine z_callS C (As := [.ref x1]) (mJ4_parentOf (o := (some x1)) hW2941 (oM hlp_3)) (lw_S q706 q707 q64 q708) hd_J4_parentOf rfl (Nat.le_of_ble_eq_true rfl) (by decide) (by decide) (by decide) (by decide) rfl dJ4_fixAfterDeletion_155 (fun _ _ h => h.elim) (fun r2951 V2952 hP2953 => ?_)
                          rw [hP2953.1, hP2953.2]
                          refine z_st (st' := [va_rf (pa2912 x1)]) rfl ?_
                          refine z_top (v := .ref p) (congrArg va_rf (show (pa2912 x1) = (some p) from (by rw [k2921]))) ?_
                          refine z_iconst C (v := (nI 1)) dJ4_fixAfterDeletion_158 rfl ?_
                          refine z_st (st' := [.int (zb true), .ref p]) rfl ?_
                          refine z_callS C (As := [.ref p, .int (zb true)]) (mJ4_setColor (o := (some p)) (c := true) hW2941 (oM hm21)) (lw_S q715 q716 q64 q717) hd_J4_setColor rfl (Nat.le_of_ble_eq_true rfl) (by decide) (by decide) (by decide) (by decide) rfl dJ4_fixAfterDeletion_159 (fun _ _ h => h.elim) (fun r2954 V2955 hP2956 => ?_)
                          obtain ⟨hW2957, hU2958⟩ := hP2956
                          refine z_st (st' := []) rfl ?_
                          have hU2959 := zUnc.tr (S := tC t L) hU2943 hU2958 (fun _ h => Or.inl h)
                          change tW _ _ _ _ _ _ _ (va_up cl2945 p true) _ _ _ _ at hW2957
                          obtain ⟨cl2961, ec2960⟩ : ∃ q, q = va_up cl2945 p true := ⟨_, rfl⟩
                          rw [← ec2960] at hW2957
                          have k2962 : cl2961 p = true := by rw [ec2960, zvs]
                          have k2963 : cl2961 y2440 = false := by rw [ec2960, zvn (Ne.symm nx2878)]; exact k2946
                          have k2964 : cl2961 y2407 = false := by rw [ec2960, zvn nx2436]; exact k2947
                          have k2965 : cl2961 x1 = true := by rw [ec2960, zvn nx1613]; exact k2949
                          refine z_aload_n C 0 rfl dJ4_fixAfterDeletion_162 rfl ?_
                          refine z_callS C (As := [.ref y2440]) (mJ4_rightOf (o := (some y2440)) hW2957 (oM hm2598)) (lw_S q712 q713 q64 q714) hd_J4_rightOf rfl (Nat.le_of_ble_eq_true rfl) (by decide) (by decide) (by decide) (by decide) rfl dJ4_fixAfterDeletion_163 (fun _ _ h => h.elim) (fun r2966 V2967 hP2968 => ?_)
                          rw [hP2968.1, hP2968.2]
                          refine z_st (st' := [va_rf (rg2913 y2440)]) rfl ?_
                          refine z_top (v := .ref y2407) (congrArg va_rf (show (rg2913 y2440) = (some y2407) from (by rw [k2917]))) ?_
                          refine z_iconst C (v := (nI 1)) dJ4_fixAfterDeletion_166 rfl ?_
                          refine z_st (st' := [.int (zb true), .ref y2407]) rfl ?_
                          refine z_callS C (As := [.ref y2407, .int (zb true)]) (mJ4_setColor (o := (some y2407)) (c := true) hW2957 (oM hm2434)) (lw_S q715 q716 q64 q717) hd_J4_setColor rfl (Nat.le_of_ble_eq_true rfl) (by decide) (by decide) (by decide) (by decide) rfl dJ4_fixAfterDeletion_167 (fun _ _ h => h.elim) (fun r2969 V2970 hP2971 => ?_)
                          obtain ⟨hW2972, hU2973⟩ := hP2971
                          refine z_st (st' := []) rfl ?_
                          have hU2974 := zUnc.tr (S := tC t L) hU2959 hU2973 (fun _ h => Or.inl h)
                          change tW _ _ _ _ _ _ _ (va_up cl2961 y2407 true) _ _ _ _ at hW2972
                          obtain ⟨cl2976, ec2975⟩ : ∃ q, q = va_up cl2961 y2407 true := ⟨_, rfl⟩
                          rw [← ec2975] at hW2972
                          have k2977 : cl2976 y2407 = true := by rw [ec2975, zvs]
                          have k2978 : cl2976 p = true := by rw [ec2975, zvn (Ne.symm nx2436)]; exact k2962
                          have k2979 : cl2976 y2440 = false := by rw [ec2975, zvn nx2600]; exact k2963
                          have k2980 : cl2976 x1 = true := by rw [ec2975, zvn nx2895]; exact k2965
                          refine z_aload_n C 1 rfl dJ4_fixAfterDeletion_170 rfl ?_
                          refine z_aload_n C 2 rfl dJ4_fixAfterDeletion_171 rfl ?_
                          refine z_callS C (As := [.ref x1]) (mJ4_parentOf (o := (some x1)) hW2972 (oM hlp_3)) (lw_S q706 q707 q64 q708) hd_J4_parentOf rfl (Nat.le_of_ble_eq_true rfl) (by decide) (by decide) (by decide) (by decide) rfl dJ4_fixAfterDeletion_172 (fun _ _ h => h.elim) (fun r2981 V2982 hP2983 => ?_)
                          rw [hP2983.1, hP2983.2]
                          refine z_st (st' := [va_rf (pa2912 x1), .ref t]) rfl ?_
                          refine z_top (v := .ref p) (congrArg va_rf (show (pa2912 x1) = (some p) from (by rw [k2921]))) ?_
                          refine z_callV C k_TM hW2972.1 (As := [.ref p]) (mJ4_rotateLeft hW2972 hI2904 hm21 k2923) (lw_V q718 q720 qs8 q64 q721) rfl hd_J4_rotateLeft rfl (Nat.le_of_ble_eq_true rfl) (by decide) (by decide) (by decide) (by decide) rfl dJ4_fixAfterDeletion_175 (fun _ _ h => h.elim) (fun r2984 V2985 hP2986 => ?_)
                          obtain ⟨hW2987, hU2988⟩ := hP2986
                          refine z_st (st' := []) rfl ?_
                          have hU2989 := zUnc.tr (S := tC t L) hU2974 hU2988 (fun _ h => Or.inl h)
                          have hI2990 := tI_rotL hI2904 hm21 k2923
                          obtain ⟨rg2997, eB2992⟩ : ∃ q, q = xR lf2911 rg2913 p y2440 := ⟨_, rfl⟩
                          rw [← eB2992] at hW2987 hI2990
                          obtain ⟨pa2998, eP2993⟩ : ∃ q, q = xP lf2911 pa2912 p y2440 := ⟨_, rfl⟩
                          rw [← eP2993] at hW2987 hI2990
                          obtain ⟨lf2999, eA2991⟩ : ∃ q, q = xL lf2911 p y2440 := ⟨_, rfl⟩
                          rw [← eA2991] at hW2987 hI2990
                          obtain ⟨rt3000, eT2994⟩ : ∃ q, q = xT rt2914 p y2440 := ⟨_, rfl⟩
                          rw [← eT2994] at hW2987 hI2990
                          obtain ⟨lo3001, elo2995⟩ : ∃ q, q = va_up lo2915 y2440 (lo2915 p) := ⟨_, rfl⟩
                          rw [← elo2995] at hI2990
                          obtain ⟨hi3002, ehi2996⟩ : ∃ q, q = va_up hi2916 p (ps y2440) := ⟨_, rfl⟩
                          rw [← ehi2996] at hI2990
                          have k3003 : lf2999 y2440 = (some p) := by rw [eA2991]; exact xL_r
                          have k3004 : pa2998 p = (some y2440) := by rw [eP2993]; exact xP_p
                          have k3005 : rg2997 y2440 = (some y2407) := by rw [eB2992, xR_o (Ne.symm nx2878) (so_ne k2917 nx2436)]; exact k2917
                          have k3006 : pa2998 y2407 = (some y2440) := by rw [eP2993, xP_o nx2436 (Ne.symm nx2600) (hI2904.rl hm2598 k2917)]; exact k2918
                          have k3007 : pa2998 x1 = (some p) := by rw [eP2993, xP_o nx1613 nx2880 (fun z => nx2878 (Option.some.inj (k2921.symm.trans (hI2904.ml hm2598 z).2.1)))]; exact k2921
                          have k3008 : lf2999 p = (some x1) := by rw [eA2991, xL_o nx2878 (so_ne k2922 nx1613)]; exact k2922
                          refine z_aload_n C 1 rfl dJ4_fixAfterDeletion_178 rfl ?_
                          refine z_get C k_TM hW2987.1 3 (by decide) rfl q162 dJ4_fixAfterDeletion_179 ?_
                          refine z_astore_nQ C (r := rt3000) [(1, va_rf rt3000), (2, .ref y2440), (0, .ref t)] dJ4_fixAfterDeletion_182 rfl (by decide) rfl ?_
                          refine z_goto C 0 dJ4_fixAfterDeletion_183 (by decide) ?_
                          refine z_pick [(0, .ref t), (1, va_rf rt3000)] [2, 0] rfl ?_
                          obtain ⟨r03009, hr3010⟩ := hI2990.rtm hlp_3
                          obtain ⟨hm3011, hp3012, -, -⟩ := hI2990.2.1.1 r03009 hr3010
                          have e3013 : (va_rf rt3000 : Value) = .ref r03009 := (congrArg va_rf hr3010)
                          refine z_lv (lv' := [(0, .ref t), (1, .ref r03009)]) (by rw [e3013]) ?_
                          exact hexit V2985 rt3000 lf2999 rg2997 pa2998 cl2976 lo3001 hi3002 r03009 hW2987 hI2990 hU2989 hm3011 hr3010
                    · skip
                      have k3014 : (cl2371 y2440) = true := zb1 c79
                      refine z_aload_n C 0 rfl dJ4_fixAfterDeletion_82 rfl ?_
                      refine z_callS C (As := [.ref y2407]) (mJ4_rightOf (o := (some y2407)) hW2381 (oM hm2434)) (lw_S q712 q713 q64 q714) hd_J4_rightOf rfl (Nat.le_of_ble_eq_true rfl) (by decide) (by decide) (by decide) (by decide) rfl dJ4_fixAfterDeletion_83 (fun _ _ h => h.elim) (fun r3015 V3016 hP3017 => ?_)
                      rw [hP3017.1, hP3017.2]
                      refine z_st (st' := [va_rf (rg2391 y2407)]) rfl ?_
                      rcases hy3019 : rg2391 y2407 with _ | y3018
                      · skip
                        refine z_callS C (As := [.null]) (mJ4_colorOf (o := none) hW2381 oN) (lw_S q703 q704 q64 q705) hd_J4_colorOf rfl (Nat.le_of_ble_eq_true rfl) (by decide) (by decide) (by decide) (by decide) rfl dJ4_fixAfterDeletion_86 (fun _ _ h => h.elim) (fun r3020 V3021 hP3022 => ?_)
                        rw [hP3022.1, hP3022.2]
                        refine z_st (st' := [.int (zb true)]) rfl ?_
                        refine z_iconst C (v := (nI 1)) dJ4_fixAfterDeletion_89 rfl ?_
                        refine z_icmp_ne C 106 dJ4_fixAfterDeletion_90 (by decide) (fun c90 => ?_) (fun c90 => ?_)
                        · skip
                          have k3023 : true = false := zb1f c90
                          cases k3023
                        · skip
                          have k3024 : true = true := zb1 c90
                          refine z_aload_n C 0 rfl dJ4_fixAfterDeletion_93 rfl ?_
                          refine z_iconst C (v := (nI 0)) dJ4_fixAfterDeletion_94 rfl ?_
                          refine z_st (st' := [.int (zb false), .ref y2407]) rfl ?_
                          refine z_callS C (As := [.ref y2407, .int (zb false)]) (mJ4_setColor (o := (some y2407)) (c := false) hW2381 (oM hm2434)) (lw_S q715 q716 q64 q717) hd_J4_setColor rfl (Nat.le_of_ble_eq_true rfl) (by decide) (by decide) (by decide) (by decide) rfl dJ4_fixAfterDeletion_95 (fun _ _ h => h.elim) (fun r3025 V3026 hP3027 => ?_)
                          obtain ⟨hW3028, hU3029⟩ := hP3027
                          refine z_st (st' := []) rfl ?_
                          have hU3030 := zUnc.tr (S := tC t L) hU2383 hU3029 (fun _ h => Or.inl h)
                          change tW _ _ _ _ _ _ _ (va_up cl2371 y2407 false) _ _ _ _ at hW3028
                          obtain ⟨cl3032, ec3031⟩ : ∃ q, q = va_up cl2371 y2407 false := ⟨_, rfl⟩
                          rw [← ec3031] at hW3028
                          have k3033 : cl3032 y2407 = false := by rw [ec3031, zvs]
                          have k3034 : cl3032 p = false := by rw [ec3031, zvn (Ne.symm nx2436)]; exact k2372
                          have nx3035 : y1620 ≠ y2407 := (Ne.symm (tI.gg hI2384 hm2434 hp2435 hm21 k2398))
                          have k3036 : cl3032 y1620 = true := by rw [ec3031, zvn nx3035]; exact k2373
                          have nx3037 : x1 ≠ y2407 := (tI.sib hI2384 hm21 k2400 hy2408)
                          have k3038 : cl3032 x1 = true := by rw [ec3031, zvn nx3037]; exact k2374
                          have k3039 : cl3032 y2440 = true := by rw [ec3031, zvn nx2600]; exact k3014
                          refine z_aload_n C 2 rfl dJ4_fixAfterDeletion_98 rfl ?_
                          refine z_callS C (As := [.ref x1]) (mJ4_parentOf (o := (some x1)) hW3028 (oM hlp_3)) (lw_S q706 q707 q64 q708) hd_J4_parentOf rfl (Nat.le_of_ble_eq_true rfl) (by decide) (by decide) (by decide) (by decide) rfl dJ4_fixAfterDeletion_99 (fun _ _ h => h.elim) (fun r3040 V3041 hP3042 => ?_)
                          rw [hP3042.1, hP3042.2]
                          refine z_st (st' := [va_rf (pa2392 x1)]) rfl ?_
                          refine z_top (v := .ref p) (congrArg va_rf (show (pa2392 x1) = (some p) from (by rw [k2399]))) ?_
                          refine z_astore_n C [(1, .ref p), (2, .ref y2407), (0, .ref t)] dJ4_fixAfterDeletion_102 rfl (by decide) rfl ?_
                          refine z_goto C 183 dJ4_fixAfterDeletion_103 (by decide) ?_
                          refine z_goto C 0 dJ4_fixAfterDeletion_183 (by decide) ?_
                          refine z_pick [(0, .ref t), (1, .ref p)] [2, 0] rfl ?_
                          have q1 := (hI2384.mp hlp_3 k2399).2
                          have qa := congrFun elo2389 x1
                          rw [zvn nx2359] at qa
                          have qb := congrFun ehi2390 x1
                          rw [zvn nx1613] at qb
                          exact ih_lp V3026 rt2394 lf2393 rg2391 pa2392 cl3032 lo2395 hi2396 p hW3028 hI2384 hU3030 hm21 (by omega)
                      · skip
                        obtain ⟨hm3043, hp3044, nx3045⟩ := hI2384.mr hm2434 hy3019
                        refine z_callS C (As := [.ref y3018]) (mJ4_colorOf (o := (some y3018)) hW2381 (oM hm3043)) (lw_S q703 q704 q64 q705) hd_J4_colorOf rfl (Nat.le_of_ble_eq_true rfl) (by decide) (by decide) (by decide) (by decide) rfl dJ4_fixAfterDeletion_86 (fun _ _ h => h.elim) (fun r3046 V3047 hP3048 => ?_)
                        rw [hP3048.1, hP3048.2]
                        refine z_st (st' := [.int (zb (cl2371 y3018))]) rfl ?_
                        refine z_iconst C (v := (nI 1)) dJ4_fixAfterDeletion_89 rfl ?_
                        refine z_icmp_ne C 106 dJ4_fixAfterDeletion_90 (by decide) (fun c90 => ?_) (fun c90 => ?_)
                        · skip
                          have k3049 : (cl2371 y3018) = false := zb1f c90
                          refine z_aload_n C 0 rfl dJ4_fixAfterDeletion_106 rfl ?_
                          refine z_callS C (As := [.ref y2407]) (mJ4_rightOf (o := (some y2407)) hW2381 (oM hm2434)) (lw_S q712 q713 q64 q714) hd_J4_rightOf rfl (Nat.le_of_ble_eq_true rfl) (by decide) (by decide) (by decide) (by decide) rfl dJ4_fixAfterDeletion_107 (fun _ _ h => h.elim) (fun r3050 V3051 hP3052 => ?_)
                          rw [hP3052.1, hP3052.2]
                          refine z_st (st' := [va_rf (rg2391 y2407)]) rfl ?_
                          refine z_top (v := .ref y3018) (congrArg va_rf (show (rg2391 y2407) = (some y3018) from (by rw [hy3019]))) ?_
                          refine z_callS C (As := [.ref y3018]) (mJ4_colorOf (o := (some y3018)) hW2381 (oM hm3043)) (lw_S q703 q704 q64 q705) hd_J4_colorOf rfl (Nat.le_of_ble_eq_true rfl) (by decide) (by decide) (by decide) (by decide) rfl dJ4_fixAfterDeletion_110 (fun _ _ h => h.elim) (fun r3053 V3054 hP3055 => ?_)
                          rw [hP3055.1, hP3055.2]
                          refine z_st (st' := [.int (zb (cl2371 y3018))]) rfl ?_
                          refine z_top (v := .int (zb false)) (congrArg (fun c => Value.int (zb c)) (show (cl2371 y3018) = false from (by rw [k3049]))) ?_
                          refine z_iconst C (v := (nI 1)) dJ4_fixAfterDeletion_113 rfl ?_
                          refine z_icmp_ne C 143 dJ4_fixAfterDeletion_114 (by decide) (fun c114 => ?_) (fun c114 => ?_)
                          · skip
                            have k3056 : false = false := zb1f c114
                            refine z_aload_n C 0 rfl dJ4_fixAfterDeletion_143 rfl ?_
                            refine z_aload_n C 2 rfl dJ4_fixAfterDeletion_144 rfl ?_
                            refine z_callS C (As := [.ref x1]) (mJ4_parentOf (o := (some x1)) hW2381 (oM hlp_3)) (lw_S q706 q707 q64 q708) hd_J4_parentOf rfl (Nat.le_of_ble_eq_true rfl) (by decide) (by decide) (by decide) (by decide) rfl dJ4_fixAfterDeletion_145 (fun _ _ h => h.elim) (fun r3057 V3058 hP3059 => ?_)
                            rw [hP3059.1, hP3059.2]
                            refine z_st (st' := [va_rf (pa2392 x1), .ref y2407]) rfl ?_
                            refine z_top (v := .ref p) (congrArg va_rf (show (pa2392 x1) = (some p) from (by rw [k2399]))) ?_
                            refine z_callS C (As := [.ref p]) (mJ4_colorOf (o := (some p)) hW2381 (oM hm21)) (lw_S q703 q704 q64 q705) hd_J4_colorOf rfl (Nat.le_of_ble_eq_true rfl) (by decide) (by decide) (by decide) (by decide) rfl dJ4_fixAfterDeletion_148 (fun _ _ h => h.elim) (fun r3060 V3061 hP3062 => ?_)
                            rw [hP3062.1, hP3062.2]
                            refine z_st (st' := [.int (zb (cl2371 p)), .ref y2407]) rfl ?_
                            refine z_top (v := .int (zb false)) (congrArg (fun c => Value.int (zb c)) (show (cl2371 p) = false from (by rw [k2372]))) ?_
                            refine z_callS C (As := [.ref y2407, .int (zb false)]) (mJ4_setColor (o := (some y2407)) (c := false) hW2381 (oM hm2434)) (lw_S q715 q716 q64 q717) hd_J4_setColor rfl (Nat.le_of_ble_eq_true rfl) (by decide) (by decide) (by decide) (by decide) rfl dJ4_fixAfterDeletion_151 (fun _ _ h => h.elim) (fun r3063 V3064 hP3065 => ?_)
                            obtain ⟨hW3066, hU3067⟩ := hP3065
                            refine z_st (st' := []) rfl ?_
                            have hU3068 := zUnc.tr (S := tC t L) hU2383 hU3067 (fun _ h => Or.inl h)
                            change tW _ _ _ _ _ _ _ (va_up cl2371 y2407 false) _ _ _ _ at hW3066
                            obtain ⟨cl3070, ec3069⟩ : ∃ q, q = va_up cl2371 y2407 false := ⟨_, rfl⟩
                            rw [← ec3069] at hW3066
                            have k3071 : cl3070 y2407 = false := by rw [ec3069, zvs]
                            have k3072 : cl3070 p = false := by rw [ec3069, zvn (Ne.symm nx2436)]; exact k2372
                            have nx3073 : y1620 ≠ y2407 := (Ne.symm (tI.gg hI2384 hm2434 hp2435 hm21 k2398))
                            have k3074 : cl3070 y1620 = true := by rw [ec3069, zvn nx3073]; exact k2373
                            have nx3075 : x1 ≠ y2407 := (tI.sib hI2384 hm21 k2400 hy2408)
                            have k3076 : cl3070 x1 = true := by rw [ec3069, zvn nx3075]; exact k2374
                            have k3077 : cl3070 y2440 = true := by rw [ec3069, zvn nx2600]; exact k3014
                            have k3078 : cl3070 y3018 = false := by rw [ec3069, zvn nx3045]; exact k3049
                            refine z_aload_n C 2 rfl dJ4_fixAfterDeletion_154 rfl ?_
                            refine z_callS C (As := [.ref x1]) (mJ4_parentOf (o := (some x1)) hW3066 (oM hlp_3)) (lw_S q706 q707 q64 q708) hd_J4_parentOf rfl (Nat.le_of_ble_eq_true rfl) (by decide) (by decide) (by decide) (by decide) rfl dJ4_fixAfterDeletion_155 (fun _ _ h => h.elim) (fun r3079 V3080 hP3081 => ?_)
                            rw [hP3081.1, hP3081.2]
                            refine z_st (st' := [va_rf (pa2392 x1)]) rfl ?_
                            refine z_top (v := .ref p) (congrArg va_rf (show (pa2392 x1) = (some p) from (by rw [k2399]))) ?_
                            refine z_iconst C (v := (nI 1)) dJ4_fixAfterDeletion_158 rfl ?_
                            refine z_st (st' := [.int (zb true), .ref p]) rfl ?_
                            refine z_callS C (As := [.ref p, .int (zb true)]) (mJ4_setColor (o := (some p)) (c := true) hW3066 (oM hm21)) (lw_S q715 q716 q64 q717) hd_J4_setColor rfl (Nat.le_of_ble_eq_true rfl) (by decide) (by decide) (by decide) (by decide) rfl dJ4_fixAfterDeletion_159 (fun _ _ h => h.elim) (fun r3082 V3083 hP3084 => ?_)
                            obtain ⟨hW3085, hU3086⟩ := hP3084
                            refine z_st (st' := []) rfl ?_
                            have hU3087 := zUnc.tr (S := tC t L) hU3068 hU3086 (fun _ h => Or.inl h)
                            change tW _ _ _ _ _ _ _ (va_up cl3070 p true) _ _ _ _ at hW3085
                            obtain ⟨cl3089, ec3088⟩ : ∃ q, q = va_up cl3070 p true := ⟨_, rfl⟩
                            rw [← ec3088] at hW3085
                            have k3090 : cl3089 p = true := by rw [ec3088, zvs]
                            have k3091 : cl3089 y2407 = false := by rw [ec3088, zvn nx2436]; exact k3071
                            have k3092 : cl3089 y1620 = true := by rw [ec3088, zvn nx1654]; exact k3074
                            have k3093 : cl3089 x1 = true := by rw [ec3088, zvn nx1613]; exact k3076
                            have nx3094 : y2440 ≠ p := (tI.gg hI2384 hm2598 hp2599 hm2434 hp2435)
                            have k3095 : cl3089 y2440 = true := by rw [ec3088, zvn nx3094]; exact k3077
                            have nx3096 : y3018 ≠ p := (tI.gg hI2384 hm3043 hp3044 hm2434 hp2435)
                            have k3097 : cl3089 y3018 = false := by rw [ec3088, zvn nx3096]; exact k3078
                            refine z_aload_n C 0 rfl dJ4_fixAfterDeletion_162 rfl ?_
                            refine z_callS C (As := [.ref y2407]) (mJ4_rightOf (o := (some y2407)) hW3085 (oM hm2434)) (lw_S q712 q713 q64 q714) hd_J4_rightOf rfl (Nat.le_of_ble_eq_true rfl) (by decide) (by decide) (by decide) (by decide) rfl dJ4_fixAfterDeletion_163 (fun _ _ h => h.elim) (fun r3098 V3099 hP3100 => ?_)
                            rw [hP3100.1, hP3100.2]
                            refine z_st (st' := [va_rf (rg2391 y2407)]) rfl ?_
                            refine z_top (v := .ref y3018) (congrArg va_rf (show (rg2391 y2407) = (some y3018) from (by rw [hy3019]))) ?_
                            refine z_iconst C (v := (nI 1)) dJ4_fixAfterDeletion_166 rfl ?_
                            refine z_st (st' := [.int (zb true), .ref y3018]) rfl ?_
                            refine z_callS C (As := [.ref y3018, .int (zb true)]) (mJ4_setColor (o := (some y3018)) (c := true) hW3085 (oM hm3043)) (lw_S q715 q716 q64 q717) hd_J4_setColor rfl (Nat.le_of_ble_eq_true rfl) (by decide) (by decide) (by decide) (by decide) rfl dJ4_fixAfterDeletion_167 (fun _ _ h => h.elim) (fun r3101 V3102 hP3103 => ?_)
                            obtain ⟨hW3104, hU3105⟩ := hP3103
                            refine z_st (st' := []) rfl ?_
                            have hU3106 := zUnc.tr (S := tC t L) hU3087 hU3105 (fun _ h => Or.inl h)
                            change tW _ _ _ _ _ _ _ (va_up cl3089 y3018 true) _ _ _ _ at hW3104
                            obtain ⟨cl3108, ec3107⟩ : ∃ q, q = va_up cl3089 y3018 true := ⟨_, rfl⟩
                            rw [← ec3107] at hW3104
                            have k3109 : cl3108 y3018 = true := by rw [ec3107, zvs]
                            have k3110 : cl3108 p = true := by rw [ec3107, zvn (Ne.symm nx3096)]; exact k3090
                            have k3111 : cl3108 y2407 = false := by rw [ec3107, zvn (Ne.symm nx3045)]; exact k3091
                            have nx3112 : x1 ≠ y3018 := (ne_pa k2399 hp3044 (Ne.symm nx2436))
                            have k3113 : cl3108 x1 = true := by rw [ec3107, zvn nx3112]; exact k3093
                            have nx3114 : y2440 ≠ y3018 := (tI.sib hI2384 hm2434 hy2441 hy3019)
                            have k3115 : cl3108 y2440 = true := by rw [ec3107, zvn nx3114]; exact k3095
                            refine z_aload_n C 1 rfl dJ4_fixAfterDeletion_170 rfl ?_
                            refine z_aload_n C 2 rfl dJ4_fixAfterDeletion_171 rfl ?_
                            refine z_callS C (As := [.ref x1]) (mJ4_parentOf (o := (some x1)) hW3104 (oM hlp_3)) (lw_S q706 q707 q64 q708) hd_J4_parentOf rfl (Nat.le_of_ble_eq_true rfl) (by decide) (by decide) (by decide) (by decide) rfl dJ4_fixAfterDeletion_172 (fun _ _ h => h.elim) (fun r3116 V3117 hP3118 => ?_)
                            rw [hP3118.1, hP3118.2]
                            refine z_st (st' := [va_rf (pa2392 x1), .ref t]) rfl ?_
                            refine z_top (v := .ref p) (congrArg va_rf (show (pa2392 x1) = (some p) from (by rw [k2399]))) ?_
                            refine z_callV C k_TM hW3104.1 (As := [.ref p]) (mJ4_rotateLeft hW3104 hI2384 hm21 hy2408) (lw_V q718 q720 qs8 q64 q721) rfl hd_J4_rotateLeft rfl (Nat.le_of_ble_eq_true rfl) (by decide) (by decide) (by decide) (by decide) rfl dJ4_fixAfterDeletion_175 (fun _ _ h => h.elim) (fun r3119 V3120 hP3121 => ?_)
                            obtain ⟨hW3122, hU3123⟩ := hP3121
                            refine z_st (st' := []) rfl ?_
                            have hU3124 := zUnc.tr (S := tC t L) hU3106 hU3123 (fun _ h => Or.inl h)
                            have hI3125 := tI_rotL hI2384 hm21 hy2408
                            obtain ⟨rg3132, eB3127⟩ : ∃ q, q = xR lf2393 rg2391 p y2407 := ⟨_, rfl⟩
                            rw [← eB3127] at hW3122 hI3125
                            obtain ⟨pa3133, eP3128⟩ : ∃ q, q = xP lf2393 pa2392 p y2407 := ⟨_, rfl⟩
                            rw [← eP3128] at hW3122 hI3125
                            obtain ⟨lf3134, eA3126⟩ : ∃ q, q = xL lf2393 p y2407 := ⟨_, rfl⟩
                            rw [← eA3126] at hW3122 hI3125
                            obtain ⟨rt3135, eT3129⟩ : ∃ q, q = xT rt2394 p y2407 := ⟨_, rfl⟩
                            rw [← eT3129] at hW3122 hI3125
                            obtain ⟨lo3136, elo3130⟩ : ∃ q, q = va_up lo2395 y2407 (lo2395 p) := ⟨_, rfl⟩
                            rw [← elo3130] at hI3125
                            obtain ⟨hi3137, ehi3131⟩ : ∃ q, q = va_up hi2396 p (ps y2407) := ⟨_, rfl⟩
                            rw [← ehi3131] at hI3125
                            have k3138 : lf3134 y2407 = (some p) := by rw [eA3126]; exact xL_r
                            have k3139 : pa3133 p = (some y2407) := by rw [eP3128]; exact xP_p
                            have k3140 : rg3132 p = (some y2440) := by rw [eB3127, xR_p]; exact hy2441
                            have k3141 : pa3133 y2407 = (some y1620) := by rw [eP3128, xP_r nx2436]; exact k2398
                            have k3142 : lf3134 y1620 = (some y2407) := by rw [eA3126]; exact xL_u nx3073 k2397
                            have nx3143 : y2440 ≠ x1 := (ne_pa hp2599 k2399 nx2436)
                            have k3144 : pa3133 x1 = (some p) := by rw [eP3128, xP_o nx1613 nx3075 (so_ne hy2441 nx3143)]; exact k2399
                            have k3145 : lf3134 p = (some x1) := by rw [eA3126, xL_o (Ne.symm nx2436) (so_ne k2400 nx1613)]; exact k2400
                            have k3146 : pa3133 y2440 = (some p) := by rw [eP3128]; exact xP_c nx3094 nx2600 hy2441
                            have k3147 : rg3132 y2407 = (some y3018) := by rw [eB3127, xR_o nx2436 (so_ne hy3019 nx3096)]; exact hy3019
                            have k3148 : pa3133 y3018 = (some y2407) := by rw [eP3128, xP_o nx3096 nx3045 (so_ne hy2441 nx3114)]; exact hp3044
                            refine z_aload_n C 1 rfl dJ4_fixAfterDeletion_178 rfl ?_
                            refine z_get C k_TM hW3122.1 3 (by decide) rfl q162 dJ4_fixAfterDeletion_179 ?_
                            refine z_astore_nQ C (r := rt3135) [(1, va_rf rt3135), (2, .ref y2407), (0, .ref t)] dJ4_fixAfterDeletion_182 rfl (by decide) rfl ?_
                            refine z_goto C 0 dJ4_fixAfterDeletion_183 (by decide) ?_
                            refine z_pick [(0, .ref t), (1, va_rf rt3135)] [2, 0] rfl ?_
                            obtain ⟨r03149, hr3150⟩ := hI3125.rtm hlp_3
                            obtain ⟨hm3151, hp3152, -, -⟩ := hI3125.2.1.1 r03149 hr3150
                            have e3153 : (va_rf rt3135 : Value) = .ref r03149 := (congrArg va_rf hr3150)
                            refine z_lv (lv' := [(0, .ref t), (1, .ref r03149)]) (by rw [e3153]) ?_
                            exact hexit V3120 rt3135 lf3134 rg3132 pa3133 cl3108 lo3136 hi3137 r03149 hW3122 hI3125 hU3124 hm3151 hr3150
                          · skip
                            have k3154 : false = true := zb1 c114
                            cases k3154
                        · skip
                          have k3155 : (cl2371 y3018) = true := zb1 c90
                          refine z_aload_n C 0 rfl dJ4_fixAfterDeletion_93 rfl ?_
                          refine z_iconst C (v := (nI 0)) dJ4_fixAfterDeletion_94 rfl ?_
                          refine z_st (st' := [.int (zb false), .ref y2407]) rfl ?_
                          refine z_callS C (As := [.ref y2407, .int (zb false)]) (mJ4_setColor (o := (some y2407)) (c := false) hW2381 (oM hm2434)) (lw_S q715 q716 q64 q717) hd_J4_setColor rfl (Nat.le_of_ble_eq_true rfl) (by decide) (by decide) (by decide) (by decide) rfl dJ4_fixAfterDeletion_95 (fun _ _ h => h.elim) (fun r3156 V3157 hP3158 => ?_)
                          obtain ⟨hW3159, hU3160⟩ := hP3158
                          refine z_st (st' := []) rfl ?_
                          have hU3161 := zUnc.tr (S := tC t L) hU2383 hU3160 (fun _ h => Or.inl h)
                          change tW _ _ _ _ _ _ _ (va_up cl2371 y2407 false) _ _ _ _ at hW3159
                          obtain ⟨cl3163, ec3162⟩ : ∃ q, q = va_up cl2371 y2407 false := ⟨_, rfl⟩
                          rw [← ec3162] at hW3159
                          have k3164 : cl3163 y2407 = false := by rw [ec3162, zvs]
                          have k3165 : cl3163 p = false := by rw [ec3162, zvn (Ne.symm nx2436)]; exact k2372
                          have nx3166 : y1620 ≠ y2407 := (Ne.symm (tI.gg hI2384 hm2434 hp2435 hm21 k2398))
                          have k3167 : cl3163 y1620 = true := by rw [ec3162, zvn nx3166]; exact k2373
                          have nx3168 : x1 ≠ y2407 := (tI.sib hI2384 hm21 k2400 hy2408)
                          have k3169 : cl3163 x1 = true := by rw [ec3162, zvn nx3168]; exact k2374
                          have k3170 : cl3163 y2440 = true := by rw [ec3162, zvn nx2600]; exact k3014
                          have k3171 : cl3163 y3018 = true := by rw [ec3162, zvn nx3045]; exact k3155
                          refine z_aload_n C 2 rfl dJ4_fixAfterDeletion_98 rfl ?_
                          refine z_callS C (As := [.ref x1]) (mJ4_parentOf (o := (some x1)) hW3159 (oM hlp_3)) (lw_S q706 q707 q64 q708) hd_J4_parentOf rfl (Nat.le_of_ble_eq_true rfl) (by decide) (by decide) (by decide) (by decide) rfl dJ4_fixAfterDeletion_99 (fun _ _ h => h.elim) (fun r3172 V3173 hP3174 => ?_)
                          rw [hP3174.1, hP3174.2]
                          refine z_st (st' := [va_rf (pa2392 x1)]) rfl ?_
                          refine z_top (v := .ref p) (congrArg va_rf (show (pa2392 x1) = (some p) from (by rw [k2399]))) ?_
                          refine z_astore_n C [(1, .ref p), (2, .ref y2407), (0, .ref t)] dJ4_fixAfterDeletion_102 rfl (by decide) rfl ?_
                          refine z_goto C 183 dJ4_fixAfterDeletion_103 (by decide) ?_
                          refine z_goto C 0 dJ4_fixAfterDeletion_183 (by decide) ?_
                          refine z_pick [(0, .ref t), (1, .ref p)] [2, 0] rfl ?_
                          have q1 := (hI2384.mp hlp_3 k2399).2
                          have qa := congrFun elo2389 x1
                          rw [zvn nx2359] at qa
                          have qb := congrFun ehi2390 x1
                          rw [zvn nx1613] at qb
                          exact ih_lp V3157 rt2394 lf2393 rg2391 pa2392 cl3163 lo2395 hi2396 p hW3159 hI2384 hU3161 hm21 (by omega)
  exact lp _ V rt lf rg pa cl lo hi x hW hI hU0 hx (Nat.lt_succ_self _)
set_option maxHeartbeats 4000000 in
set_option maxRecDepth 100000 in
theorem mJ4_fixAfterDeletion_l {l : Launch} {D : ZD} {V : ZV} {t : Nat} {L : List Nat} {rt : Option Nat} {lf rg pa : Nat → Option Nat} {cl : Nat → Bool} {ky vl : Nat → Nat} {sz : Nat} {mc : Int32} (hW : tW V t L rt lf rg pa cl ky vl sz mc) {ps lo hi : Nat → Nat} (hI : tI L rt lf rg pa ps lo hi) {x : Nat} (hx : x ∈ L) (hl : lf x = none) (hr : rg x = none) : ZM l D yJ4_fixAfterDeletion (ws_ yJ4_fixAfterDeletion cJ4_fixAfterDeletion 3 none) 2 0 0 eU V [.ref t, .ref x] (fun r V' => ∃ rt2 lf2 rg2 pa2 cl2 lo2 hi2, tW V' t L rt2 lf2 rg2 pa2 cl2 ky vl sz mc ∧ tI L rt2 lf2 rg2 pa2 ps lo2 hi2 ∧ zUnc V V' (tC t L) ∧ lf2 x = none ∧ rg2 x = none) zno_x := by
  refine z_enter (by decide +kernel) [(0, .ref t), (1, .ref x)] rfl (Nat.le_of_ble_eq_true rfl) (zcat_cons rfl (zcat_cons rfl zcat_nil)) (fun Γ C hQ => ?_)
  have hU0 : zUnc V V (tC t L) := zUnc.rf
  have hexit : ∀ (V1 : ZV) (rt1 : Option Nat) (lf1 rg1 pa1 : Nat → Option Nat) (cl1 : Nat → Bool) (lo1 hi1 : Nat → Nat) (x1 : Nat), tW V1 t L rt1 lf1 rg1 pa1 cl1 ky vl sz mc → tI L rt1 lf1 rg1 pa1 ps lo1 hi1 → zUnc V V1 (tC t L) → x1 ∈ L → rt1 = some x1 → lf1 x = none → rg1 x = none → ZW l D Γ (zr 2 0 0) 0 [(0, .ref t), (1, .ref x1)] [] V1 0 0 := by
    intro V1 rt1 lf1 rg1 pa1 cl1 lo1 hi1 x1 hhexit_0 hhexit_1 hhexit_2 hhexit_3 hhexit_4 hhexit_5 hhexit_6
    refine z_aload_n C 1 rfl dJ4_fixAfterDeletion_0 rfl ?_
    refine z_aload_n C 0 rfl dJ4_fixAfterDeletion_1 rfl ?_
    refine z_get C k_TM hhexit_0.1 3 (by decide) rfl q162 dJ4_fixAfterDeletion_2 ?_
    refine z_top (v := .ref x1) (congrArg va_rf (show rt1 = (some x1) from hhexit_4)) ?_
    refine z_acmp_eq C (some x1) (some x1) 345 dJ4_fixAfterDeletion_5 (by decide) (fun c5 => ?_) (fun c5 => ?_)
    · skip
      refine z_aload_n C 1 rfl dJ4_fixAfterDeletion_345 rfl ?_
      refine z_iconst C (v := (nI 1)) dJ4_fixAfterDeletion_346 rfl ?_
      refine z_st (st' := [.int (zb true), .ref x1]) rfl ?_
      refine z_callS C (As := [.ref x1, .int (zb true)]) (mJ4_setColor (o := (some x1)) (c := true) hhexit_0 (oM hhexit_3)) (lw_S q715 q716 q64 q717) hd_J4_setColor rfl (Nat.le_of_ble_eq_true rfl) (by decide) (by decide) (by decide) (by decide) rfl dJ4_fixAfterDeletion_347 (fun _ _ h => h.elim) (fun r1 V2 hP3 => ?_)
      obtain ⟨hW4, hU5⟩ := hP3
      refine z_st (st' := []) rfl ?_
      have hU6 := zUnc.tr (S := tC t L) hhexit_2 hU5 (fun _ h => Or.inl h)
      change tW _ _ _ _ _ _ _ (va_up cl1 x1 true) _ _ _ _ at hW4
      obtain ⟨cl8, ec7⟩ : ∃ q, q = va_up cl1 x1 true := ⟨_, rfl⟩
      rw [← ec7] at hW4
      have k9 : cl8 x1 = true := by rw [ec7, zvs]
      exact z_vret C hQ () rfl ⟨_, _, _, _, _, _, _, hW4, hhexit_1, hU6, hhexit_5, hhexit_6⟩ (by decide) (by decide) dJ4_fixAfterDeletion_350
    · skip
      exact absurd rfl c5
  have lp : ∀ (n_lp : Nat) (V1 : ZV) (rt1 : Option Nat) (lf1 rg1 pa1 : Nat → Option Nat) (cl1 : Nat → Bool) (lo1 hi1 : Nat → Nat) (x1 : Nat), tW V1 t L rt1 lf1 rg1 pa1 cl1 ky vl sz mc → tI L rt1 lf1 rg1 pa1 ps lo1 hi1 → zUnc V V1 (tC t L) → x1 ∈ L → lf1 x = none → rg1 x = none → lo1 x1 ≤ ps x → ps x < hi1 x1 → L.length - (hi1 x1 - lo1 x1) < n_lp → ZW l D Γ (zr 2 0 0) 0 [(0, .ref t), (1, .ref x1)] [] V1 0 0 := by
    intro n_lp
    induction n_lp with
    | zero => intro V1 rt1 lf1 rg1 pa1 cl1 lo1 hi1 x1 _ _ _ _ _ _ _ _ hm; exact absurd hm (Nat.not_lt_zero _)
    | succ n_lp ih_lp =>
      intro V1 rt1 lf1 rg1 pa1 cl1 lo1 hi1 x1 hlp_0 hlp_1 hlp_2 hlp_3 hlp_4 hlp_5 hlp_6 hlp_7 hm
      refine z_aload_n C 1 rfl dJ4_fixAfterDeletion_0 rfl ?_
      refine z_aload_n C 0 rfl dJ4_fixAfterDeletion_1 rfl ?_
      refine z_get C k_TM hlp_0.1 3 (by decide) rfl q162 dJ4_fixAfterDeletion_2 ?_
      refine z_acmp_eq C (some x1) rt1 345 dJ4_fixAfterDeletion_5 (by decide) (fun c5 => ?_) (fun c5 => ?_)
      · skip
        have k10 : rt1 = (some x1) := Eq.symm c5
        refine z_aload_n C 1 rfl dJ4_fixAfterDeletion_345 rfl ?_
        refine z_iconst C (v := (nI 1)) dJ4_fixAfterDeletion_346 rfl ?_
        refine z_st (st' := [.int (zb true), .ref x1]) rfl ?_
        refine z_callS C (As := [.ref x1, .int (zb true)]) (mJ4_setColor (o := (some x1)) (c := true) hlp_0 (oM hlp_3)) (lw_S q715 q716 q64 q717) hd_J4_setColor rfl (Nat.le_of_ble_eq_true rfl) (by decide) (by decide) (by decide) (by decide) rfl dJ4_fixAfterDeletion_347 (fun _ _ h => h.elim) (fun r11 V12 hP13 => ?_)
        obtain ⟨hW14, hU15⟩ := hP13
        refine z_st (st' := []) rfl ?_
        have hU16 := zUnc.tr (S := tC t L) hlp_2 hU15 (fun _ h => Or.inl h)
        change tW _ _ _ _ _ _ _ (va_up cl1 x1 true) _ _ _ _ at hW14
        obtain ⟨cl18, ec17⟩ : ∃ q, q = va_up cl1 x1 true := ⟨_, rfl⟩
        rw [← ec17] at hW14
        have k19 : cl18 x1 = true := by rw [ec17, zvs]
        exact z_vret C hQ () rfl ⟨_, _, _, _, _, _, _, hW14, hlp_1, hU16, hlp_4, hlp_5⟩ (by decide) (by decide) dJ4_fixAfterDeletion_350
      · skip
        have k20 : ¬ rt1 = (some x1) := fun z => c5 (Eq.symm z)
        obtain ⟨p, hp⟩ := hlp_1.up hlp_3 k20
        obtain ⟨hm21, -, nx23, -⟩ := hlp_1.mp hlp_3 hp
        refine z_aload_n C 1 rfl dJ4_fixAfterDeletion_8 rfl ?_
        refine z_callS C (As := [.ref x1]) (mJ4_colorOf (o := (some x1)) hlp_0 (oM hlp_3)) (lw_S q703 q704 q64 q705) hd_J4_colorOf rfl (Nat.le_of_ble_eq_true rfl) (by decide) (by decide) (by decide) (by decide) rfl dJ4_fixAfterDeletion_9 (fun _ _ h => h.elim) (fun r24 V25 hP26 => ?_)
        rw [hP26.1, hP26.2]
        refine z_st (st' := [.int (zb (cl1 x1))]) rfl ?_
        refine z_iconst C (v := (nI 1)) dJ4_fixAfterDeletion_12 rfl ?_
        refine z_icmp_ne C 345 dJ4_fixAfterDeletion_13 (by decide) (fun c13 => ?_) (fun c13 => ?_)
        · skip
          have k27 : (cl1 x1) = false := zb1f c13
          refine z_aload_n C 1 rfl dJ4_fixAfterDeletion_345 rfl ?_
          refine z_iconst C (v := (nI 1)) dJ4_fixAfterDeletion_346 rfl ?_
          refine z_st (st' := [.int (zb true), .ref x1]) rfl ?_
          refine z_callS C (As := [.ref x1, .int (zb true)]) (mJ4_setColor (o := (some x1)) (c := true) hlp_0 (oM hlp_3)) (lw_S q715 q716 q64 q717) hd_J4_setColor rfl (Nat.le_of_ble_eq_true rfl) (by decide) (by decide) (by decide) (by decide) rfl dJ4_fixAfterDeletion_347 (fun _ _ h => h.elim) (fun r28 V29 hP30 => ?_)
          obtain ⟨hW31, hU32⟩ := hP30
          refine z_st (st' := []) rfl ?_
          have hU33 := zUnc.tr (S := tC t L) hlp_2 hU32 (fun _ h => Or.inl h)
          change tW _ _ _ _ _ _ _ (va_up cl1 x1 true) _ _ _ _ at hW31
          obtain ⟨cl35, ec34⟩ : ∃ q, q = va_up cl1 x1 true := ⟨_, rfl⟩
          rw [← ec34] at hW31
          have k36 : cl35 x1 = true := by rw [ec34, zvs]
          exact z_vret C hQ () rfl ⟨_, _, _, _, _, _, _, hW31, hlp_1, hU33, hlp_4, hlp_5⟩ (by decide) (by decide) dJ4_fixAfterDeletion_350
        · skip
          have k37 : (cl1 x1) = true := zb1 c13
          refine z_aload_n C 1 rfl dJ4_fixAfterDeletion_16 rfl ?_
          refine z_aload_n C 1 rfl dJ4_fixAfterDeletion_17 rfl ?_
          refine z_callS C (As := [.ref x1]) (mJ4_parentOf (o := (some x1)) hlp_0 (oM hlp_3)) (lw_S q706 q707 q64 q708) hd_J4_parentOf rfl (Nat.le_of_ble_eq_true rfl) (by decide) (by decide) (by decide) (by decide) rfl dJ4_fixAfterDeletion_18 (fun _ _ h => h.elim) (fun r38 V39 hP40 => ?_)
          rw [hP40.1, hP40.2]
          refine z_st (st' := [va_rf (pa1 x1), .ref x1]) rfl ?_
          refine z_top (v := .ref p) (congrArg va_rf (show (pa1 x1) = (some p) from (by rw [hp]))) ?_
          refine z_callS C (As := [.ref p]) (mJ4_leftOf (o := (some p)) hlp_0 (oM hm21)) (lw_S q709 q710 q64 q711) hd_J4_leftOf rfl (Nat.le_of_ble_eq_true rfl) (by decide) (by decide) (by decide) (by decide) rfl dJ4_fixAfterDeletion_21 (fun _ _ h => h.elim) (fun r41 V42 hP43 => ?_)
          rw [hP43.1, hP43.2]
          refine z_st (st' := [va_rf (lf1 p), .ref x1]) rfl ?_
          refine z_acmp_ne C (some x1) (lf1 p) 186 dJ4_fixAfterDeletion_24 (by decide) (fun c24 => ?_) (fun c24 => ?_)
          · skip
            have k44 : ¬ lf1 p = (some x1) := fun z => c24 (Eq.symm z)
            have k45 := hlp_1.sdR hlp_3 hp k44
            obtain ⟨hm46, hp47, nx48⟩ := hlp_1.mr hm21 k45
            refine z_aload_n C 1 rfl dJ4_fixAfterDeletion_186 rfl ?_
            refine z_callS C (As := [.ref x1]) (mJ4_parentOf (o := (some x1)) hlp_0 (oM hlp_3)) (lw_S q706 q707 q64 q708) hd_J4_parentOf rfl (Nat.le_of_ble_eq_true rfl) (by decide) (by decide) (by decide) (by decide) rfl dJ4_fixAfterDeletion_187 (fun _ _ h => h.elim) (fun r49 V50 hP51 => ?_)
            rw [hP51.1, hP51.2]
            refine z_st (st' := [va_rf (pa1 x1)]) rfl ?_
            refine z_top (v := .ref p) (congrArg va_rf (show (pa1 x1) = (some p) from (by rw [hp]))) ?_
            refine z_callS C (As := [.ref p]) (mJ4_leftOf (o := (some p)) hlp_0 (oM hm21)) (lw_S q709 q710 q64 q711) hd_J4_leftOf rfl (Nat.le_of_ble_eq_true rfl) (by decide) (by decide) (by decide) (by decide) rfl dJ4_fixAfterDeletion_190 (fun _ _ h => h.elim) (fun r52 V53 hP54 => ?_)
            rw [hP54.1, hP54.2]
            refine z_st (st' := [va_rf (lf1 p)]) rfl ?_
            refine z_astore_nQ C (r := (lf1 p)) [(2, va_rf (lf1 p)), (0, .ref t), (1, .ref x1)] dJ4_fixAfterDeletion_193 rfl (by decide) rfl ?_
            refine z_aload_nQ C 0 (r := (lf1 p)) rfl dJ4_fixAfterDeletion_194 rfl ?_
            rcases hy56 : lf1 p with _ | y55
            · skip
              refine z_callS C (As := [.null]) (mJ4_colorOf (o := none) hlp_0 oN) (lw_S q703 q704 q64 q705) hd_J4_colorOf rfl (Nat.le_of_ble_eq_true rfl) (by decide) (by decide) (by decide) (by decide) rfl dJ4_fixAfterDeletion_195 (fun _ _ h => h.elim) (fun r57 V58 hP59 => ?_)
              rw [hP59.1, hP59.2]
              refine z_st (st' := [.int (zb true)]) rfl ?_
              refine z_if_neB C 230 dJ4_fixAfterDeletion_198 (by decide) (fun c198 => ?_) (fun c198 => ?_)
              · skip
                have k60 : true = true := c198
                refine z_aload_nQ C 0 (r := none) rfl dJ4_fixAfterDeletion_230 rfl ?_
                refine z_callS C (As := [.null]) (mJ4_rightOf (o := none) hlp_0 oN) (lw_S q712 q713 q64 q714) hd_J4_rightOf rfl (Nat.le_of_ble_eq_true rfl) (by decide) (by decide) (by decide) (by decide) rfl dJ4_fixAfterDeletion_231 (fun _ _ h => h.elim) (fun r61 V62 hP63 => ?_)
                rw [hP63.1, hP63.2]
                refine z_st (st' := [.null]) rfl ?_
                refine z_callS C (As := [.null]) (mJ4_colorOf (o := none) hlp_0 oN) (lw_S q703 q704 q64 q705) hd_J4_colorOf rfl (Nat.le_of_ble_eq_true rfl) (by decide) (by decide) (by decide) (by decide) rfl dJ4_fixAfterDeletion_234 (fun _ _ h => h.elim) (fun r64 V65 hP66 => ?_)
                rw [hP66.1, hP66.2]
                refine z_st (st' := [.int (zb true)]) rfl ?_
                refine z_iconst C (v := (nI 1)) dJ4_fixAfterDeletion_237 rfl ?_
                refine z_icmp_ne C 265 dJ4_fixAfterDeletion_238 (by decide) (fun c238 => ?_) (fun c238 => ?_)
                · skip
                  have k67 : true = false := zb1f c238
                  cases k67
                · skip
                  have k68 : true = true := zb1 c238
                  refine z_aload_nQ C 0 (r := none) rfl dJ4_fixAfterDeletion_241 rfl ?_
                  refine z_callS C (As := [.null]) (mJ4_leftOf (o := none) hlp_0 oN) (lw_S q709 q710 q64 q711) hd_J4_leftOf rfl (Nat.le_of_ble_eq_true rfl) (by decide) (by decide) (by decide) (by decide) rfl dJ4_fixAfterDeletion_242 (fun _ _ h => h.elim) (fun r69 V70 hP71 => ?_)
                  rw [hP71.1, hP71.2]
                  refine z_st (st' := [.null]) rfl ?_
                  refine z_callS C (As := [.null]) (mJ4_colorOf (o := none) hlp_0 oN) (lw_S q703 q704 q64 q705) hd_J4_colorOf rfl (Nat.le_of_ble_eq_true rfl) (by decide) (by decide) (by decide) (by decide) rfl dJ4_fixAfterDeletion_245 (fun _ _ h => h.elim) (fun r72 V73 hP74 => ?_)
                  rw [hP74.1, hP74.2]
                  refine z_st (st' := [.int (zb true)]) rfl ?_
                  refine z_iconst C (v := (nI 1)) dJ4_fixAfterDeletion_248 rfl ?_
                  refine z_icmp_ne C 265 dJ4_fixAfterDeletion_249 (by decide) (fun c249 => ?_) (fun c249 => ?_)
                  · skip
                    have k75 : true = false := zb1f c249
                    cases k75
                  · skip
                    have k76 : true = true := zb1 c249
                    refine z_aload_nQ C 0 (r := none) rfl dJ4_fixAfterDeletion_252 rfl ?_
                    refine z_iconst C (v := (nI 0)) dJ4_fixAfterDeletion_253 rfl ?_
                    refine z_st (st' := [.int (zb false), .null]) rfl ?_
                    refine z_callS C (As := [.null, .int (zb false)]) (mJ4_setColor (o := none) (c := false) hlp_0 oN) (lw_S q715 q716 q64 q717) hd_J4_setColor rfl (Nat.le_of_ble_eq_true rfl) (by decide) (by decide) (by decide) (by decide) rfl dJ4_fixAfterDeletion_254 (fun _ _ h => h.elim) (fun r77 V78 hP79 => ?_)
                    obtain ⟨hW80, hU81⟩ := hP79
                    refine z_st (st' := []) rfl ?_
                    have hU82 := zUnc.tr (S := tC t L) hlp_2 hU81 (fun _ h => Or.inl h)
                    change tW _ _ _ _ _ _ _ cl1 _ _ _ _ at hW80
                    refine z_aload_n C 2 rfl dJ4_fixAfterDeletion_257 rfl ?_
                    refine z_callS C (As := [.ref x1]) (mJ4_parentOf (o := (some x1)) hW80 (oM hlp_3)) (lw_S q706 q707 q64 q708) hd_J4_parentOf rfl (Nat.le_of_ble_eq_true rfl) (by decide) (by decide) (by decide) (by decide) rfl dJ4_fixAfterDeletion_258 (fun _ _ h => h.elim) (fun r83 V84 hP85 => ?_)
                    rw [hP85.1, hP85.2]
                    refine z_st (st' := [va_rf (pa1 x1)]) rfl ?_
                    refine z_top (v := .ref p) (congrArg va_rf (show (pa1 x1) = (some p) from (by rw [hp]))) ?_
                    refine z_astore_n C [(1, .ref p), (2, .null), (0, .ref t)] dJ4_fixAfterDeletion_261 rfl (by decide) rfl ?_
                    refine z_goto C 342 dJ4_fixAfterDeletion_262 (by decide) ?_
                    refine z_goto C 0 dJ4_fixAfterDeletion_342 (by decide) ?_
                    refine z_pick [(0, .ref t), (1, .ref p)] [2, 0] rfl ?_
                    have q1 := (hlp_1.mp hlp_3 hp).2
                    exact ih_lp V78 rt1 lf1 rg1 pa1 cl1 lo1 hi1 p hW80 hlp_1 hU82 hm21 hlp_4 hlp_5 (Nat.le_trans (hlp_1.le hlp_3 hp).1 hlp_6) (Nat.lt_of_lt_of_le hlp_7 (hlp_1.le hlp_3 hp).2) (by omega)
              · skip
                have k86 : true = false := c198
                cases k86
            · skip
              obtain ⟨hm87, hp88, nx89⟩ := hlp_1.ml hm21 hy56
              refine z_callS C (As := [.ref y55]) (mJ4_colorOf (o := (some y55)) hlp_0 (oM hm87)) (lw_S q703 q704 q64 q705) hd_J4_colorOf rfl (Nat.le_of_ble_eq_true rfl) (by decide) (by decide) (by decide) (by decide) rfl dJ4_fixAfterDeletion_195 (fun _ _ h => h.elim) (fun r90 V91 hP92 => ?_)
              rw [hP92.1, hP92.2]
              refine z_st (st' := [.int (zb (cl1 y55))]) rfl ?_
              refine z_if_neB C 230 dJ4_fixAfterDeletion_198 (by decide) (fun c198 => ?_) (fun c198 => ?_)
              · skip
                have k93 : (cl1 y55) = true := c198
                refine z_aload_n C 0 rfl dJ4_fixAfterDeletion_230 rfl ?_
                refine z_callS C (As := [.ref y55]) (mJ4_rightOf (o := (some y55)) hlp_0 (oM hm87)) (lw_S q712 q713 q64 q714) hd_J4_rightOf rfl (Nat.le_of_ble_eq_true rfl) (by decide) (by decide) (by decide) (by decide) rfl dJ4_fixAfterDeletion_231 (fun _ _ h => h.elim) (fun r94 V95 hP96 => ?_)
                rw [hP96.1, hP96.2]
                refine z_st (st' := [va_rf (rg1 y55)]) rfl ?_
                rcases hy98 : rg1 y55 with _ | y97
                · skip
                  refine z_callS C (As := [.null]) (mJ4_colorOf (o := none) hlp_0 oN) (lw_S q703 q704 q64 q705) hd_J4_colorOf rfl (Nat.le_of_ble_eq_true rfl) (by decide) (by decide) (by decide) (by decide) rfl dJ4_fixAfterDeletion_234 (fun _ _ h => h.elim) (fun r99 V100 hP101 => ?_)
                  rw [hP101.1, hP101.2]
                  refine z_st (st' := [.int (zb true)]) rfl ?_
                  refine z_iconst C (v := (nI 1)) dJ4_fixAfterDeletion_237 rfl ?_
                  refine z_icmp_ne C 265 dJ4_fixAfterDeletion_238 (by decide) (fun c238 => ?_) (fun c238 => ?_)
                  · skip
                    have k102 : true = false := zb1f c238
                    cases k102
                  · skip
                    have k103 : true = true := zb1 c238
                    refine z_aload_n C 0 rfl dJ4_fixAfterDeletion_241 rfl ?_
                    refine z_callS C (As := [.ref y55]) (mJ4_leftOf (o := (some y55)) hlp_0 (oM hm87)) (lw_S q709 q710 q64 q711) hd_J4_leftOf rfl (Nat.le_of_ble_eq_true rfl) (by decide) (by decide) (by decide) (by decide) rfl dJ4_fixAfterDeletion_242 (fun _ _ h => h.elim) (fun r104 V105 hP106 => ?_)
                    rw [hP106.1, hP106.2]
                    refine z_st (st' := [va_rf (lf1 y55)]) rfl ?_
                    rcases hy108 : lf1 y55 with _ | y107
                    · skip
                      refine z_callS C (As := [.null]) (mJ4_colorOf (o := none) hlp_0 oN) (lw_S q703 q704 q64 q705) hd_J4_colorOf rfl (Nat.le_of_ble_eq_true rfl) (by decide) (by decide) (by decide) (by decide) rfl dJ4_fixAfterDeletion_245 (fun _ _ h => h.elim) (fun r109 V110 hP111 => ?_)
                      rw [hP111.1, hP111.2]
                      refine z_st (st' := [.int (zb true)]) rfl ?_
                      refine z_iconst C (v := (nI 1)) dJ4_fixAfterDeletion_248 rfl ?_
                      refine z_icmp_ne C 265 dJ4_fixAfterDeletion_249 (by decide) (fun c249 => ?_) (fun c249 => ?_)
                      · skip
                        have k112 : true = false := zb1f c249
                        cases k112
                      · skip
                        have k113 : true = true := zb1 c249
                        refine z_aload_n C 0 rfl dJ4_fixAfterDeletion_252 rfl ?_
                        refine z_iconst C (v := (nI 0)) dJ4_fixAfterDeletion_253 rfl ?_
                        refine z_st (st' := [.int (zb false), .ref y55]) rfl ?_
                        refine z_callS C (As := [.ref y55, .int (zb false)]) (mJ4_setColor (o := (some y55)) (c := false) hlp_0 (oM hm87)) (lw_S q715 q716 q64 q717) hd_J4_setColor rfl (Nat.le_of_ble_eq_true rfl) (by decide) (by decide) (by decide) (by decide) rfl dJ4_fixAfterDeletion_254 (fun _ _ h => h.elim) (fun r114 V115 hP116 => ?_)
                        obtain ⟨hW117, hU118⟩ := hP116
                        refine z_st (st' := []) rfl ?_
                        have hU119 := zUnc.tr (S := tC t L) hlp_2 hU118 (fun _ h => Or.inl h)
                        change tW _ _ _ _ _ _ _ (va_up cl1 y55 false) _ _ _ _ at hW117
                        obtain ⟨cl121, ec120⟩ : ∃ q, q = va_up cl1 y55 false := ⟨_, rfl⟩
                        rw [← ec120] at hW117
                        have k122 : cl121 y55 = false := by rw [ec120, zvs]
                        have nx123 : x1 ≠ y55 := (Ne.symm (tI.sib hlp_1 hm21 hy56 k45))
                        have k124 : cl121 x1 = true := by rw [ec120, zvn nx123]; exact k37
                        refine z_aload_n C 2 rfl dJ4_fixAfterDeletion_257 rfl ?_
                        refine z_callS C (As := [.ref x1]) (mJ4_parentOf (o := (some x1)) hW117 (oM hlp_3)) (lw_S q706 q707 q64 q708) hd_J4_parentOf rfl (Nat.le_of_ble_eq_true rfl) (by decide) (by decide) (by decide) (by decide) rfl dJ4_fixAfterDeletion_258 (fun _ _ h => h.elim) (fun r125 V126 hP127 => ?_)
                        rw [hP127.1, hP127.2]
                        refine z_st (st' := [va_rf (pa1 x1)]) rfl ?_
                        refine z_top (v := .ref p) (congrArg va_rf (show (pa1 x1) = (some p) from (by rw [hp]))) ?_
                        refine z_astore_n C [(1, .ref p), (2, .ref y55), (0, .ref t)] dJ4_fixAfterDeletion_261 rfl (by decide) rfl ?_
                        refine z_goto C 342 dJ4_fixAfterDeletion_262 (by decide) ?_
                        refine z_goto C 0 dJ4_fixAfterDeletion_342 (by decide) ?_
                        refine z_pick [(0, .ref t), (1, .ref p)] [2, 0] rfl ?_
                        have q1 := (hlp_1.mp hlp_3 hp).2
                        exact ih_lp V115 rt1 lf1 rg1 pa1 cl121 lo1 hi1 p hW117 hlp_1 hU119 hm21 hlp_4 hlp_5 (Nat.le_trans (hlp_1.le hlp_3 hp).1 hlp_6) (Nat.lt_of_lt_of_le hlp_7 (hlp_1.le hlp_3 hp).2) (by omega)
                    · skip
                      obtain ⟨hm128, hp129, nx130⟩ := hlp_1.ml hm87 hy108
                      refine z_callS C (As := [.ref y107]) (mJ4_colorOf (o := (some y107)) hlp_0 (oM hm128)) (lw_S q703 q704 q64 q705) hd_J4_colorOf rfl (Nat.le_of_ble_eq_true rfl) (by decide) (by decide) (by decide) (by decide) rfl dJ4_fixAfterDeletion_245 (fun _ _ h => h.elim) (fun r131 V132 hP133 => ?_)
                      rw [hP133.1, hP133.2]
                      refine z_st (st' := [.int (zb (cl1 y107))]) rfl ?_
                      refine z_iconst C (v := (nI 1)) dJ4_fixAfterDeletion_248 rfl ?_
                      refine z_icmp_ne C 265 dJ4_fixAfterDeletion_249 (by decide) (fun c249 => ?_) (fun c249 => ?_)
                      · skip
                        have k134 : (cl1 y107) = false := zb1f c249
                        refine z_aload_n C 0 rfl dJ4_fixAfterDeletion_265 rfl ?_
                        refine z_callS C (As := [.ref y55]) (mJ4_leftOf (o := (some y55)) hlp_0 (oM hm87)) (lw_S q709 q710 q64 q711) hd_J4_leftOf rfl (Nat.le_of_ble_eq_true rfl) (by decide) (by decide) (by decide) (by decide) rfl dJ4_fixAfterDeletion_266 (fun _ _ h => h.elim) (fun r135 V136 hP137 => ?_)
                        rw [hP137.1, hP137.2]
                        refine z_st (st' := [va_rf (lf1 y55)]) rfl ?_
                        refine z_top (v := .ref y107) (congrArg va_rf (show (lf1 y55) = (some y107) from (by rw [hy108]))) ?_
                        refine z_callS C (As := [.ref y107]) (mJ4_colorOf (o := (some y107)) hlp_0 (oM hm128)) (lw_S q703 q704 q64 q705) hd_J4_colorOf rfl (Nat.le_of_ble_eq_true rfl) (by decide) (by decide) (by decide) (by decide) rfl dJ4_fixAfterDeletion_269 (fun _ _ h => h.elim) (fun r138 V139 hP140 => ?_)
                        rw [hP140.1, hP140.2]
                        refine z_st (st' := [.int (zb (cl1 y107))]) rfl ?_
                        refine z_top (v := .int (zb false)) (congrArg (fun c => Value.int (zb c)) (show (cl1 y107) = false from (by rw [k134]))) ?_
                        refine z_iconst C (v := (nI 1)) dJ4_fixAfterDeletion_272 rfl ?_
                        refine z_icmp_ne C 302 dJ4_fixAfterDeletion_273 (by decide) (fun c273 => ?_) (fun c273 => ?_)
                        · skip
                          have k141 : false = false := zb1f c273
                          refine z_aload_n C 0 rfl dJ4_fixAfterDeletion_302 rfl ?_
                          refine z_aload_n C 2 rfl dJ4_fixAfterDeletion_303 rfl ?_
                          refine z_callS C (As := [.ref x1]) (mJ4_parentOf (o := (some x1)) hlp_0 (oM hlp_3)) (lw_S q706 q707 q64 q708) hd_J4_parentOf rfl (Nat.le_of_ble_eq_true rfl) (by decide) (by decide) (by decide) (by decide) rfl dJ4_fixAfterDeletion_304 (fun _ _ h => h.elim) (fun r142 V143 hP144 => ?_)
                          rw [hP144.1, hP144.2]
                          refine z_st (st' := [va_rf (pa1 x1), .ref y55]) rfl ?_
                          refine z_top (v := .ref p) (congrArg va_rf (show (pa1 x1) = (some p) from (by rw [hp]))) ?_
                          refine z_callS C (As := [.ref p]) (mJ4_colorOf (o := (some p)) hlp_0 (oM hm21)) (lw_S q703 q704 q64 q705) hd_J4_colorOf rfl (Nat.le_of_ble_eq_true rfl) (by decide) (by decide) (by decide) (by decide) rfl dJ4_fixAfterDeletion_307 (fun _ _ h => h.elim) (fun r145 V146 hP147 => ?_)
                          rw [hP147.1, hP147.2]
                          refine z_st (st' := [.int (zb (cl1 p)), .ref y55]) rfl ?_
                          refine z_callS C (As := [.ref y55, .int (zb (cl1 p))]) (mJ4_setColor (o := (some y55)) (c := (cl1 p)) hlp_0 (oM hm87)) (lw_S q715 q716 q64 q717) hd_J4_setColor rfl (Nat.le_of_ble_eq_true rfl) (by decide) (by decide) (by decide) (by decide) rfl dJ4_fixAfterDeletion_310 (fun _ _ h => h.elim) (fun r148 V149 hP150 => ?_)
                          obtain ⟨hW151, hU152⟩ := hP150
                          refine z_st (st' := []) rfl ?_
                          have hU153 := zUnc.tr (S := tC t L) hlp_2 hU152 (fun _ h => Or.inl h)
                          change tW _ _ _ _ _ _ _ (va_up cl1 y55 (cl1 p)) _ _ _ _ at hW151
                          obtain ⟨cl155, ec154⟩ : ∃ q, q = va_up cl1 y55 (cl1 p) := ⟨_, rfl⟩
                          rw [← ec154] at hW151
                          have k156 : cl155 y55 = (cl1 p) := by rw [ec154, zvs]
                          have nx157 : x1 ≠ y55 := (Ne.symm (tI.sib hlp_1 hm21 hy56 k45))
                          have k158 : cl155 x1 = true := by rw [ec154, zvn nx157]; exact k37
                          have k159 : cl155 y107 = false := by rw [ec154, zvn nx130]; exact k134
                          refine z_aload_n C 2 rfl dJ4_fixAfterDeletion_313 rfl ?_
                          refine z_callS C (As := [.ref x1]) (mJ4_parentOf (o := (some x1)) hW151 (oM hlp_3)) (lw_S q706 q707 q64 q708) hd_J4_parentOf rfl (Nat.le_of_ble_eq_true rfl) (by decide) (by decide) (by decide) (by decide) rfl dJ4_fixAfterDeletion_314 (fun _ _ h => h.elim) (fun r160 V161 hP162 => ?_)
                          rw [hP162.1, hP162.2]
                          refine z_st (st' := [va_rf (pa1 x1)]) rfl ?_
                          refine z_top (v := .ref p) (congrArg va_rf (show (pa1 x1) = (some p) from (by rw [hp]))) ?_
                          refine z_iconst C (v := (nI 1)) dJ4_fixAfterDeletion_317 rfl ?_
                          refine z_st (st' := [.int (zb true), .ref p]) rfl ?_
                          refine z_callS C (As := [.ref p, .int (zb true)]) (mJ4_setColor (o := (some p)) (c := true) hW151 (oM hm21)) (lw_S q715 q716 q64 q717) hd_J4_setColor rfl (Nat.le_of_ble_eq_true rfl) (by decide) (by decide) (by decide) (by decide) rfl dJ4_fixAfterDeletion_318 (fun _ _ h => h.elim) (fun r163 V164 hP165 => ?_)
                          obtain ⟨hW166, hU167⟩ := hP165
                          refine z_st (st' := []) rfl ?_
                          have hU168 := zUnc.tr (S := tC t L) hU153 hU167 (fun _ h => Or.inl h)
                          change tW _ _ _ _ _ _ _ (va_up cl155 p true) _ _ _ _ at hW166
                          obtain ⟨cl170, ec169⟩ : ∃ q, q = va_up cl155 p true := ⟨_, rfl⟩
                          rw [← ec169] at hW166
                          have k171 : cl170 p = true := by rw [ec169, zvs]
                          have k172 : cl170 x1 = true := by rw [ec169, zvn nx48]; exact k158
                          have nx173 : y107 ≠ p := (tI.gg hlp_1 hm128 hp129 hm87 hp88)
                          have k174 : cl170 y107 = false := by rw [ec169, zvn nx173]; exact k159
                          refine z_aload_n C 0 rfl dJ4_fixAfterDeletion_321 rfl ?_
                          refine z_callS C (As := [.ref y55]) (mJ4_leftOf (o := (some y55)) hW166 (oM hm87)) (lw_S q709 q710 q64 q711) hd_J4_leftOf rfl (Nat.le_of_ble_eq_true rfl) (by decide) (by decide) (by decide) (by decide) rfl dJ4_fixAfterDeletion_322 (fun _ _ h => h.elim) (fun r175 V176 hP177 => ?_)
                          rw [hP177.1, hP177.2]
                          refine z_st (st' := [va_rf (lf1 y55)]) rfl ?_
                          refine z_top (v := .ref y107) (congrArg va_rf (show (lf1 y55) = (some y107) from (by rw [hy108]))) ?_
                          refine z_iconst C (v := (nI 1)) dJ4_fixAfterDeletion_325 rfl ?_
                          refine z_st (st' := [.int (zb true), .ref y107]) rfl ?_
                          refine z_callS C (As := [.ref y107, .int (zb true)]) (mJ4_setColor (o := (some y107)) (c := true) hW166 (oM hm128)) (lw_S q715 q716 q64 q717) hd_J4_setColor rfl (Nat.le_of_ble_eq_true rfl) (by decide) (by decide) (by decide) (by decide) rfl dJ4_fixAfterDeletion_326 (fun _ _ h => h.elim) (fun r178 V179 hP180 => ?_)
                          obtain ⟨hW181, hU182⟩ := hP180
                          refine z_st (st' := []) rfl ?_
                          have hU183 := zUnc.tr (S := tC t L) hU168 hU182 (fun _ h => Or.inl h)
                          change tW _ _ _ _ _ _ _ (va_up cl170 y107 true) _ _ _ _ at hW181
                          obtain ⟨cl185, ec184⟩ : ∃ q, q = va_up cl170 y107 true := ⟨_, rfl⟩
                          rw [← ec184] at hW181
                          have k186 : cl185 y107 = true := by rw [ec184, zvs]
                          have k187 : cl185 p = true := by rw [ec184, zvn (Ne.symm nx173)]; exact k171
                          have nx188 : x1 ≠ y107 := (ne_pa hp hp129 (Ne.symm nx89))
                          have k189 : cl185 x1 = true := by rw [ec184, zvn nx188]; exact k172
                          refine z_aload_n C 1 rfl dJ4_fixAfterDeletion_329 rfl ?_
                          refine z_aload_n C 2 rfl dJ4_fixAfterDeletion_330 rfl ?_
                          refine z_callS C (As := [.ref x1]) (mJ4_parentOf (o := (some x1)) hW181 (oM hlp_3)) (lw_S q706 q707 q64 q708) hd_J4_parentOf rfl (Nat.le_of_ble_eq_true rfl) (by decide) (by decide) (by decide) (by decide) rfl dJ4_fixAfterDeletion_331 (fun _ _ h => h.elim) (fun r190 V191 hP192 => ?_)
                          rw [hP192.1, hP192.2]
                          refine z_st (st' := [va_rf (pa1 x1), .ref t]) rfl ?_
                          refine z_top (v := .ref p) (congrArg va_rf (show (pa1 x1) = (some p) from (by rw [hp]))) ?_
                          refine z_callV C k_TM hW181.1 (As := [.ref p]) (mJ4_rotateRight hW181 hlp_1 hm21 hy56) (lw_V q722 q724 qs9 q64 q725) rfl hd_J4_rotateRight rfl (Nat.le_of_ble_eq_true rfl) (by decide) (by decide) (by decide) (by decide) rfl dJ4_fixAfterDeletion_334 (fun _ _ h => h.elim) (fun r193 V194 hP195 => ?_)
                          obtain ⟨hW196, hU197⟩ := hP195
                          refine z_st (st' := []) rfl ?_
                          have hU198 := zUnc.tr (S := tC t L) hU183 hU197 (fun _ h => Or.inl h)
                          have hI199 := tI_rotR hlp_1 hm21 hy56
                          obtain ⟨lf206, eB201⟩ : ∃ q, q = xR rg1 lf1 p y55 := ⟨_, rfl⟩
                          rw [← eB201] at hW196 hI199
                          obtain ⟨pa207, eP202⟩ : ∃ q, q = xP rg1 pa1 p y55 := ⟨_, rfl⟩
                          rw [← eP202] at hW196 hI199
                          obtain ⟨rg208, eA200⟩ : ∃ q, q = xL rg1 p y55 := ⟨_, rfl⟩
                          rw [← eA200] at hW196 hI199
                          obtain ⟨rt209, eT203⟩ : ∃ q, q = xT rt1 p y55 := ⟨_, rfl⟩
                          rw [← eT203] at hW196 hI199
                          obtain ⟨lo210, elo204⟩ : ∃ q, q = va_up lo1 p (ps y55 + 1) := ⟨_, rfl⟩
                          rw [← elo204] at hI199
                          obtain ⟨hi211, ehi205⟩ : ∃ q, q = va_up hi1 y55 (hi1 p) := ⟨_, rfl⟩
                          rw [← ehi205] at hI199
                          have k212 : rg208 y55 = (some p) := by rw [eA200]; exact xL_r
                          have k213 : pa207 p = (some y55) := by rw [eP202]; exact xP_p
                          have k214 : lf206 p = none := by rw [eB201, xR_p]; exact hy98
                          have nx215 : x ≠ p := (fn_ne hlp_4 hy56)
                          have k216 : lf206 x = none := by rw [eB201, xR_o nx215 (sn_ne hlp_4)]; exact hlp_4
                          have nx217 : x ≠ y55 := (fn_ne hlp_4 hy108)
                          have k218 : rg208 x = none := by rw [eA200, xL_o nx217 (sn_ne hlp_5)]; exact hlp_5
                          have k219 : pa207 x1 = (some p) := by rw [eP202, xP_o nx48 nx157 (sn_ne hy98)]; exact hp
                          have k220 : rg208 p = (some x1) := by rw [eA200, xL_o (Ne.symm nx89) (so_ne k45 nx48)]; exact k45
                          have k221 : lf206 y55 = (some y107) := by rw [eB201, xR_o nx89 (so_ne hy108 nx173)]; exact hy108
                          have k222 : pa207 y107 = (some y55) := by rw [eP202, xP_o nx173 nx130 (sn_ne hy98)]; exact hp129
                          have g223 : lo210 x1 ≤ ps x := by rw [elo204, zvn nx48]; exact hlp_6
                          have g224 : ps x < hi211 x1 := by rw [ehi205, zvn nx157]; exact hlp_7
                          refine z_aload_n C 1 rfl dJ4_fixAfterDeletion_337 rfl ?_
                          refine z_get C k_TM hW196.1 3 (by decide) rfl q162 dJ4_fixAfterDeletion_338 ?_
                          refine z_astore_nQ C (r := rt209) [(1, va_rf rt209), (2, .ref y55), (0, .ref t)] dJ4_fixAfterDeletion_341 rfl (by decide) rfl ?_
                          refine z_goto C 0 dJ4_fixAfterDeletion_342 (by decide) ?_
                          refine z_pick [(0, .ref t), (1, va_rf rt209)] [2, 0] rfl ?_
                          obtain ⟨r0225, hr226⟩ := hI199.rtm hlp_3
                          obtain ⟨hm227, hp228, -, -⟩ := hI199.2.1.1 r0225 hr226
                          have e229 : (va_rf rt209 : Value) = .ref r0225 := (congrArg va_rf hr226)
                          refine z_lv (lv' := [(0, .ref t), (1, .ref r0225)]) (by rw [e229]) ?_
                          exact hexit V194 rt209 lf206 rg208 pa207 cl185 lo210 hi211 r0225 hW196 hI199 hU198 hm227 hr226 k216 k218
                        · skip
                          have k230 : false = true := zb1 c273
                          cases k230
                      · skip
                        have k231 : (cl1 y107) = true := zb1 c249
                        refine z_aload_n C 0 rfl dJ4_fixAfterDeletion_252 rfl ?_
                        refine z_iconst C (v := (nI 0)) dJ4_fixAfterDeletion_253 rfl ?_
                        refine z_st (st' := [.int (zb false), .ref y55]) rfl ?_
                        refine z_callS C (As := [.ref y55, .int (zb false)]) (mJ4_setColor (o := (some y55)) (c := false) hlp_0 (oM hm87)) (lw_S q715 q716 q64 q717) hd_J4_setColor rfl (Nat.le_of_ble_eq_true rfl) (by decide) (by decide) (by decide) (by decide) rfl dJ4_fixAfterDeletion_254 (fun _ _ h => h.elim) (fun r232 V233 hP234 => ?_)
                        obtain ⟨hW235, hU236⟩ := hP234
                        refine z_st (st' := []) rfl ?_
                        have hU237 := zUnc.tr (S := tC t L) hlp_2 hU236 (fun _ h => Or.inl h)
                        change tW _ _ _ _ _ _ _ (va_up cl1 y55 false) _ _ _ _ at hW235
                        obtain ⟨cl239, ec238⟩ : ∃ q, q = va_up cl1 y55 false := ⟨_, rfl⟩
                        rw [← ec238] at hW235
                        have k240 : cl239 y55 = false := by rw [ec238, zvs]
                        have nx241 : x1 ≠ y55 := (Ne.symm (tI.sib hlp_1 hm21 hy56 k45))
                        have k242 : cl239 x1 = true := by rw [ec238, zvn nx241]; exact k37
                        have k243 : cl239 y107 = true := by rw [ec238, zvn nx130]; exact k231
                        refine z_aload_n C 2 rfl dJ4_fixAfterDeletion_257 rfl ?_
                        refine z_callS C (As := [.ref x1]) (mJ4_parentOf (o := (some x1)) hW235 (oM hlp_3)) (lw_S q706 q707 q64 q708) hd_J4_parentOf rfl (Nat.le_of_ble_eq_true rfl) (by decide) (by decide) (by decide) (by decide) rfl dJ4_fixAfterDeletion_258 (fun _ _ h => h.elim) (fun r244 V245 hP246 => ?_)
                        rw [hP246.1, hP246.2]
                        refine z_st (st' := [va_rf (pa1 x1)]) rfl ?_
                        refine z_top (v := .ref p) (congrArg va_rf (show (pa1 x1) = (some p) from (by rw [hp]))) ?_
                        refine z_astore_n C [(1, .ref p), (2, .ref y55), (0, .ref t)] dJ4_fixAfterDeletion_261 rfl (by decide) rfl ?_
                        refine z_goto C 342 dJ4_fixAfterDeletion_262 (by decide) ?_
                        refine z_goto C 0 dJ4_fixAfterDeletion_342 (by decide) ?_
                        refine z_pick [(0, .ref t), (1, .ref p)] [2, 0] rfl ?_
                        have q1 := (hlp_1.mp hlp_3 hp).2
                        exact ih_lp V233 rt1 lf1 rg1 pa1 cl239 lo1 hi1 p hW235 hlp_1 hU237 hm21 hlp_4 hlp_5 (Nat.le_trans (hlp_1.le hlp_3 hp).1 hlp_6) (Nat.lt_of_lt_of_le hlp_7 (hlp_1.le hlp_3 hp).2) (by omega)
                · skip
                  obtain ⟨hm247, hp248, nx249⟩ := hlp_1.mr hm87 hy98
                  refine z_callS C (As := [.ref y97]) (mJ4_colorOf (o := (some y97)) hlp_0 (oM hm247)) (lw_S q703 q704 q64 q705) hd_J4_colorOf rfl (Nat.le_of_ble_eq_true rfl) (by decide) (by decide) (by decide) (by decide) rfl dJ4_fixAfterDeletion_234 (fun _ _ h => h.elim) (fun r250 V251 hP252 => ?_)
                  rw [hP252.1, hP252.2]
                  refine z_st (st' := [.int (zb (cl1 y97))]) rfl ?_
                  refine z_iconst C (v := (nI 1)) dJ4_fixAfterDeletion_237 rfl ?_
                  refine z_icmp_ne C 265 dJ4_fixAfterDeletion_238 (by decide) (fun c238 => ?_) (fun c238 => ?_)
                  · skip
                    have k253 : (cl1 y97) = false := zb1f c238
                    refine z_aload_n C 0 rfl dJ4_fixAfterDeletion_265 rfl ?_
                    refine z_callS C (As := [.ref y55]) (mJ4_leftOf (o := (some y55)) hlp_0 (oM hm87)) (lw_S q709 q710 q64 q711) hd_J4_leftOf rfl (Nat.le_of_ble_eq_true rfl) (by decide) (by decide) (by decide) (by decide) rfl dJ4_fixAfterDeletion_266 (fun _ _ h => h.elim) (fun r254 V255 hP256 => ?_)
                    rw [hP256.1, hP256.2]
                    refine z_st (st' := [va_rf (lf1 y55)]) rfl ?_
                    rcases hy258 : lf1 y55 with _ | y257
                    · skip
                      refine z_callS C (As := [.null]) (mJ4_colorOf (o := none) hlp_0 oN) (lw_S q703 q704 q64 q705) hd_J4_colorOf rfl (Nat.le_of_ble_eq_true rfl) (by decide) (by decide) (by decide) (by decide) rfl dJ4_fixAfterDeletion_269 (fun _ _ h => h.elim) (fun r259 V260 hP261 => ?_)
                      rw [hP261.1, hP261.2]
                      refine z_st (st' := [.int (zb true)]) rfl ?_
                      refine z_iconst C (v := (nI 1)) dJ4_fixAfterDeletion_272 rfl ?_
                      refine z_icmp_ne C 302 dJ4_fixAfterDeletion_273 (by decide) (fun c273 => ?_) (fun c273 => ?_)
                      · skip
                        have k262 : true = false := zb1f c273
                        cases k262
                      · skip
                        have k263 : true = true := zb1 c273
                        refine z_aload_n C 0 rfl dJ4_fixAfterDeletion_276 rfl ?_
                        refine z_callS C (As := [.ref y55]) (mJ4_rightOf (o := (some y55)) hlp_0 (oM hm87)) (lw_S q712 q713 q64 q714) hd_J4_rightOf rfl (Nat.le_of_ble_eq_true rfl) (by decide) (by decide) (by decide) (by decide) rfl dJ4_fixAfterDeletion_277 (fun _ _ h => h.elim) (fun r264 V265 hP266 => ?_)
                        rw [hP266.1, hP266.2]
                        refine z_st (st' := [va_rf (rg1 y55)]) rfl ?_
                        refine z_top (v := .ref y97) (congrArg va_rf (show (rg1 y55) = (some y97) from (by rw [hy98]))) ?_
                        refine z_iconst C (v := (nI 1)) dJ4_fixAfterDeletion_280 rfl ?_
                        refine z_st (st' := [.int (zb true), .ref y97]) rfl ?_
                        refine z_callS C (As := [.ref y97, .int (zb true)]) (mJ4_setColor (o := (some y97)) (c := true) hlp_0 (oM hm247)) (lw_S q715 q716 q64 q717) hd_J4_setColor rfl (Nat.le_of_ble_eq_true rfl) (by decide) (by decide) (by decide) (by decide) rfl dJ4_fixAfterDeletion_281 (fun _ _ h => h.elim) (fun r267 V268 hP269 => ?_)
                        obtain ⟨hW270, hU271⟩ := hP269
                        refine z_st (st' := []) rfl ?_
                        have hU272 := zUnc.tr (S := tC t L) hlp_2 hU271 (fun _ h => Or.inl h)
                        change tW _ _ _ _ _ _ _ (va_up cl1 y97 true) _ _ _ _ at hW270
                        obtain ⟨cl274, ec273⟩ : ∃ q, q = va_up cl1 y97 true := ⟨_, rfl⟩
                        rw [← ec273] at hW270
                        have k275 : cl274 y97 = true := by rw [ec273, zvs]
                        have nx276 : x1 ≠ y97 := (ne_pa hp hp248 (Ne.symm nx89))
                        have k277 : cl274 x1 = true := by rw [ec273, zvn nx276]; exact k37
                        have k278 : cl274 y55 = true := by rw [ec273, zvn (Ne.symm nx249)]; exact k93
                        refine z_aload_n C 0 rfl dJ4_fixAfterDeletion_284 rfl ?_
                        refine z_iconst C (v := (nI 0)) dJ4_fixAfterDeletion_285 rfl ?_
                        refine z_st (st' := [.int (zb false), .ref y55]) rfl ?_
                        refine z_callS C (As := [.ref y55, .int (zb false)]) (mJ4_setColor (o := (some y55)) (c := false) hW270 (oM hm87)) (lw_S q715 q716 q64 q717) hd_J4_setColor rfl (Nat.le_of_ble_eq_true rfl) (by decide) (by decide) (by decide) (by decide) rfl dJ4_fixAfterDeletion_286 (fun _ _ h => h.elim) (fun r279 V280 hP281 => ?_)
                        obtain ⟨hW282, hU283⟩ := hP281
                        refine z_st (st' := []) rfl ?_
                        have hU284 := zUnc.tr (S := tC t L) hU272 hU283 (fun _ h => Or.inl h)
                        change tW _ _ _ _ _ _ _ (va_up cl274 y55 false) _ _ _ _ at hW282
                        obtain ⟨cl286, ec285⟩ : ∃ q, q = va_up cl274 y55 false := ⟨_, rfl⟩
                        rw [← ec285] at hW282
                        have k287 : cl286 y55 = false := by rw [ec285, zvs]
                        have k288 : cl286 y97 = true := by rw [ec285, zvn nx249]; exact k275
                        have nx289 : x1 ≠ y55 := (Ne.symm (tI.sib hlp_1 hm21 hy56 k45))
                        have k290 : cl286 x1 = true := by rw [ec285, zvn nx289]; exact k277
                        refine z_aload_n C 1 rfl dJ4_fixAfterDeletion_289 rfl ?_
                        refine z_aload_n C 0 rfl dJ4_fixAfterDeletion_290 rfl ?_
                        refine z_callV C k_TM hW282.1 (As := [.ref y55]) (mJ4_rotateLeft hW282 hlp_1 hm87 hy98) (lw_V q718 q720 qs8 q64 q721) rfl hd_J4_rotateLeft rfl (Nat.le_of_ble_eq_true rfl) (by decide) (by decide) (by decide) (by decide) rfl dJ4_fixAfterDeletion_291 (fun _ _ h => h.elim) (fun r291 V292 hP293 => ?_)
                        obtain ⟨hW294, hU295⟩ := hP293
                        refine z_st (st' := []) rfl ?_
                        have hU296 := zUnc.tr (S := tC t L) hU284 hU295 (fun _ h => Or.inl h)
                        have hI297 := tI_rotL hlp_1 hm87 hy98
                        obtain ⟨rg304, eB299⟩ : ∃ q, q = xR lf1 rg1 y55 y97 := ⟨_, rfl⟩
                        rw [← eB299] at hW294 hI297
                        obtain ⟨pa305, eP300⟩ : ∃ q, q = xP lf1 pa1 y55 y97 := ⟨_, rfl⟩
                        rw [← eP300] at hW294 hI297
                        obtain ⟨lf306, eA298⟩ : ∃ q, q = xL lf1 y55 y97 := ⟨_, rfl⟩
                        rw [← eA298] at hW294 hI297
                        obtain ⟨rt307, eT301⟩ : ∃ q, q = xT rt1 y55 y97 := ⟨_, rfl⟩
                        rw [← eT301] at hW294 hI297
                        obtain ⟨lo308, elo302⟩ : ∃ q, q = va_up lo1 y97 (lo1 y55) := ⟨_, rfl⟩
                        rw [← elo302] at hI297
                        obtain ⟨hi309, ehi303⟩ : ∃ q, q = va_up hi1 y55 (ps y97) := ⟨_, rfl⟩
                        rw [← ehi303] at hI297
                        have k310 : lf306 y97 = (some y55) := by rw [eA298]; exact xL_r
                        have k311 : pa305 y55 = (some y97) := by rw [eP300]; exact xP_p
                        have k312 : pa305 y97 = (some p) := by rw [eP300, xP_r nx249]; exact hp88
                        have nx313 : x ≠ y97 := (hlp_1.fR hm21 k45 hy56 hlp_6 hm247 (hlp_1.le hm247 hp248).2)
                        have k314 : lf306 x = none := by rw [eA298, xL_o nx313 (sn_ne hlp_4)]; exact hlp_4
                        have nx315 : x ≠ y55 := (fn_ne hlp_5 hy98)
                        have k316 : rg304 x = none := by rw [eB299, xR_o nx315 (sn_ne hlp_5)]; exact hlp_5
                        have nx317 : p ≠ y97 := (Ne.symm (tI.gg hlp_1 hm247 hp248 hm87 hp88))
                        have k318 : pa305 x1 = (some p) := by rw [eP300, xP_o nx289 nx276 (fun z => nx317 (Option.some.inj (hp.symm.trans (hlp_1.ml hm247 z).2.1)))]; exact hp
                        have k319 : rg304 p = (some x1) := by rw [eB299, xR_o (Ne.symm nx89) (so_ne k45 nx289)]; exact k45
                        have k320 : lf306 p = (some y97) := by rw [eA298]; exact xL_u nx317 hy56
                        have k321 : lf306 y55 = none := by rw [eA298, xL_o (Ne.symm nx249) (sn_ne hy258)]; exact hy258
                        have g322 : lo308 x1 ≤ ps x := by rw [elo302, zvn nx276]; exact hlp_6
                        have g323 : ps x < hi309 x1 := by rw [ehi303, zvn nx289]; exact hlp_7
                        refine z_aload_n C 2 rfl dJ4_fixAfterDeletion_294 rfl ?_
                        refine z_callS C (As := [.ref x1]) (mJ4_parentOf (o := (some x1)) hW294 (oM hlp_3)) (lw_S q706 q707 q64 q708) hd_J4_parentOf rfl (Nat.le_of_ble_eq_true rfl) (by decide) (by decide) (by decide) (by decide) rfl dJ4_fixAfterDeletion_295 (fun _ _ h => h.elim) (fun r324 V325 hP326 => ?_)
                        rw [hP326.1, hP326.2]
                        refine z_st (st' := [va_rf (pa305 x1)]) rfl ?_
                        refine z_top (v := .ref p) (congrArg va_rf (show (pa305 x1) = (some p) from (by rw [k318]))) ?_
                        refine z_callS C (As := [.ref p]) (mJ4_leftOf (o := (some p)) hW294 (oM hm21)) (lw_S q709 q710 q64 q711) hd_J4_leftOf rfl (Nat.le_of_ble_eq_true rfl) (by decide) (by decide) (by decide) (by decide) rfl dJ4_fixAfterDeletion_298 (fun _ _ h => h.elim) (fun r327 V328 hP329 => ?_)
                        rw [hP329.1, hP329.2]
                        refine z_st (st' := [va_rf (lf306 p)]) rfl ?_
                        refine z_top (v := .ref y97) (congrArg va_rf (show (lf306 p) = (some y97) from (by rw [k320]))) ?_
                        refine z_astore_n C [(2, .ref y97), (0, .ref t), (1, .ref x1)] dJ4_fixAfterDeletion_301 rfl (by decide) rfl ?_
                        refine z_aload_n C 0 rfl dJ4_fixAfterDeletion_302 rfl ?_
                        refine z_aload_n C 2 rfl dJ4_fixAfterDeletion_303 rfl ?_
                        refine z_callS C (As := [.ref x1]) (mJ4_parentOf (o := (some x1)) hW294 (oM hlp_3)) (lw_S q706 q707 q64 q708) hd_J4_parentOf rfl (Nat.le_of_ble_eq_true rfl) (by decide) (by decide) (by decide) (by decide) rfl dJ4_fixAfterDeletion_304 (fun _ _ h => h.elim) (fun r330 V331 hP332 => ?_)
                        rw [hP332.1, hP332.2]
                        refine z_st (st' := [va_rf (pa305 x1), .ref y97]) rfl ?_
                        refine z_top (v := .ref p) (congrArg va_rf (show (pa305 x1) = (some p) from (by rw [k318]))) ?_
                        refine z_callS C (As := [.ref p]) (mJ4_colorOf (o := (some p)) hW294 (oM hm21)) (lw_S q703 q704 q64 q705) hd_J4_colorOf rfl (Nat.le_of_ble_eq_true rfl) (by decide) (by decide) (by decide) (by decide) rfl dJ4_fixAfterDeletion_307 (fun _ _ h => h.elim) (fun r333 V334 hP335 => ?_)
                        rw [hP335.1, hP335.2]
                        refine z_st (st' := [.int (zb (cl286 p)), .ref y97]) rfl ?_
                        refine z_callS C (As := [.ref y97, .int (zb (cl286 p))]) (mJ4_setColor (o := (some y97)) (c := (cl286 p)) hW294 (oM hm247)) (lw_S q715 q716 q64 q717) hd_J4_setColor rfl (Nat.le_of_ble_eq_true rfl) (by decide) (by decide) (by decide) (by decide) rfl dJ4_fixAfterDeletion_310 (fun _ _ h => h.elim) (fun r336 V337 hP338 => ?_)
                        obtain ⟨hW339, hU340⟩ := hP338
                        refine z_st (st' := []) rfl ?_
                        have hU341 := zUnc.tr (S := tC t L) hU296 hU340 (fun _ h => Or.inl h)
                        change tW _ _ _ _ _ _ _ (va_up cl286 y97 (cl286 p)) _ _ _ _ at hW339
                        obtain ⟨cl343, ec342⟩ : ∃ q, q = va_up cl286 y97 (cl286 p) := ⟨_, rfl⟩
                        rw [← ec342] at hW339
                        have k344 : cl343 y97 = (cl286 p) := by rw [ec342, zvs]
                        have k345 : cl343 y55 = false := by rw [ec342, zvn (Ne.symm nx249)]; exact k287
                        have k346 : cl343 x1 = true := by rw [ec342, zvn nx276]; exact k290
                        refine z_aload_n C 2 rfl dJ4_fixAfterDeletion_313 rfl ?_
                        refine z_callS C (As := [.ref x1]) (mJ4_parentOf (o := (some x1)) hW339 (oM hlp_3)) (lw_S q706 q707 q64 q708) hd_J4_parentOf rfl (Nat.le_of_ble_eq_true rfl) (by decide) (by decide) (by decide) (by decide) rfl dJ4_fixAfterDeletion_314 (fun _ _ h => h.elim) (fun r347 V348 hP349 => ?_)
                        rw [hP349.1, hP349.2]
                        refine z_st (st' := [va_rf (pa305 x1)]) rfl ?_
                        refine z_top (v := .ref p) (congrArg va_rf (show (pa305 x1) = (some p) from (by rw [k318]))) ?_
                        refine z_iconst C (v := (nI 1)) dJ4_fixAfterDeletion_317 rfl ?_
                        refine z_st (st' := [.int (zb true), .ref p]) rfl ?_
                        refine z_callS C (As := [.ref p, .int (zb true)]) (mJ4_setColor (o := (some p)) (c := true) hW339 (oM hm21)) (lw_S q715 q716 q64 q717) hd_J4_setColor rfl (Nat.le_of_ble_eq_true rfl) (by decide) (by decide) (by decide) (by decide) rfl dJ4_fixAfterDeletion_318 (fun _ _ h => h.elim) (fun r350 V351 hP352 => ?_)
                        obtain ⟨hW353, hU354⟩ := hP352
                        refine z_st (st' := []) rfl ?_
                        have hU355 := zUnc.tr (S := tC t L) hU341 hU354 (fun _ h => Or.inl h)
                        change tW _ _ _ _ _ _ _ (va_up cl343 p true) _ _ _ _ at hW353
                        obtain ⟨cl357, ec356⟩ : ∃ q, q = va_up cl343 p true := ⟨_, rfl⟩
                        rw [← ec356] at hW353
                        have k358 : cl357 p = true := by rw [ec356, zvs]
                        have k359 : cl357 y55 = false := by rw [ec356, zvn nx89]; exact k345
                        have k360 : cl357 x1 = true := by rw [ec356, zvn nx48]; exact k346
                        refine z_aload_n C 0 rfl dJ4_fixAfterDeletion_321 rfl ?_
                        refine z_callS C (As := [.ref y97]) (mJ4_leftOf (o := (some y97)) hW353 (oM hm247)) (lw_S q709 q710 q64 q711) hd_J4_leftOf rfl (Nat.le_of_ble_eq_true rfl) (by decide) (by decide) (by decide) (by decide) rfl dJ4_fixAfterDeletion_322 (fun _ _ h => h.elim) (fun r361 V362 hP363 => ?_)
                        rw [hP363.1, hP363.2]
                        refine z_st (st' := [va_rf (lf306 y97)]) rfl ?_
                        refine z_top (v := .ref y55) (congrArg va_rf (show (lf306 y97) = (some y55) from (by rw [k310]))) ?_
                        refine z_iconst C (v := (nI 1)) dJ4_fixAfterDeletion_325 rfl ?_
                        refine z_st (st' := [.int (zb true), .ref y55]) rfl ?_
                        refine z_callS C (As := [.ref y55, .int (zb true)]) (mJ4_setColor (o := (some y55)) (c := true) hW353 (oM hm87)) (lw_S q715 q716 q64 q717) hd_J4_setColor rfl (Nat.le_of_ble_eq_true rfl) (by decide) (by decide) (by decide) (by decide) rfl dJ4_fixAfterDeletion_326 (fun _ _ h => h.elim) (fun r364 V365 hP366 => ?_)
                        obtain ⟨hW367, hU368⟩ := hP366
                        refine z_st (st' := []) rfl ?_
                        have hU369 := zUnc.tr (S := tC t L) hU355 hU368 (fun _ h => Or.inl h)
                        change tW _ _ _ _ _ _ _ (va_up cl357 y55 true) _ _ _ _ at hW367
                        obtain ⟨cl371, ec370⟩ : ∃ q, q = va_up cl357 y55 true := ⟨_, rfl⟩
                        rw [← ec370] at hW367
                        have k372 : cl371 y55 = true := by rw [ec370, zvs]
                        have k373 : cl371 p = true := by rw [ec370, zvn (Ne.symm nx89)]; exact k358
                        have k374 : cl371 x1 = true := by rw [ec370, zvn nx289]; exact k360
                        refine z_aload_n C 1 rfl dJ4_fixAfterDeletion_329 rfl ?_
                        refine z_aload_n C 2 rfl dJ4_fixAfterDeletion_330 rfl ?_
                        refine z_callS C (As := [.ref x1]) (mJ4_parentOf (o := (some x1)) hW367 (oM hlp_3)) (lw_S q706 q707 q64 q708) hd_J4_parentOf rfl (Nat.le_of_ble_eq_true rfl) (by decide) (by decide) (by decide) (by decide) rfl dJ4_fixAfterDeletion_331 (fun _ _ h => h.elim) (fun r375 V376 hP377 => ?_)
                        rw [hP377.1, hP377.2]
                        refine z_st (st' := [va_rf (pa305 x1), .ref t]) rfl ?_
                        refine z_top (v := .ref p) (congrArg va_rf (show (pa305 x1) = (some p) from (by rw [k318]))) ?_
                        refine z_callV C k_TM hW367.1 (As := [.ref p]) (mJ4_rotateRight hW367 hI297 hm21 k320) (lw_V q722 q724 qs9 q64 q725) rfl hd_J4_rotateRight rfl (Nat.le_of_ble_eq_true rfl) (by decide) (by decide) (by decide) (by decide) rfl dJ4_fixAfterDeletion_334 (fun _ _ h => h.elim) (fun r378 V379 hP380 => ?_)
                        obtain ⟨hW381, hU382⟩ := hP380
                        refine z_st (st' := []) rfl ?_
                        have hU383 := zUnc.tr (S := tC t L) hU369 hU382 (fun _ h => Or.inl h)
                        have hI384 := tI_rotR hI297 hm21 k320
                        obtain ⟨lf391, eB386⟩ : ∃ q, q = xR rg304 lf306 p y97 := ⟨_, rfl⟩
                        rw [← eB386] at hW381 hI384
                        obtain ⟨pa392, eP387⟩ : ∃ q, q = xP rg304 pa305 p y97 := ⟨_, rfl⟩
                        rw [← eP387] at hW381 hI384
                        obtain ⟨rg393, eA385⟩ : ∃ q, q = xL rg304 p y97 := ⟨_, rfl⟩
                        rw [← eA385] at hW381 hI384
                        obtain ⟨rt394, eT388⟩ : ∃ q, q = xT rt307 p y97 := ⟨_, rfl⟩
                        rw [← eT388] at hW381 hI384
                        obtain ⟨lo395, elo389⟩ : ∃ q, q = va_up lo308 p (ps y97 + 1) := ⟨_, rfl⟩
                        rw [← elo389] at hI384
                        obtain ⟨hi396, ehi390⟩ : ∃ q, q = va_up hi309 y97 (hi309 p) := ⟨_, rfl⟩
                        rw [← ehi390] at hI384
                        have k397 : rg393 y97 = (some p) := by rw [eA385]; exact xL_r
                        have k398 : pa392 p = (some y97) := by rw [eP387]; exact xP_p
                        have k399 : lf391 y97 = (some y55) := by rw [eB386, xR_o (Ne.symm nx317) (so_ne k310 nx89)]; exact k310
                        have k400 : pa392 y55 = (some y97) := by rw [eP387, xP_o nx89 (Ne.symm nx249) (hI297.lr hm247 k310)]; exact k311
                        have nx401 : x ≠ p := (fn_ne k314 k320)
                        have k402 : lf391 x = none := by rw [eB386, xR_o nx401 (sn_ne k314)]; exact k314
                        have k403 : rg393 x = none := by rw [eA385, xL_o nx313 (sn_ne k316)]; exact k316
                        have k404 : pa392 x1 = (some p) := by rw [eP387, xP_o nx48 nx276 (fun z => nx317 (Option.some.inj (k318.symm.trans (hI297.mr hm247 z).2.1)))]; exact k318
                        have k405 : rg393 p = (some x1) := by rw [eA385, xL_o nx317 (so_ne k319 nx48)]; exact k319
                        have k406 : lf391 y55 = none := by rw [eB386, xR_o nx89 (sn_ne k321)]; exact k321
                        have g407 : lo395 x1 ≤ ps x := by rw [elo389, zvn nx48]; exact g322
                        have g408 : ps x < hi396 x1 := by rw [ehi390, zvn nx276]; exact g323
                        refine z_aload_n C 1 rfl dJ4_fixAfterDeletion_337 rfl ?_
                        refine z_get C k_TM hW381.1 3 (by decide) rfl q162 dJ4_fixAfterDeletion_338 ?_
                        refine z_astore_nQ C (r := rt394) [(1, va_rf rt394), (2, .ref y97), (0, .ref t)] dJ4_fixAfterDeletion_341 rfl (by decide) rfl ?_
                        refine z_goto C 0 dJ4_fixAfterDeletion_342 (by decide) ?_
                        refine z_pick [(0, .ref t), (1, va_rf rt394)] [2, 0] rfl ?_
                        obtain ⟨r0409, hr410⟩ := hI384.rtm hlp_3
                        obtain ⟨hm411, hp412, -, -⟩ := hI384.2.1.1 r0409 hr410
                        have e413 : (va_rf rt394 : Value) = .ref r0409 := (congrArg va_rf hr410)
                        refine z_lv (lv' := [(0, .ref t), (1, .ref r0409)]) (by rw [e413]) ?_
                        exact hexit V379 rt394 lf391 rg393 pa392 cl371 lo395 hi396 r0409 hW381 hI384 hU383 hm411 hr410 k402 k403
                    · skip
                      obtain ⟨hm414, hp415, nx416⟩ := hlp_1.ml hm87 hy258
                      refine z_callS C (As := [.ref y257]) (mJ4_colorOf (o := (some y257)) hlp_0 (oM hm414)) (lw_S q703 q704 q64 q705) hd_J4_colorOf rfl (Nat.le_of_ble_eq_true rfl) (by decide) (by decide) (by decide) (by decide) rfl dJ4_fixAfterDeletion_269 (fun _ _ h => h.elim) (fun r417 V418 hP419 => ?_)
                      rw [hP419.1, hP419.2]
                      refine z_st (st' := [.int (zb (cl1 y257))]) rfl ?_
                      refine z_iconst C (v := (nI 1)) dJ4_fixAfterDeletion_272 rfl ?_
                      refine z_icmp_ne C 302 dJ4_fixAfterDeletion_273 (by decide) (fun c273 => ?_) (fun c273 => ?_)
                      · skip
                        have k420 : (cl1 y257) = false := zb1f c273
                        refine z_aload_n C 0 rfl dJ4_fixAfterDeletion_302 rfl ?_
                        refine z_aload_n C 2 rfl dJ4_fixAfterDeletion_303 rfl ?_
                        refine z_callS C (As := [.ref x1]) (mJ4_parentOf (o := (some x1)) hlp_0 (oM hlp_3)) (lw_S q706 q707 q64 q708) hd_J4_parentOf rfl (Nat.le_of_ble_eq_true rfl) (by decide) (by decide) (by decide) (by decide) rfl dJ4_fixAfterDeletion_304 (fun _ _ h => h.elim) (fun r421 V422 hP423 => ?_)
                        rw [hP423.1, hP423.2]
                        refine z_st (st' := [va_rf (pa1 x1), .ref y55]) rfl ?_
                        refine z_top (v := .ref p) (congrArg va_rf (show (pa1 x1) = (some p) from (by rw [hp]))) ?_
                        refine z_callS C (As := [.ref p]) (mJ4_colorOf (o := (some p)) hlp_0 (oM hm21)) (lw_S q703 q704 q64 q705) hd_J4_colorOf rfl (Nat.le_of_ble_eq_true rfl) (by decide) (by decide) (by decide) (by decide) rfl dJ4_fixAfterDeletion_307 (fun _ _ h => h.elim) (fun r424 V425 hP426 => ?_)
                        rw [hP426.1, hP426.2]
                        refine z_st (st' := [.int (zb (cl1 p)), .ref y55]) rfl ?_
                        refine z_callS C (As := [.ref y55, .int (zb (cl1 p))]) (mJ4_setColor (o := (some y55)) (c := (cl1 p)) hlp_0 (oM hm87)) (lw_S q715 q716 q64 q717) hd_J4_setColor rfl (Nat.le_of_ble_eq_true rfl) (by decide) (by decide) (by decide) (by decide) rfl dJ4_fixAfterDeletion_310 (fun _ _ h => h.elim) (fun r427 V428 hP429 => ?_)
                        obtain ⟨hW430, hU431⟩ := hP429
                        refine z_st (st' := []) rfl ?_
                        have hU432 := zUnc.tr (S := tC t L) hlp_2 hU431 (fun _ h => Or.inl h)
                        change tW _ _ _ _ _ _ _ (va_up cl1 y55 (cl1 p)) _ _ _ _ at hW430
                        obtain ⟨cl434, ec433⟩ : ∃ q, q = va_up cl1 y55 (cl1 p) := ⟨_, rfl⟩
                        rw [← ec433] at hW430
                        have k435 : cl434 y55 = (cl1 p) := by rw [ec433, zvs]
                        have nx436 : x1 ≠ y55 := (Ne.symm (tI.sib hlp_1 hm21 hy56 k45))
                        have k437 : cl434 x1 = true := by rw [ec433, zvn nx436]; exact k37
                        have k438 : cl434 y97 = false := by rw [ec433, zvn nx249]; exact k253
                        have k439 : cl434 y257 = false := by rw [ec433, zvn nx416]; exact k420
                        refine z_aload_n C 2 rfl dJ4_fixAfterDeletion_313 rfl ?_
                        refine z_callS C (As := [.ref x1]) (mJ4_parentOf (o := (some x1)) hW430 (oM hlp_3)) (lw_S q706 q707 q64 q708) hd_J4_parentOf rfl (Nat.le_of_ble_eq_true rfl) (by decide) (by decide) (by decide) (by decide) rfl dJ4_fixAfterDeletion_314 (fun _ _ h => h.elim) (fun r440 V441 hP442 => ?_)
                        rw [hP442.1, hP442.2]
                        refine z_st (st' := [va_rf (pa1 x1)]) rfl ?_
                        refine z_top (v := .ref p) (congrArg va_rf (show (pa1 x1) = (some p) from (by rw [hp]))) ?_
                        refine z_iconst C (v := (nI 1)) dJ4_fixAfterDeletion_317 rfl ?_
                        refine z_st (st' := [.int (zb true), .ref p]) rfl ?_
                        refine z_callS C (As := [.ref p, .int (zb true)]) (mJ4_setColor (o := (some p)) (c := true) hW430 (oM hm21)) (lw_S q715 q716 q64 q717) hd_J4_setColor rfl (Nat.le_of_ble_eq_true rfl) (by decide) (by decide) (by decide) (by decide) rfl dJ4_fixAfterDeletion_318 (fun _ _ h => h.elim) (fun r443 V444 hP445 => ?_)
                        obtain ⟨hW446, hU447⟩ := hP445
                        refine z_st (st' := []) rfl ?_
                        have hU448 := zUnc.tr (S := tC t L) hU432 hU447 (fun _ h => Or.inl h)
                        change tW _ _ _ _ _ _ _ (va_up cl434 p true) _ _ _ _ at hW446
                        obtain ⟨cl450, ec449⟩ : ∃ q, q = va_up cl434 p true := ⟨_, rfl⟩
                        rw [← ec449] at hW446
                        have k451 : cl450 p = true := by rw [ec449, zvs]
                        have k452 : cl450 x1 = true := by rw [ec449, zvn nx48]; exact k437
                        have nx453 : y97 ≠ p := (tI.gg hlp_1 hm247 hp248 hm87 hp88)
                        have k454 : cl450 y97 = false := by rw [ec449, zvn nx453]; exact k438
                        have nx455 : y257 ≠ p := (tI.gg hlp_1 hm414 hp415 hm87 hp88)
                        have k456 : cl450 y257 = false := by rw [ec449, zvn nx455]; exact k439
                        refine z_aload_n C 0 rfl dJ4_fixAfterDeletion_321 rfl ?_
                        refine z_callS C (As := [.ref y55]) (mJ4_leftOf (o := (some y55)) hW446 (oM hm87)) (lw_S q709 q710 q64 q711) hd_J4_leftOf rfl (Nat.le_of_ble_eq_true rfl) (by decide) (by decide) (by decide) (by decide) rfl dJ4_fixAfterDeletion_322 (fun _ _ h => h.elim) (fun r457 V458 hP459 => ?_)
                        rw [hP459.1, hP459.2]
                        refine z_st (st' := [va_rf (lf1 y55)]) rfl ?_
                        refine z_top (v := .ref y257) (congrArg va_rf (show (lf1 y55) = (some y257) from (by rw [hy258]))) ?_
                        refine z_iconst C (v := (nI 1)) dJ4_fixAfterDeletion_325 rfl ?_
                        refine z_st (st' := [.int (zb true), .ref y257]) rfl ?_
                        refine z_callS C (As := [.ref y257, .int (zb true)]) (mJ4_setColor (o := (some y257)) (c := true) hW446 (oM hm414)) (lw_S q715 q716 q64 q717) hd_J4_setColor rfl (Nat.le_of_ble_eq_true rfl) (by decide) (by decide) (by decide) (by decide) rfl dJ4_fixAfterDeletion_326 (fun _ _ h => h.elim) (fun r460 V461 hP462 => ?_)
                        obtain ⟨hW463, hU464⟩ := hP462
                        refine z_st (st' := []) rfl ?_
                        have hU465 := zUnc.tr (S := tC t L) hU448 hU464 (fun _ h => Or.inl h)
                        change tW _ _ _ _ _ _ _ (va_up cl450 y257 true) _ _ _ _ at hW463
                        obtain ⟨cl467, ec466⟩ : ∃ q, q = va_up cl450 y257 true := ⟨_, rfl⟩
                        rw [← ec466] at hW463
                        have k468 : cl467 y257 = true := by rw [ec466, zvs]
                        have k469 : cl467 p = true := by rw [ec466, zvn (Ne.symm nx455)]; exact k451
                        have nx470 : x1 ≠ y257 := (ne_pa hp hp415 (Ne.symm nx89))
                        have k471 : cl467 x1 = true := by rw [ec466, zvn nx470]; exact k452
                        have nx472 : y97 ≠ y257 := (Ne.symm (tI.sib hlp_1 hm87 hy258 hy98))
                        have k473 : cl467 y97 = false := by rw [ec466, zvn nx472]; exact k454
                        refine z_aload_n C 1 rfl dJ4_fixAfterDeletion_329 rfl ?_
                        refine z_aload_n C 2 rfl dJ4_fixAfterDeletion_330 rfl ?_
                        refine z_callS C (As := [.ref x1]) (mJ4_parentOf (o := (some x1)) hW463 (oM hlp_3)) (lw_S q706 q707 q64 q708) hd_J4_parentOf rfl (Nat.le_of_ble_eq_true rfl) (by decide) (by decide) (by decide) (by decide) rfl dJ4_fixAfterDeletion_331 (fun _ _ h => h.elim) (fun r474 V475 hP476 => ?_)
                        rw [hP476.1, hP476.2]
                        refine z_st (st' := [va_rf (pa1 x1), .ref t]) rfl ?_
                        refine z_top (v := .ref p) (congrArg va_rf (show (pa1 x1) = (some p) from (by rw [hp]))) ?_
                        refine z_callV C k_TM hW463.1 (As := [.ref p]) (mJ4_rotateRight hW463 hlp_1 hm21 hy56) (lw_V q722 q724 qs9 q64 q725) rfl hd_J4_rotateRight rfl (Nat.le_of_ble_eq_true rfl) (by decide) (by decide) (by decide) (by decide) rfl dJ4_fixAfterDeletion_334 (fun _ _ h => h.elim) (fun r477 V478 hP479 => ?_)
                        obtain ⟨hW480, hU481⟩ := hP479
                        refine z_st (st' := []) rfl ?_
                        have hU482 := zUnc.tr (S := tC t L) hU465 hU481 (fun _ h => Or.inl h)
                        have hI483 := tI_rotR hlp_1 hm21 hy56
                        obtain ⟨lf490, eB485⟩ : ∃ q, q = xR rg1 lf1 p y55 := ⟨_, rfl⟩
                        rw [← eB485] at hW480 hI483
                        obtain ⟨pa491, eP486⟩ : ∃ q, q = xP rg1 pa1 p y55 := ⟨_, rfl⟩
                        rw [← eP486] at hW480 hI483
                        obtain ⟨rg492, eA484⟩ : ∃ q, q = xL rg1 p y55 := ⟨_, rfl⟩
                        rw [← eA484] at hW480 hI483
                        obtain ⟨rt493, eT487⟩ : ∃ q, q = xT rt1 p y55 := ⟨_, rfl⟩
                        rw [← eT487] at hW480 hI483
                        obtain ⟨lo494, elo488⟩ : ∃ q, q = va_up lo1 p (ps y55 + 1) := ⟨_, rfl⟩
                        rw [← elo488] at hI483
                        obtain ⟨hi495, ehi489⟩ : ∃ q, q = va_up hi1 y55 (hi1 p) := ⟨_, rfl⟩
                        rw [← ehi489] at hI483
                        have k496 : rg492 y55 = (some p) := by rw [eA484]; exact xL_r
                        have k497 : pa491 p = (some y55) := by rw [eP486]; exact xP_p
                        have k498 : lf490 p = (some y97) := by rw [eB485, xR_p]; exact hy98
                        have nx499 : x ≠ p := (fn_ne hlp_4 hy56)
                        have k500 : lf490 x = none := by rw [eB485, xR_o nx499 (sn_ne hlp_4)]; exact hlp_4
                        have nx501 : x ≠ y55 := (fn_ne hlp_4 hy258)
                        have k502 : rg492 x = none := by rw [eA484, xL_o nx501 (sn_ne hlp_5)]; exact hlp_5
                        have nx503 : y97 ≠ x1 := (ne_pa hp248 hp nx89)
                        have k504 : pa491 x1 = (some p) := by rw [eP486, xP_o nx48 nx436 (so_ne hy98 nx503)]; exact hp
                        have k505 : rg492 p = (some x1) := by rw [eA484, xL_o (Ne.symm nx89) (so_ne k45 nx48)]; exact k45
                        have k506 : pa491 y97 = (some p) := by rw [eP486]; exact xP_c nx453 nx249 hy98
                        have k507 : lf490 y55 = (some y257) := by rw [eB485, xR_o nx89 (so_ne hy258 nx455)]; exact hy258
                        have k508 : pa491 y257 = (some y55) := by rw [eP486, xP_o nx455 nx416 (so_ne hy98 nx472)]; exact hp415
                        have g509 : lo494 x1 ≤ ps x := by rw [elo488, zvn nx48]; exact hlp_6
                        have g510 : ps x < hi495 x1 := by rw [ehi489, zvn nx436]; exact hlp_7
                        refine z_aload_n C 1 rfl dJ4_fixAfterDeletion_337 rfl ?_
                        refine z_get C k_TM hW480.1 3 (by decide) rfl q162 dJ4_fixAfterDeletion_338 ?_
                        refine z_astore_nQ C (r := rt493) [(1, va_rf rt493), (2, .ref y55), (0, .ref t)] dJ4_fixAfterDeletion_341 rfl (by decide) rfl ?_
                        refine z_goto C 0 dJ4_fixAfterDeletion_342 (by decide) ?_
                        refine z_pick [(0, .ref t), (1, va_rf rt493)] [2, 0] rfl ?_
                        obtain ⟨r0511, hr512⟩ := hI483.rtm hlp_3
                        obtain ⟨hm513, hp514, -, -⟩ := hI483.2.1.1 r0511 hr512
                        have e515 : (va_rf rt493 : Value) = .ref r0511 := (congrArg va_rf hr512)
                        refine z_lv (lv' := [(0, .ref t), (1, .ref r0511)]) (by rw [e515]) ?_
                        exact hexit V478 rt493 lf490 rg492 pa491 cl467 lo494 hi495 r0511 hW480 hI483 hU482 hm513 hr512 k500 k502
                      · skip
                        have k516 : (cl1 y257) = true := zb1 c273
                        refine z_aload_n C 0 rfl dJ4_fixAfterDeletion_276 rfl ?_
                        refine z_callS C (As := [.ref y55]) (mJ4_rightOf (o := (some y55)) hlp_0 (oM hm87)) (lw_S q712 q713 q64 q714) hd_J4_rightOf rfl (Nat.le_of_ble_eq_true rfl) (by decide) (by decide) (by decide) (by decide) rfl dJ4_fixAfterDeletion_277 (fun _ _ h => h.elim) (fun r517 V518 hP519 => ?_)
                        rw [hP519.1, hP519.2]
                        refine z_st (st' := [va_rf (rg1 y55)]) rfl ?_
                        refine z_top (v := .ref y97) (congrArg va_rf (show (rg1 y55) = (some y97) from (by rw [hy98]))) ?_
                        refine z_iconst C (v := (nI 1)) dJ4_fixAfterDeletion_280 rfl ?_
                        refine z_st (st' := [.int (zb true), .ref y97]) rfl ?_
                        refine z_callS C (As := [.ref y97, .int (zb true)]) (mJ4_setColor (o := (some y97)) (c := true) hlp_0 (oM hm247)) (lw_S q715 q716 q64 q717) hd_J4_setColor rfl (Nat.le_of_ble_eq_true rfl) (by decide) (by decide) (by decide) (by decide) rfl dJ4_fixAfterDeletion_281 (fun _ _ h => h.elim) (fun r520 V521 hP522 => ?_)
                        obtain ⟨hW523, hU524⟩ := hP522
                        refine z_st (st' := []) rfl ?_
                        have hU525 := zUnc.tr (S := tC t L) hlp_2 hU524 (fun _ h => Or.inl h)
                        change tW _ _ _ _ _ _ _ (va_up cl1 y97 true) _ _ _ _ at hW523
                        obtain ⟨cl527, ec526⟩ : ∃ q, q = va_up cl1 y97 true := ⟨_, rfl⟩
                        rw [← ec526] at hW523
                        have k528 : cl527 y97 = true := by rw [ec526, zvs]
                        have nx529 : x1 ≠ y97 := (ne_pa hp hp248 (Ne.symm nx89))
                        have k530 : cl527 x1 = true := by rw [ec526, zvn nx529]; exact k37
                        have k531 : cl527 y55 = true := by rw [ec526, zvn (Ne.symm nx249)]; exact k93
                        have nx532 : y257 ≠ y97 := (tI.sib hlp_1 hm87 hy258 hy98)
                        have k533 : cl527 y257 = true := by rw [ec526, zvn nx532]; exact k516
                        refine z_aload_n C 0 rfl dJ4_fixAfterDeletion_284 rfl ?_
                        refine z_iconst C (v := (nI 0)) dJ4_fixAfterDeletion_285 rfl ?_
                        refine z_st (st' := [.int (zb false), .ref y55]) rfl ?_
                        refine z_callS C (As := [.ref y55, .int (zb false)]) (mJ4_setColor (o := (some y55)) (c := false) hW523 (oM hm87)) (lw_S q715 q716 q64 q717) hd_J4_setColor rfl (Nat.le_of_ble_eq_true rfl) (by decide) (by decide) (by decide) (by decide) rfl dJ4_fixAfterDeletion_286 (fun _ _ h => h.elim) (fun r534 V535 hP536 => ?_)
                        obtain ⟨hW537, hU538⟩ := hP536
                        refine z_st (st' := []) rfl ?_
                        have hU539 := zUnc.tr (S := tC t L) hU525 hU538 (fun _ h => Or.inl h)
                        change tW _ _ _ _ _ _ _ (va_up cl527 y55 false) _ _ _ _ at hW537
                        obtain ⟨cl541, ec540⟩ : ∃ q, q = va_up cl527 y55 false := ⟨_, rfl⟩
                        rw [← ec540] at hW537
                        have k542 : cl541 y55 = false := by rw [ec540, zvs]
                        have k543 : cl541 y97 = true := by rw [ec540, zvn nx249]; exact k528
                        have nx544 : x1 ≠ y55 := (Ne.symm (tI.sib hlp_1 hm21 hy56 k45))
                        have k545 : cl541 x1 = true := by rw [ec540, zvn nx544]; exact k530
                        have k546 : cl541 y257 = true := by rw [ec540, zvn nx416]; exact k533
                        refine z_aload_n C 1 rfl dJ4_fixAfterDeletion_289 rfl ?_
                        refine z_aload_n C 0 rfl dJ4_fixAfterDeletion_290 rfl ?_
                        refine z_callV C k_TM hW537.1 (As := [.ref y55]) (mJ4_rotateLeft hW537 hlp_1 hm87 hy98) (lw_V q718 q720 qs8 q64 q721) rfl hd_J4_rotateLeft rfl (Nat.le_of_ble_eq_true rfl) (by decide) (by decide) (by decide) (by decide) rfl dJ4_fixAfterDeletion_291 (fun _ _ h => h.elim) (fun r547 V548 hP549 => ?_)
                        obtain ⟨hW550, hU551⟩ := hP549
                        refine z_st (st' := []) rfl ?_
                        have hU552 := zUnc.tr (S := tC t L) hU539 hU551 (fun _ h => Or.inl h)
                        have hI553 := tI_rotL hlp_1 hm87 hy98
                        obtain ⟨rg560, eB555⟩ : ∃ q, q = xR lf1 rg1 y55 y97 := ⟨_, rfl⟩
                        rw [← eB555] at hW550 hI553
                        obtain ⟨pa561, eP556⟩ : ∃ q, q = xP lf1 pa1 y55 y97 := ⟨_, rfl⟩
                        rw [← eP556] at hW550 hI553
                        obtain ⟨lf562, eA554⟩ : ∃ q, q = xL lf1 y55 y97 := ⟨_, rfl⟩
                        rw [← eA554] at hW550 hI553
                        obtain ⟨rt563, eT557⟩ : ∃ q, q = xT rt1 y55 y97 := ⟨_, rfl⟩
                        rw [← eT557] at hW550 hI553
                        obtain ⟨lo564, elo558⟩ : ∃ q, q = va_up lo1 y97 (lo1 y55) := ⟨_, rfl⟩
                        rw [← elo558] at hI553
                        obtain ⟨hi565, ehi559⟩ : ∃ q, q = va_up hi1 y55 (ps y97) := ⟨_, rfl⟩
                        rw [← ehi559] at hI553
                        have k566 : lf562 y97 = (some y55) := by rw [eA554]; exact xL_r
                        have k567 : pa561 y55 = (some y97) := by rw [eP556]; exact xP_p
                        have k568 : pa561 y97 = (some p) := by rw [eP556, xP_r nx249]; exact hp88
                        have nx569 : x ≠ y97 := (hlp_1.fR hm21 k45 hy56 hlp_6 hm247 (hlp_1.le hm247 hp248).2)
                        have k570 : lf562 x = none := by rw [eA554, xL_o nx569 (sn_ne hlp_4)]; exact hlp_4
                        have nx571 : x ≠ y55 := (fn_ne hlp_4 hy258)
                        have k572 : rg560 x = none := by rw [eB555, xR_o nx571 (sn_ne hlp_5)]; exact hlp_5
                        have nx573 : p ≠ y97 := (Ne.symm (tI.gg hlp_1 hm247 hp248 hm87 hp88))
                        have k574 : pa561 x1 = (some p) := by rw [eP556, xP_o nx544 nx529 (fun z => nx573 (Option.some.inj (hp.symm.trans (hlp_1.ml hm247 z).2.1)))]; exact hp
                        have k575 : rg560 p = (some x1) := by rw [eB555, xR_o (Ne.symm nx89) (so_ne k45 nx544)]; exact k45
                        have k576 : lf562 p = (some y97) := by rw [eA554]; exact xL_u nx573 hy56
                        have k577 : lf562 y55 = (some y257) := by rw [eA554, xL_o (Ne.symm nx249) (so_ne hy258 nx416)]; exact hy258
                        have k578 : pa561 y257 = (some y55) := by rw [eP556, xP_o nx416 nx532 (fun z => (Ne.symm nx249) (Option.some.inj (hp415.symm.trans (hlp_1.ml hm247 z).2.1)))]; exact hp415
                        have g579 : lo564 x1 ≤ ps x := by rw [elo558, zvn nx529]; exact hlp_6
                        have g580 : ps x < hi565 x1 := by rw [ehi559, zvn nx544]; exact hlp_7
                        refine z_aload_n C 2 rfl dJ4_fixAfterDeletion_294 rfl ?_
                        refine z_callS C (As := [.ref x1]) (mJ4_parentOf (o := (some x1)) hW550 (oM hlp_3)) (lw_S q706 q707 q64 q708) hd_J4_parentOf rfl (Nat.le_of_ble_eq_true rfl) (by decide) (by decide) (by decide) (by decide) rfl dJ4_fixAfterDeletion_295 (fun _ _ h => h.elim) (fun r581 V582 hP583 => ?_)
                        rw [hP583.1, hP583.2]
                        refine z_st (st' := [va_rf (pa561 x1)]) rfl ?_
                        refine z_top (v := .ref p) (congrArg va_rf (show (pa561 x1) = (some p) from (by rw [k574]))) ?_
                        refine z_callS C (As := [.ref p]) (mJ4_leftOf (o := (some p)) hW550 (oM hm21)) (lw_S q709 q710 q64 q711) hd_J4_leftOf rfl (Nat.le_of_ble_eq_true rfl) (by decide) (by decide) (by decide) (by decide) rfl dJ4_fixAfterDeletion_298 (fun _ _ h => h.elim) (fun r584 V585 hP586 => ?_)
                        rw [hP586.1, hP586.2]
                        refine z_st (st' := [va_rf (lf562 p)]) rfl ?_
                        refine z_top (v := .ref y97) (congrArg va_rf (show (lf562 p) = (some y97) from (by rw [k576]))) ?_
                        refine z_astore_n C [(2, .ref y97), (0, .ref t), (1, .ref x1)] dJ4_fixAfterDeletion_301 rfl (by decide) rfl ?_
                        refine z_aload_n C 0 rfl dJ4_fixAfterDeletion_302 rfl ?_
                        refine z_aload_n C 2 rfl dJ4_fixAfterDeletion_303 rfl ?_
                        refine z_callS C (As := [.ref x1]) (mJ4_parentOf (o := (some x1)) hW550 (oM hlp_3)) (lw_S q706 q707 q64 q708) hd_J4_parentOf rfl (Nat.le_of_ble_eq_true rfl) (by decide) (by decide) (by decide) (by decide) rfl dJ4_fixAfterDeletion_304 (fun _ _ h => h.elim) (fun r587 V588 hP589 => ?_)
                        rw [hP589.1, hP589.2]
                        refine z_st (st' := [va_rf (pa561 x1), .ref y97]) rfl ?_
                        refine z_top (v := .ref p) (congrArg va_rf (show (pa561 x1) = (some p) from (by rw [k574]))) ?_
                        refine z_callS C (As := [.ref p]) (mJ4_colorOf (o := (some p)) hW550 (oM hm21)) (lw_S q703 q704 q64 q705) hd_J4_colorOf rfl (Nat.le_of_ble_eq_true rfl) (by decide) (by decide) (by decide) (by decide) rfl dJ4_fixAfterDeletion_307 (fun _ _ h => h.elim) (fun r590 V591 hP592 => ?_)
                        rw [hP592.1, hP592.2]
                        refine z_st (st' := [.int (zb (cl541 p)), .ref y97]) rfl ?_
                        refine z_callS C (As := [.ref y97, .int (zb (cl541 p))]) (mJ4_setColor (o := (some y97)) (c := (cl541 p)) hW550 (oM hm247)) (lw_S q715 q716 q64 q717) hd_J4_setColor rfl (Nat.le_of_ble_eq_true rfl) (by decide) (by decide) (by decide) (by decide) rfl dJ4_fixAfterDeletion_310 (fun _ _ h => h.elim) (fun r593 V594 hP595 => ?_)
                        obtain ⟨hW596, hU597⟩ := hP595
                        refine z_st (st' := []) rfl ?_
                        have hU598 := zUnc.tr (S := tC t L) hU552 hU597 (fun _ h => Or.inl h)
                        change tW _ _ _ _ _ _ _ (va_up cl541 y97 (cl541 p)) _ _ _ _ at hW596
                        obtain ⟨cl600, ec599⟩ : ∃ q, q = va_up cl541 y97 (cl541 p) := ⟨_, rfl⟩
                        rw [← ec599] at hW596
                        have k601 : cl600 y97 = (cl541 p) := by rw [ec599, zvs]
                        have k602 : cl600 y55 = false := by rw [ec599, zvn (Ne.symm nx249)]; exact k542
                        have k603 : cl600 x1 = true := by rw [ec599, zvn nx529]; exact k545
                        have k604 : cl600 y257 = true := by rw [ec599, zvn nx532]; exact k546
                        refine z_aload_n C 2 rfl dJ4_fixAfterDeletion_313 rfl ?_
                        refine z_callS C (As := [.ref x1]) (mJ4_parentOf (o := (some x1)) hW596 (oM hlp_3)) (lw_S q706 q707 q64 q708) hd_J4_parentOf rfl (Nat.le_of_ble_eq_true rfl) (by decide) (by decide) (by decide) (by decide) rfl dJ4_fixAfterDeletion_314 (fun _ _ h => h.elim) (fun r605 V606 hP607 => ?_)
                        rw [hP607.1, hP607.2]
                        refine z_st (st' := [va_rf (pa561 x1)]) rfl ?_
                        refine z_top (v := .ref p) (congrArg va_rf (show (pa561 x1) = (some p) from (by rw [k574]))) ?_
                        refine z_iconst C (v := (nI 1)) dJ4_fixAfterDeletion_317 rfl ?_
                        refine z_st (st' := [.int (zb true), .ref p]) rfl ?_
                        refine z_callS C (As := [.ref p, .int (zb true)]) (mJ4_setColor (o := (some p)) (c := true) hW596 (oM hm21)) (lw_S q715 q716 q64 q717) hd_J4_setColor rfl (Nat.le_of_ble_eq_true rfl) (by decide) (by decide) (by decide) (by decide) rfl dJ4_fixAfterDeletion_318 (fun _ _ h => h.elim) (fun r608 V609 hP610 => ?_)
                        obtain ⟨hW611, hU612⟩ := hP610
                        refine z_st (st' := []) rfl ?_
                        have hU613 := zUnc.tr (S := tC t L) hU598 hU612 (fun _ h => Or.inl h)
                        change tW _ _ _ _ _ _ _ (va_up cl600 p true) _ _ _ _ at hW611
                        obtain ⟨cl615, ec614⟩ : ∃ q, q = va_up cl600 p true := ⟨_, rfl⟩
                        rw [← ec614] at hW611
                        have k616 : cl615 p = true := by rw [ec614, zvs]
                        have k617 : cl615 y55 = false := by rw [ec614, zvn nx89]; exact k602
                        have k618 : cl615 x1 = true := by rw [ec614, zvn nx48]; exact k603
                        refine z_aload_n C 0 rfl dJ4_fixAfterDeletion_321 rfl ?_
                        refine z_callS C (As := [.ref y97]) (mJ4_leftOf (o := (some y97)) hW611 (oM hm247)) (lw_S q709 q710 q64 q711) hd_J4_leftOf rfl (Nat.le_of_ble_eq_true rfl) (by decide) (by decide) (by decide) (by decide) rfl dJ4_fixAfterDeletion_322 (fun _ _ h => h.elim) (fun r619 V620 hP621 => ?_)
                        rw [hP621.1, hP621.2]
                        refine z_st (st' := [va_rf (lf562 y97)]) rfl ?_
                        refine z_top (v := .ref y55) (congrArg va_rf (show (lf562 y97) = (some y55) from (by rw [k566]))) ?_
                        refine z_iconst C (v := (nI 1)) dJ4_fixAfterDeletion_325 rfl ?_
                        refine z_st (st' := [.int (zb true), .ref y55]) rfl ?_
                        refine z_callS C (As := [.ref y55, .int (zb true)]) (mJ4_setColor (o := (some y55)) (c := true) hW611 (oM hm87)) (lw_S q715 q716 q64 q717) hd_J4_setColor rfl (Nat.le_of_ble_eq_true rfl) (by decide) (by decide) (by decide) (by decide) rfl dJ4_fixAfterDeletion_326 (fun _ _ h => h.elim) (fun r622 V623 hP624 => ?_)
                        obtain ⟨hW625, hU626⟩ := hP624
                        refine z_st (st' := []) rfl ?_
                        have hU627 := zUnc.tr (S := tC t L) hU613 hU626 (fun _ h => Or.inl h)
                        change tW _ _ _ _ _ _ _ (va_up cl615 y55 true) _ _ _ _ at hW625
                        obtain ⟨cl629, ec628⟩ : ∃ q, q = va_up cl615 y55 true := ⟨_, rfl⟩
                        rw [← ec628] at hW625
                        have k630 : cl629 y55 = true := by rw [ec628, zvs]
                        have k631 : cl629 p = true := by rw [ec628, zvn (Ne.symm nx89)]; exact k616
                        have k632 : cl629 x1 = true := by rw [ec628, zvn nx544]; exact k618
                        refine z_aload_n C 1 rfl dJ4_fixAfterDeletion_329 rfl ?_
                        refine z_aload_n C 2 rfl dJ4_fixAfterDeletion_330 rfl ?_
                        refine z_callS C (As := [.ref x1]) (mJ4_parentOf (o := (some x1)) hW625 (oM hlp_3)) (lw_S q706 q707 q64 q708) hd_J4_parentOf rfl (Nat.le_of_ble_eq_true rfl) (by decide) (by decide) (by decide) (by decide) rfl dJ4_fixAfterDeletion_331 (fun _ _ h => h.elim) (fun r633 V634 hP635 => ?_)
                        rw [hP635.1, hP635.2]
                        refine z_st (st' := [va_rf (pa561 x1), .ref t]) rfl ?_
                        refine z_top (v := .ref p) (congrArg va_rf (show (pa561 x1) = (some p) from (by rw [k574]))) ?_
                        refine z_callV C k_TM hW625.1 (As := [.ref p]) (mJ4_rotateRight hW625 hI553 hm21 k576) (lw_V q722 q724 qs9 q64 q725) rfl hd_J4_rotateRight rfl (Nat.le_of_ble_eq_true rfl) (by decide) (by decide) (by decide) (by decide) rfl dJ4_fixAfterDeletion_334 (fun _ _ h => h.elim) (fun r636 V637 hP638 => ?_)
                        obtain ⟨hW639, hU640⟩ := hP638
                        refine z_st (st' := []) rfl ?_
                        have hU641 := zUnc.tr (S := tC t L) hU627 hU640 (fun _ h => Or.inl h)
                        have hI642 := tI_rotR hI553 hm21 k576
                        obtain ⟨lf649, eB644⟩ : ∃ q, q = xR rg560 lf562 p y97 := ⟨_, rfl⟩
                        rw [← eB644] at hW639 hI642
                        obtain ⟨pa650, eP645⟩ : ∃ q, q = xP rg560 pa561 p y97 := ⟨_, rfl⟩
                        rw [← eP645] at hW639 hI642
                        obtain ⟨rg651, eA643⟩ : ∃ q, q = xL rg560 p y97 := ⟨_, rfl⟩
                        rw [← eA643] at hW639 hI642
                        obtain ⟨rt652, eT646⟩ : ∃ q, q = xT rt563 p y97 := ⟨_, rfl⟩
                        rw [← eT646] at hW639 hI642
                        obtain ⟨lo653, elo647⟩ : ∃ q, q = va_up lo564 p (ps y97 + 1) := ⟨_, rfl⟩
                        rw [← elo647] at hI642
                        obtain ⟨hi654, ehi648⟩ : ∃ q, q = va_up hi565 y97 (hi565 p) := ⟨_, rfl⟩
                        rw [← ehi648] at hI642
                        have k655 : rg651 y97 = (some p) := by rw [eA643]; exact xL_r
                        have k656 : pa650 p = (some y97) := by rw [eP645]; exact xP_p
                        have k657 : lf649 y97 = (some y55) := by rw [eB644, xR_o (Ne.symm nx573) (so_ne k566 nx89)]; exact k566
                        have k658 : pa650 y55 = (some y97) := by rw [eP645, xP_o nx89 (Ne.symm nx249) (hI553.lr hm247 k566)]; exact k567
                        have nx659 : x ≠ p := (fn_ne k570 k576)
                        have k660 : lf649 x = none := by rw [eB644, xR_o nx659 (sn_ne k570)]; exact k570
                        have k661 : rg651 x = none := by rw [eA643, xL_o nx569 (sn_ne k572)]; exact k572
                        have k662 : pa650 x1 = (some p) := by rw [eP645, xP_o nx48 nx529 (fun z => nx573 (Option.some.inj (k574.symm.trans (hI553.mr hm247 z).2.1)))]; exact k574
                        have k663 : rg651 p = (some x1) := by rw [eA643, xL_o nx573 (so_ne k575 nx48)]; exact k575
                        have g664 : lo653 x1 ≤ ps x := by rw [elo647, zvn nx48]; exact g579
                        have g665 : ps x < hi654 x1 := by rw [ehi648, zvn nx529]; exact g580
                        refine z_aload_n C 1 rfl dJ4_fixAfterDeletion_337 rfl ?_
                        refine z_get C k_TM hW639.1 3 (by decide) rfl q162 dJ4_fixAfterDeletion_338 ?_
                        refine z_astore_nQ C (r := rt652) [(1, va_rf rt652), (2, .ref y97), (0, .ref t)] dJ4_fixAfterDeletion_341 rfl (by decide) rfl ?_
                        refine z_goto C 0 dJ4_fixAfterDeletion_342 (by decide) ?_
                        refine z_pick [(0, .ref t), (1, va_rf rt652)] [2, 0] rfl ?_
                        obtain ⟨r0666, hr667⟩ := hI642.rtm hlp_3
                        obtain ⟨hm668, hp669, -, -⟩ := hI642.2.1.1 r0666 hr667
                        have e670 : (va_rf rt652 : Value) = .ref r0666 := (congrArg va_rf hr667)
                        refine z_lv (lv' := [(0, .ref t), (1, .ref r0666)]) (by rw [e670]) ?_
                        exact hexit V637 rt652 lf649 rg651 pa650 cl629 lo653 hi654 r0666 hW639 hI642 hU641 hm668 hr667 k660 k661
                  · skip
                    have k671 : (cl1 y97) = true := zb1 c238
                    refine z_aload_n C 0 rfl dJ4_fixAfterDeletion_241 rfl ?_
                    refine z_callS C (As := [.ref y55]) (mJ4_leftOf (o := (some y55)) hlp_0 (oM hm87)) (lw_S q709 q710 q64 q711) hd_J4_leftOf rfl (Nat.le_of_ble_eq_true rfl) (by decide) (by decide) (by decide) (by decide) rfl dJ4_fixAfterDeletion_242 (fun _ _ h => h.elim) (fun r672 V673 hP674 => ?_)
                    rw [hP674.1, hP674.2]
                    refine z_st (st' := [va_rf (lf1 y55)]) rfl ?_
                    rcases hy676 : lf1 y55 with _ | y675
                    · skip
                      refine z_callS C (As := [.null]) (mJ4_colorOf (o := none) hlp_0 oN) (lw_S q703 q704 q64 q705) hd_J4_colorOf rfl (Nat.le_of_ble_eq_true rfl) (by decide) (by decide) (by decide) (by decide) rfl dJ4_fixAfterDeletion_245 (fun _ _ h => h.elim) (fun r677 V678 hP679 => ?_)
                      rw [hP679.1, hP679.2]
                      refine z_st (st' := [.int (zb true)]) rfl ?_
                      refine z_iconst C (v := (nI 1)) dJ4_fixAfterDeletion_248 rfl ?_
                      refine z_icmp_ne C 265 dJ4_fixAfterDeletion_249 (by decide) (fun c249 => ?_) (fun c249 => ?_)
                      · skip
                        have k680 : true = false := zb1f c249
                        cases k680
                      · skip
                        have k681 : true = true := zb1 c249
                        refine z_aload_n C 0 rfl dJ4_fixAfterDeletion_252 rfl ?_
                        refine z_iconst C (v := (nI 0)) dJ4_fixAfterDeletion_253 rfl ?_
                        refine z_st (st' := [.int (zb false), .ref y55]) rfl ?_
                        refine z_callS C (As := [.ref y55, .int (zb false)]) (mJ4_setColor (o := (some y55)) (c := false) hlp_0 (oM hm87)) (lw_S q715 q716 q64 q717) hd_J4_setColor rfl (Nat.le_of_ble_eq_true rfl) (by decide) (by decide) (by decide) (by decide) rfl dJ4_fixAfterDeletion_254 (fun _ _ h => h.elim) (fun r682 V683 hP684 => ?_)
                        obtain ⟨hW685, hU686⟩ := hP684
                        refine z_st (st' := []) rfl ?_
                        have hU687 := zUnc.tr (S := tC t L) hlp_2 hU686 (fun _ h => Or.inl h)
                        change tW _ _ _ _ _ _ _ (va_up cl1 y55 false) _ _ _ _ at hW685
                        obtain ⟨cl689, ec688⟩ : ∃ q, q = va_up cl1 y55 false := ⟨_, rfl⟩
                        rw [← ec688] at hW685
                        have k690 : cl689 y55 = false := by rw [ec688, zvs]
                        have nx691 : x1 ≠ y55 := (Ne.symm (tI.sib hlp_1 hm21 hy56 k45))
                        have k692 : cl689 x1 = true := by rw [ec688, zvn nx691]; exact k37
                        have k693 : cl689 y97 = true := by rw [ec688, zvn nx249]; exact k671
                        refine z_aload_n C 2 rfl dJ4_fixAfterDeletion_257 rfl ?_
                        refine z_callS C (As := [.ref x1]) (mJ4_parentOf (o := (some x1)) hW685 (oM hlp_3)) (lw_S q706 q707 q64 q708) hd_J4_parentOf rfl (Nat.le_of_ble_eq_true rfl) (by decide) (by decide) (by decide) (by decide) rfl dJ4_fixAfterDeletion_258 (fun _ _ h => h.elim) (fun r694 V695 hP696 => ?_)
                        rw [hP696.1, hP696.2]
                        refine z_st (st' := [va_rf (pa1 x1)]) rfl ?_
                        refine z_top (v := .ref p) (congrArg va_rf (show (pa1 x1) = (some p) from (by rw [hp]))) ?_
                        refine z_astore_n C [(1, .ref p), (2, .ref y55), (0, .ref t)] dJ4_fixAfterDeletion_261 rfl (by decide) rfl ?_
                        refine z_goto C 342 dJ4_fixAfterDeletion_262 (by decide) ?_
                        refine z_goto C 0 dJ4_fixAfterDeletion_342 (by decide) ?_
                        refine z_pick [(0, .ref t), (1, .ref p)] [2, 0] rfl ?_
                        have q1 := (hlp_1.mp hlp_3 hp).2
                        exact ih_lp V683 rt1 lf1 rg1 pa1 cl689 lo1 hi1 p hW685 hlp_1 hU687 hm21 hlp_4 hlp_5 (Nat.le_trans (hlp_1.le hlp_3 hp).1 hlp_6) (Nat.lt_of_lt_of_le hlp_7 (hlp_1.le hlp_3 hp).2) (by omega)
                    · skip
                      obtain ⟨hm697, hp698, nx699⟩ := hlp_1.ml hm87 hy676
                      refine z_callS C (As := [.ref y675]) (mJ4_colorOf (o := (some y675)) hlp_0 (oM hm697)) (lw_S q703 q704 q64 q705) hd_J4_colorOf rfl (Nat.le_of_ble_eq_true rfl) (by decide) (by decide) (by decide) (by decide) rfl dJ4_fixAfterDeletion_245 (fun _ _ h => h.elim) (fun r700 V701 hP702 => ?_)
                      rw [hP702.1, hP702.2]
                      refine z_st (st' := [.int (zb (cl1 y675))]) rfl ?_
                      refine z_iconst C (v := (nI 1)) dJ4_fixAfterDeletion_248 rfl ?_
                      refine z_icmp_ne C 265 dJ4_fixAfterDeletion_249 (by decide) (fun c249 => ?_) (fun c249 => ?_)
                      · skip
                        have k703 : (cl1 y675) = false := zb1f c249
                        refine z_aload_n C 0 rfl dJ4_fixAfterDeletion_265 rfl ?_
                        refine z_callS C (As := [.ref y55]) (mJ4_leftOf (o := (some y55)) hlp_0 (oM hm87)) (lw_S q709 q710 q64 q711) hd_J4_leftOf rfl (Nat.le_of_ble_eq_true rfl) (by decide) (by decide) (by decide) (by decide) rfl dJ4_fixAfterDeletion_266 (fun _ _ h => h.elim) (fun r704 V705 hP706 => ?_)
                        rw [hP706.1, hP706.2]
                        refine z_st (st' := [va_rf (lf1 y55)]) rfl ?_
                        refine z_top (v := .ref y675) (congrArg va_rf (show (lf1 y55) = (some y675) from (by rw [hy676]))) ?_
                        refine z_callS C (As := [.ref y675]) (mJ4_colorOf (o := (some y675)) hlp_0 (oM hm697)) (lw_S q703 q704 q64 q705) hd_J4_colorOf rfl (Nat.le_of_ble_eq_true rfl) (by decide) (by decide) (by decide) (by decide) rfl dJ4_fixAfterDeletion_269 (fun _ _ h => h.elim) (fun r707 V708 hP709 => ?_)
                        rw [hP709.1, hP709.2]
                        refine z_st (st' := [.int (zb (cl1 y675))]) rfl ?_
                        refine z_top (v := .int (zb false)) (congrArg (fun c => Value.int (zb c)) (show (cl1 y675) = false from (by rw [k703]))) ?_
                        refine z_iconst C (v := (nI 1)) dJ4_fixAfterDeletion_272 rfl ?_
                        refine z_icmp_ne C 302 dJ4_fixAfterDeletion_273 (by decide) (fun c273 => ?_) (fun c273 => ?_)
                        · skip
                          have k710 : false = false := zb1f c273
                          refine z_aload_n C 0 rfl dJ4_fixAfterDeletion_302 rfl ?_
                          refine z_aload_n C 2 rfl dJ4_fixAfterDeletion_303 rfl ?_
                          refine z_callS C (As := [.ref x1]) (mJ4_parentOf (o := (some x1)) hlp_0 (oM hlp_3)) (lw_S q706 q707 q64 q708) hd_J4_parentOf rfl (Nat.le_of_ble_eq_true rfl) (by decide) (by decide) (by decide) (by decide) rfl dJ4_fixAfterDeletion_304 (fun _ _ h => h.elim) (fun r711 V712 hP713 => ?_)
                          rw [hP713.1, hP713.2]
                          refine z_st (st' := [va_rf (pa1 x1), .ref y55]) rfl ?_
                          refine z_top (v := .ref p) (congrArg va_rf (show (pa1 x1) = (some p) from (by rw [hp]))) ?_
                          refine z_callS C (As := [.ref p]) (mJ4_colorOf (o := (some p)) hlp_0 (oM hm21)) (lw_S q703 q704 q64 q705) hd_J4_colorOf rfl (Nat.le_of_ble_eq_true rfl) (by decide) (by decide) (by decide) (by decide) rfl dJ4_fixAfterDeletion_307 (fun _ _ h => h.elim) (fun r714 V715 hP716 => ?_)
                          rw [hP716.1, hP716.2]
                          refine z_st (st' := [.int (zb (cl1 p)), .ref y55]) rfl ?_
                          refine z_callS C (As := [.ref y55, .int (zb (cl1 p))]) (mJ4_setColor (o := (some y55)) (c := (cl1 p)) hlp_0 (oM hm87)) (lw_S q715 q716 q64 q717) hd_J4_setColor rfl (Nat.le_of_ble_eq_true rfl) (by decide) (by decide) (by decide) (by decide) rfl dJ4_fixAfterDeletion_310 (fun _ _ h => h.elim) (fun r717 V718 hP719 => ?_)
                          obtain ⟨hW720, hU721⟩ := hP719
                          refine z_st (st' := []) rfl ?_
                          have hU722 := zUnc.tr (S := tC t L) hlp_2 hU721 (fun _ h => Or.inl h)
                          change tW _ _ _ _ _ _ _ (va_up cl1 y55 (cl1 p)) _ _ _ _ at hW720
                          obtain ⟨cl724, ec723⟩ : ∃ q, q = va_up cl1 y55 (cl1 p) := ⟨_, rfl⟩
                          rw [← ec723] at hW720
                          have k725 : cl724 y55 = (cl1 p) := by rw [ec723, zvs]
                          have nx726 : x1 ≠ y55 := (Ne.symm (tI.sib hlp_1 hm21 hy56 k45))
                          have k727 : cl724 x1 = true := by rw [ec723, zvn nx726]; exact k37
                          have k728 : cl724 y97 = true := by rw [ec723, zvn nx249]; exact k671
                          have k729 : cl724 y675 = false := by rw [ec723, zvn nx699]; exact k703
                          refine z_aload_n C 2 rfl dJ4_fixAfterDeletion_313 rfl ?_
                          refine z_callS C (As := [.ref x1]) (mJ4_parentOf (o := (some x1)) hW720 (oM hlp_3)) (lw_S q706 q707 q64 q708) hd_J4_parentOf rfl (Nat.le_of_ble_eq_true rfl) (by decide) (by decide) (by decide) (by decide) rfl dJ4_fixAfterDeletion_314 (fun _ _ h => h.elim) (fun r730 V731 hP732 => ?_)
                          rw [hP732.1, hP732.2]
                          refine z_st (st' := [va_rf (pa1 x1)]) rfl ?_
                          refine z_top (v := .ref p) (congrArg va_rf (show (pa1 x1) = (some p) from (by rw [hp]))) ?_
                          refine z_iconst C (v := (nI 1)) dJ4_fixAfterDeletion_317 rfl ?_
                          refine z_st (st' := [.int (zb true), .ref p]) rfl ?_
                          refine z_callS C (As := [.ref p, .int (zb true)]) (mJ4_setColor (o := (some p)) (c := true) hW720 (oM hm21)) (lw_S q715 q716 q64 q717) hd_J4_setColor rfl (Nat.le_of_ble_eq_true rfl) (by decide) (by decide) (by decide) (by decide) rfl dJ4_fixAfterDeletion_318 (fun _ _ h => h.elim) (fun r733 V734 hP735 => ?_)
                          obtain ⟨hW736, hU737⟩ := hP735
                          refine z_st (st' := []) rfl ?_
                          have hU738 := zUnc.tr (S := tC t L) hU722 hU737 (fun _ h => Or.inl h)
                          change tW _ _ _ _ _ _ _ (va_up cl724 p true) _ _ _ _ at hW736
                          obtain ⟨cl740, ec739⟩ : ∃ q, q = va_up cl724 p true := ⟨_, rfl⟩
                          rw [← ec739] at hW736
                          have k741 : cl740 p = true := by rw [ec739, zvs]
                          have k742 : cl740 x1 = true := by rw [ec739, zvn nx48]; exact k727
                          have nx743 : y97 ≠ p := (tI.gg hlp_1 hm247 hp248 hm87 hp88)
                          have k744 : cl740 y97 = true := by rw [ec739, zvn nx743]; exact k728
                          have nx745 : y675 ≠ p := (tI.gg hlp_1 hm697 hp698 hm87 hp88)
                          have k746 : cl740 y675 = false := by rw [ec739, zvn nx745]; exact k729
                          refine z_aload_n C 0 rfl dJ4_fixAfterDeletion_321 rfl ?_
                          refine z_callS C (As := [.ref y55]) (mJ4_leftOf (o := (some y55)) hW736 (oM hm87)) (lw_S q709 q710 q64 q711) hd_J4_leftOf rfl (Nat.le_of_ble_eq_true rfl) (by decide) (by decide) (by decide) (by decide) rfl dJ4_fixAfterDeletion_322 (fun _ _ h => h.elim) (fun r747 V748 hP749 => ?_)
                          rw [hP749.1, hP749.2]
                          refine z_st (st' := [va_rf (lf1 y55)]) rfl ?_
                          refine z_top (v := .ref y675) (congrArg va_rf (show (lf1 y55) = (some y675) from (by rw [hy676]))) ?_
                          refine z_iconst C (v := (nI 1)) dJ4_fixAfterDeletion_325 rfl ?_
                          refine z_st (st' := [.int (zb true), .ref y675]) rfl ?_
                          refine z_callS C (As := [.ref y675, .int (zb true)]) (mJ4_setColor (o := (some y675)) (c := true) hW736 (oM hm697)) (lw_S q715 q716 q64 q717) hd_J4_setColor rfl (Nat.le_of_ble_eq_true rfl) (by decide) (by decide) (by decide) (by decide) rfl dJ4_fixAfterDeletion_326 (fun _ _ h => h.elim) (fun r750 V751 hP752 => ?_)
                          obtain ⟨hW753, hU754⟩ := hP752
                          refine z_st (st' := []) rfl ?_
                          have hU755 := zUnc.tr (S := tC t L) hU738 hU754 (fun _ h => Or.inl h)
                          change tW _ _ _ _ _ _ _ (va_up cl740 y675 true) _ _ _ _ at hW753
                          obtain ⟨cl757, ec756⟩ : ∃ q, q = va_up cl740 y675 true := ⟨_, rfl⟩
                          rw [← ec756] at hW753
                          have k758 : cl757 y675 = true := by rw [ec756, zvs]
                          have k759 : cl757 p = true := by rw [ec756, zvn (Ne.symm nx745)]; exact k741
                          have nx760 : x1 ≠ y675 := (ne_pa hp hp698 (Ne.symm nx89))
                          have k761 : cl757 x1 = true := by rw [ec756, zvn nx760]; exact k742
                          have nx762 : y97 ≠ y675 := (Ne.symm (tI.sib hlp_1 hm87 hy676 hy98))
                          have k763 : cl757 y97 = true := by rw [ec756, zvn nx762]; exact k744
                          refine z_aload_n C 1 rfl dJ4_fixAfterDeletion_329 rfl ?_
                          refine z_aload_n C 2 rfl dJ4_fixAfterDeletion_330 rfl ?_
                          refine z_callS C (As := [.ref x1]) (mJ4_parentOf (o := (some x1)) hW753 (oM hlp_3)) (lw_S q706 q707 q64 q708) hd_J4_parentOf rfl (Nat.le_of_ble_eq_true rfl) (by decide) (by decide) (by decide) (by decide) rfl dJ4_fixAfterDeletion_331 (fun _ _ h => h.elim) (fun r764 V765 hP766 => ?_)
                          rw [hP766.1, hP766.2]
                          refine z_st (st' := [va_rf (pa1 x1), .ref t]) rfl ?_
                          refine z_top (v := .ref p) (congrArg va_rf (show (pa1 x1) = (some p) from (by rw [hp]))) ?_
                          refine z_callV C k_TM hW753.1 (As := [.ref p]) (mJ4_rotateRight hW753 hlp_1 hm21 hy56) (lw_V q722 q724 qs9 q64 q725) rfl hd_J4_rotateRight rfl (Nat.le_of_ble_eq_true rfl) (by decide) (by decide) (by decide) (by decide) rfl dJ4_fixAfterDeletion_334 (fun _ _ h => h.elim) (fun r767 V768 hP769 => ?_)
                          obtain ⟨hW770, hU771⟩ := hP769
                          refine z_st (st' := []) rfl ?_
                          have hU772 := zUnc.tr (S := tC t L) hU755 hU771 (fun _ h => Or.inl h)
                          have hI773 := tI_rotR hlp_1 hm21 hy56
                          obtain ⟨lf780, eB775⟩ : ∃ q, q = xR rg1 lf1 p y55 := ⟨_, rfl⟩
                          rw [← eB775] at hW770 hI773
                          obtain ⟨pa781, eP776⟩ : ∃ q, q = xP rg1 pa1 p y55 := ⟨_, rfl⟩
                          rw [← eP776] at hW770 hI773
                          obtain ⟨rg782, eA774⟩ : ∃ q, q = xL rg1 p y55 := ⟨_, rfl⟩
                          rw [← eA774] at hW770 hI773
                          obtain ⟨rt783, eT777⟩ : ∃ q, q = xT rt1 p y55 := ⟨_, rfl⟩
                          rw [← eT777] at hW770 hI773
                          obtain ⟨lo784, elo778⟩ : ∃ q, q = va_up lo1 p (ps y55 + 1) := ⟨_, rfl⟩
                          rw [← elo778] at hI773
                          obtain ⟨hi785, ehi779⟩ : ∃ q, q = va_up hi1 y55 (hi1 p) := ⟨_, rfl⟩
                          rw [← ehi779] at hI773
                          have k786 : rg782 y55 = (some p) := by rw [eA774]; exact xL_r
                          have k787 : pa781 p = (some y55) := by rw [eP776]; exact xP_p
                          have k788 : lf780 p = (some y97) := by rw [eB775, xR_p]; exact hy98
                          have nx789 : x ≠ p := (fn_ne hlp_4 hy56)
                          have k790 : lf780 x = none := by rw [eB775, xR_o nx789 (sn_ne hlp_4)]; exact hlp_4
                          have nx791 : x ≠ y55 := (fn_ne hlp_4 hy676)
                          have k792 : rg782 x = none := by rw [eA774, xL_o nx791 (sn_ne hlp_5)]; exact hlp_5
                          have nx793 : y97 ≠ x1 := (ne_pa hp248 hp nx89)
                          have k794 : pa781 x1 = (some p) := by rw [eP776, xP_o nx48 nx726 (so_ne hy98 nx793)]; exact hp
                          have k795 : rg782 p = (some x1) := by rw [eA774, xL_o (Ne.symm nx89) (so_ne k45 nx48)]; exact k45
                          have k796 : pa781 y97 = (some p) := by rw [eP776]; exact xP_c nx743 nx249 hy98
                          have k797 : lf780 y55 = (some y675) := by rw [eB775, xR_o nx89 (so_ne hy676 nx745)]; exact hy676
                          have k798 : pa781 y675 = (some y55) := by rw [eP776, xP_o nx745 nx699 (so_ne hy98 nx762)]; exact hp698
                          have g799 : lo784 x1 ≤ ps x := by rw [elo778, zvn nx48]; exact hlp_6
                          have g800 : ps x < hi785 x1 := by rw [ehi779, zvn nx726]; exact hlp_7
                          refine z_aload_n C 1 rfl dJ4_fixAfterDeletion_337 rfl ?_
                          refine z_get C k_TM hW770.1 3 (by decide) rfl q162 dJ4_fixAfterDeletion_338 ?_
                          refine z_astore_nQ C (r := rt783) [(1, va_rf rt783), (2, .ref y55), (0, .ref t)] dJ4_fixAfterDeletion_341 rfl (by decide) rfl ?_
                          refine z_goto C 0 dJ4_fixAfterDeletion_342 (by decide) ?_
                          refine z_pick [(0, .ref t), (1, va_rf rt783)] [2, 0] rfl ?_
                          obtain ⟨r0801, hr802⟩ := hI773.rtm hlp_3
                          obtain ⟨hm803, hp804, -, -⟩ := hI773.2.1.1 r0801 hr802
                          have e805 : (va_rf rt783 : Value) = .ref r0801 := (congrArg va_rf hr802)
                          refine z_lv (lv' := [(0, .ref t), (1, .ref r0801)]) (by rw [e805]) ?_
                          exact hexit V768 rt783 lf780 rg782 pa781 cl757 lo784 hi785 r0801 hW770 hI773 hU772 hm803 hr802 k790 k792
                        · skip
                          have k806 : false = true := zb1 c273
                          cases k806
                      · skip
                        have k807 : (cl1 y675) = true := zb1 c249
                        refine z_aload_n C 0 rfl dJ4_fixAfterDeletion_252 rfl ?_
                        refine z_iconst C (v := (nI 0)) dJ4_fixAfterDeletion_253 rfl ?_
                        refine z_st (st' := [.int (zb false), .ref y55]) rfl ?_
                        refine z_callS C (As := [.ref y55, .int (zb false)]) (mJ4_setColor (o := (some y55)) (c := false) hlp_0 (oM hm87)) (lw_S q715 q716 q64 q717) hd_J4_setColor rfl (Nat.le_of_ble_eq_true rfl) (by decide) (by decide) (by decide) (by decide) rfl dJ4_fixAfterDeletion_254 (fun _ _ h => h.elim) (fun r808 V809 hP810 => ?_)
                        obtain ⟨hW811, hU812⟩ := hP810
                        refine z_st (st' := []) rfl ?_
                        have hU813 := zUnc.tr (S := tC t L) hlp_2 hU812 (fun _ h => Or.inl h)
                        change tW _ _ _ _ _ _ _ (va_up cl1 y55 false) _ _ _ _ at hW811
                        obtain ⟨cl815, ec814⟩ : ∃ q, q = va_up cl1 y55 false := ⟨_, rfl⟩
                        rw [← ec814] at hW811
                        have k816 : cl815 y55 = false := by rw [ec814, zvs]
                        have nx817 : x1 ≠ y55 := (Ne.symm (tI.sib hlp_1 hm21 hy56 k45))
                        have k818 : cl815 x1 = true := by rw [ec814, zvn nx817]; exact k37
                        have k819 : cl815 y97 = true := by rw [ec814, zvn nx249]; exact k671
                        have k820 : cl815 y675 = true := by rw [ec814, zvn nx699]; exact k807
                        refine z_aload_n C 2 rfl dJ4_fixAfterDeletion_257 rfl ?_
                        refine z_callS C (As := [.ref x1]) (mJ4_parentOf (o := (some x1)) hW811 (oM hlp_3)) (lw_S q706 q707 q64 q708) hd_J4_parentOf rfl (Nat.le_of_ble_eq_true rfl) (by decide) (by decide) (by decide) (by decide) rfl dJ4_fixAfterDeletion_258 (fun _ _ h => h.elim) (fun r821 V822 hP823 => ?_)
                        rw [hP823.1, hP823.2]
                        refine z_st (st' := [va_rf (pa1 x1)]) rfl ?_
                        refine z_top (v := .ref p) (congrArg va_rf (show (pa1 x1) = (some p) from (by rw [hp]))) ?_
                        refine z_astore_n C [(1, .ref p), (2, .ref y55), (0, .ref t)] dJ4_fixAfterDeletion_261 rfl (by decide) rfl ?_
                        refine z_goto C 342 dJ4_fixAfterDeletion_262 (by decide) ?_
                        refine z_goto C 0 dJ4_fixAfterDeletion_342 (by decide) ?_
                        refine z_pick [(0, .ref t), (1, .ref p)] [2, 0] rfl ?_
                        have q1 := (hlp_1.mp hlp_3 hp).2
                        exact ih_lp V809 rt1 lf1 rg1 pa1 cl815 lo1 hi1 p hW811 hlp_1 hU813 hm21 hlp_4 hlp_5 (Nat.le_trans (hlp_1.le hlp_3 hp).1 hlp_6) (Nat.lt_of_lt_of_le hlp_7 (hlp_1.le hlp_3 hp).2) (by omega)
              · skip
                have k824 : (cl1 y55) = false := c198
                refine z_aload_n C 0 rfl dJ4_fixAfterDeletion_201 rfl ?_
                refine z_iconst C (v := (nI 1)) dJ4_fixAfterDeletion_202 rfl ?_
                refine z_st (st' := [.int (zb true), .ref y55]) rfl ?_
                refine z_callS C (As := [.ref y55, .int (zb true)]) (mJ4_setColor (o := (some y55)) (c := true) hlp_0 (oM hm87)) (lw_S q715 q716 q64 q717) hd_J4_setColor rfl (Nat.le_of_ble_eq_true rfl) (by decide) (by decide) (by decide) (by decide) rfl dJ4_fixAfterDeletion_203 (fun _ _ h => h.elim) (fun r825 V826 hP827 => ?_)
                obtain ⟨hW828, hU829⟩ := hP827
                refine z_st (st' := []) rfl ?_
                have hU830 := zUnc.tr (S := tC t L) hlp_2 hU829 (fun _ h => Or.inl h)
                change tW _ _ _ _ _ _ _ (va_up cl1 y55 true) _ _ _ _ at hW828
                obtain ⟨cl832, ec831⟩ : ∃ q, q = va_up cl1 y55 true := ⟨_, rfl⟩
                rw [← ec831] at hW828
                have k833 : cl832 y55 = true := by rw [ec831, zvs]
                have nx834 : x1 ≠ y55 := (Ne.symm (tI.sib hlp_1 hm21 hy56 k45))
                have k835 : cl832 x1 = true := by rw [ec831, zvn nx834]; exact k37
                refine z_aload_n C 2 rfl dJ4_fixAfterDeletion_206 rfl ?_
                refine z_callS C (As := [.ref x1]) (mJ4_parentOf (o := (some x1)) hW828 (oM hlp_3)) (lw_S q706 q707 q64 q708) hd_J4_parentOf rfl (Nat.le_of_ble_eq_true rfl) (by decide) (by decide) (by decide) (by decide) rfl dJ4_fixAfterDeletion_207 (fun _ _ h => h.elim) (fun r836 V837 hP838 => ?_)
                rw [hP838.1, hP838.2]
                refine z_st (st' := [va_rf (pa1 x1)]) rfl ?_
                refine z_top (v := .ref p) (congrArg va_rf (show (pa1 x1) = (some p) from (by rw [hp]))) ?_
                refine z_iconst C (v := (nI 0)) dJ4_fixAfterDeletion_210 rfl ?_
                refine z_st (st' := [.int (zb false), .ref p]) rfl ?_
                refine z_callS C (As := [.ref p, .int (zb false)]) (mJ4_setColor (o := (some p)) (c := false) hW828 (oM hm21)) (lw_S q715 q716 q64 q717) hd_J4_setColor rfl (Nat.le_of_ble_eq_true rfl) (by decide) (by decide) (by decide) (by decide) rfl dJ4_fixAfterDeletion_211 (fun _ _ h => h.elim) (fun r839 V840 hP841 => ?_)
                obtain ⟨hW842, hU843⟩ := hP841
                refine z_st (st' := []) rfl ?_
                have hU844 := zUnc.tr (S := tC t L) hU830 hU843 (fun _ h => Or.inl h)
                change tW _ _ _ _ _ _ _ (va_up cl832 p false) _ _ _ _ at hW842
                obtain ⟨cl846, ec845⟩ : ∃ q, q = va_up cl832 p false := ⟨_, rfl⟩
                rw [← ec845] at hW842
                have k847 : cl846 p = false := by rw [ec845, zvs]
                have k848 : cl846 y55 = true := by rw [ec845, zvn nx89]; exact k833
                have k849 : cl846 x1 = true := by rw [ec845, zvn nx48]; exact k835
                refine z_aload_n C 1 rfl dJ4_fixAfterDeletion_214 rfl ?_
                refine z_aload_n C 2 rfl dJ4_fixAfterDeletion_215 rfl ?_
                refine z_callS C (As := [.ref x1]) (mJ4_parentOf (o := (some x1)) hW842 (oM hlp_3)) (lw_S q706 q707 q64 q708) hd_J4_parentOf rfl (Nat.le_of_ble_eq_true rfl) (by decide) (by decide) (by decide) (by decide) rfl dJ4_fixAfterDeletion_216 (fun _ _ h => h.elim) (fun r850 V851 hP852 => ?_)
                rw [hP852.1, hP852.2]
                refine z_st (st' := [va_rf (pa1 x1), .ref t]) rfl ?_
                refine z_top (v := .ref p) (congrArg va_rf (show (pa1 x1) = (some p) from (by rw [hp]))) ?_
                refine z_callV C k_TM hW842.1 (As := [.ref p]) (mJ4_rotateRight hW842 hlp_1 hm21 hy56) (lw_V q722 q724 qs9 q64 q725) rfl hd_J4_rotateRight rfl (Nat.le_of_ble_eq_true rfl) (by decide) (by decide) (by decide) (by decide) rfl dJ4_fixAfterDeletion_219 (fun _ _ h => h.elim) (fun r853 V854 hP855 => ?_)
                obtain ⟨hW856, hU857⟩ := hP855
                refine z_st (st' := []) rfl ?_
                have hU858 := zUnc.tr (S := tC t L) hU844 hU857 (fun _ h => Or.inl h)
                have hI859 := tI_rotR hlp_1 hm21 hy56
                obtain ⟨lf866, eB861⟩ : ∃ q, q = xR rg1 lf1 p y55 := ⟨_, rfl⟩
                rw [← eB861] at hW856 hI859
                obtain ⟨pa867, eP862⟩ : ∃ q, q = xP rg1 pa1 p y55 := ⟨_, rfl⟩
                rw [← eP862] at hW856 hI859
                obtain ⟨rg868, eA860⟩ : ∃ q, q = xL rg1 p y55 := ⟨_, rfl⟩
                rw [← eA860] at hW856 hI859
                obtain ⟨rt869, eT863⟩ : ∃ q, q = xT rt1 p y55 := ⟨_, rfl⟩
                rw [← eT863] at hW856 hI859
                obtain ⟨lo870, elo864⟩ : ∃ q, q = va_up lo1 p (ps y55 + 1) := ⟨_, rfl⟩
                rw [← elo864] at hI859
                obtain ⟨hi871, ehi865⟩ : ∃ q, q = va_up hi1 y55 (hi1 p) := ⟨_, rfl⟩
                rw [← ehi865] at hI859
                have k872 : rg868 y55 = (some p) := by rw [eA860]; exact xL_r
                have k873 : pa867 p = (some y55) := by rw [eP862]; exact xP_p
                have nx874 : x ≠ p := (fn_ne hlp_4 hy56)
                have k875 : lf866 x = none := by rw [eB861, xR_o nx874 (sn_ne hlp_4)]; exact hlp_4
                have nx876 : x ≠ y55 := (hlp_1.fR hm21 k45 hy56 hlp_6 hm87 (Nat.le_refl _))
                have k877 : rg868 x = none := by rw [eA860, xL_o nx876 (sn_ne hlp_5)]; exact hlp_5
                have k878 : pa867 x1 = (some p) := by rw [eP862, xP_o nx48 nx834 (fun z => (Ne.symm nx89) (Option.some.inj (hp.symm.trans (hlp_1.mr hm87 z).2.1)))]; exact hp
                have k879 : rg868 p = (some x1) := by rw [eA860, xL_o (Ne.symm nx89) (so_ne k45 nx48)]; exact k45
                have g880 : lo870 x1 ≤ ps x := by rw [elo864, zvn nx48]; exact hlp_6
                have g881 : ps x < hi871 x1 := by rw [ehi865, zvn nx834]; exact hlp_7
                refine z_aload_n C 2 rfl dJ4_fixAfterDeletion_222 rfl ?_
                refine z_callS C (As := [.ref x1]) (mJ4_parentOf (o := (some x1)) hW856 (oM hlp_3)) (lw_S q706 q707 q64 q708) hd_J4_parentOf rfl (Nat.le_of_ble_eq_true rfl) (by decide) (by decide) (by decide) (by decide) rfl dJ4_fixAfterDeletion_223 (fun _ _ h => h.elim) (fun r882 V883 hP884 => ?_)
                rw [hP884.1, hP884.2]
                refine z_st (st' := [va_rf (pa867 x1)]) rfl ?_
                refine z_top (v := .ref p) (congrArg va_rf (show (pa867 x1) = (some p) from (by rw [k878]))) ?_
                refine z_callS C (As := [.ref p]) (mJ4_leftOf (o := (some p)) hW856 (oM hm21)) (lw_S q709 q710 q64 q711) hd_J4_leftOf rfl (Nat.le_of_ble_eq_true rfl) (by decide) (by decide) (by decide) (by decide) rfl dJ4_fixAfterDeletion_226 (fun _ _ h => h.elim) (fun r885 V886 hP887 => ?_)
                rw [hP887.1, hP887.2]
                refine z_st (st' := [va_rf (lf866 p)]) rfl ?_
                refine z_astore_nQ C (r := (lf866 p)) [(2, va_rf (lf866 p)), (0, .ref t), (1, .ref x1)] dJ4_fixAfterDeletion_229 rfl (by decide) rfl ?_
                refine z_aload_nQ C 0 (r := (lf866 p)) rfl dJ4_fixAfterDeletion_230 rfl ?_
                rcases hy889 : lf866 p with _ | y888
                · skip
                  refine z_callS C (As := [.null]) (mJ4_rightOf (o := none) hW856 oN) (lw_S q712 q713 q64 q714) hd_J4_rightOf rfl (Nat.le_of_ble_eq_true rfl) (by decide) (by decide) (by decide) (by decide) rfl dJ4_fixAfterDeletion_231 (fun _ _ h => h.elim) (fun r890 V891 hP892 => ?_)
                  rw [hP892.1, hP892.2]
                  refine z_st (st' := [.null]) rfl ?_
                  refine z_callS C (As := [.null]) (mJ4_colorOf (o := none) hW856 oN) (lw_S q703 q704 q64 q705) hd_J4_colorOf rfl (Nat.le_of_ble_eq_true rfl) (by decide) (by decide) (by decide) (by decide) rfl dJ4_fixAfterDeletion_234 (fun _ _ h => h.elim) (fun r893 V894 hP895 => ?_)
                  rw [hP895.1, hP895.2]
                  refine z_st (st' := [.int (zb true)]) rfl ?_
                  refine z_iconst C (v := (nI 1)) dJ4_fixAfterDeletion_237 rfl ?_
                  refine z_icmp_ne C 265 dJ4_fixAfterDeletion_238 (by decide) (fun c238 => ?_) (fun c238 => ?_)
                  · skip
                    have k896 : true = false := zb1f c238
                    cases k896
                  · skip
                    have k897 : true = true := zb1 c238
                    refine z_aload_nQ C 0 (r := none) rfl dJ4_fixAfterDeletion_241 rfl ?_
                    refine z_callS C (As := [.null]) (mJ4_leftOf (o := none) hW856 oN) (lw_S q709 q710 q64 q711) hd_J4_leftOf rfl (Nat.le_of_ble_eq_true rfl) (by decide) (by decide) (by decide) (by decide) rfl dJ4_fixAfterDeletion_242 (fun _ _ h => h.elim) (fun r898 V899 hP900 => ?_)
                    rw [hP900.1, hP900.2]
                    refine z_st (st' := [.null]) rfl ?_
                    refine z_callS C (As := [.null]) (mJ4_colorOf (o := none) hW856 oN) (lw_S q703 q704 q64 q705) hd_J4_colorOf rfl (Nat.le_of_ble_eq_true rfl) (by decide) (by decide) (by decide) (by decide) rfl dJ4_fixAfterDeletion_245 (fun _ _ h => h.elim) (fun r901 V902 hP903 => ?_)
                    rw [hP903.1, hP903.2]
                    refine z_st (st' := [.int (zb true)]) rfl ?_
                    refine z_iconst C (v := (nI 1)) dJ4_fixAfterDeletion_248 rfl ?_
                    refine z_icmp_ne C 265 dJ4_fixAfterDeletion_249 (by decide) (fun c249 => ?_) (fun c249 => ?_)
                    · skip
                      have k904 : true = false := zb1f c249
                      cases k904
                    · skip
                      have k905 : true = true := zb1 c249
                      refine z_aload_nQ C 0 (r := none) rfl dJ4_fixAfterDeletion_252 rfl ?_
                      refine z_iconst C (v := (nI 0)) dJ4_fixAfterDeletion_253 rfl ?_
                      refine z_st (st' := [.int (zb false), .null]) rfl ?_
                      refine z_callS C (As := [.null, .int (zb false)]) (mJ4_setColor (o := none) (c := false) hW856 oN) (lw_S q715 q716 q64 q717) hd_J4_setColor rfl (Nat.le_of_ble_eq_true rfl) (by decide) (by decide) (by decide) (by decide) rfl dJ4_fixAfterDeletion_254 (fun _ _ h => h.elim) (fun r906 V907 hP908 => ?_)
                      obtain ⟨hW909, hU910⟩ := hP908
                      refine z_st (st' := []) rfl ?_
                      have hU911 := zUnc.tr (S := tC t L) hU858 hU910 (fun _ h => Or.inl h)
                      change tW _ _ _ _ _ _ _ cl846 _ _ _ _ at hW909
                      refine z_aload_n C 2 rfl dJ4_fixAfterDeletion_257 rfl ?_
                      refine z_callS C (As := [.ref x1]) (mJ4_parentOf (o := (some x1)) hW909 (oM hlp_3)) (lw_S q706 q707 q64 q708) hd_J4_parentOf rfl (Nat.le_of_ble_eq_true rfl) (by decide) (by decide) (by decide) (by decide) rfl dJ4_fixAfterDeletion_258 (fun _ _ h => h.elim) (fun r912 V913 hP914 => ?_)
                      rw [hP914.1, hP914.2]
                      refine z_st (st' := [va_rf (pa867 x1)]) rfl ?_
                      refine z_top (v := .ref p) (congrArg va_rf (show (pa867 x1) = (some p) from (by rw [k878]))) ?_
                      refine z_astore_n C [(1, .ref p), (2, .null), (0, .ref t)] dJ4_fixAfterDeletion_261 rfl (by decide) rfl ?_
                      refine z_goto C 342 dJ4_fixAfterDeletion_262 (by decide) ?_
                      refine z_goto C 0 dJ4_fixAfterDeletion_342 (by decide) ?_
                      refine z_pick [(0, .ref t), (1, .ref p)] [2, 0] rfl ?_
                      have q1 := (hI859.mp hlp_3 k878).2
                      have qa := congrFun elo864 x1
                      rw [zvn nx48] at qa
                      have qb := congrFun ehi865 x1
                      rw [zvn nx834] at qb
                      exact ih_lp V907 rt869 lf866 rg868 pa867 cl846 lo870 hi871 p hW909 hI859 hU911 hm21 k875 k877 (Nat.le_trans (hI859.le hlp_3 k878).1 g880) (Nat.lt_of_lt_of_le g881 (hI859.le hlp_3 k878).2) (by omega)
                · skip
                  obtain ⟨hm915, hp916, nx917⟩ := hI859.ml hm21 hy889
                  refine z_callS C (As := [.ref y888]) (mJ4_rightOf (o := (some y888)) hW856 (oM hm915)) (lw_S q712 q713 q64 q714) hd_J4_rightOf rfl (Nat.le_of_ble_eq_true rfl) (by decide) (by decide) (by decide) (by decide) rfl dJ4_fixAfterDeletion_231 (fun _ _ h => h.elim) (fun r918 V919 hP920 => ?_)
                  rw [hP920.1, hP920.2]
                  refine z_st (st' := [va_rf (rg868 y888)]) rfl ?_
                  rcases hy922 : rg868 y888 with _ | y921
                  · skip
                    refine z_callS C (As := [.null]) (mJ4_colorOf (o := none) hW856 oN) (lw_S q703 q704 q64 q705) hd_J4_colorOf rfl (Nat.le_of_ble_eq_true rfl) (by decide) (by decide) (by decide) (by decide) rfl dJ4_fixAfterDeletion_234 (fun _ _ h => h.elim) (fun r923 V924 hP925 => ?_)
                    rw [hP925.1, hP925.2]
                    refine z_st (st' := [.int (zb true)]) rfl ?_
                    refine z_iconst C (v := (nI 1)) dJ4_fixAfterDeletion_237 rfl ?_
                    refine z_icmp_ne C 265 dJ4_fixAfterDeletion_238 (by decide) (fun c238 => ?_) (fun c238 => ?_)
                    · skip
                      have k926 : true = false := zb1f c238
                      cases k926
                    · skip
                      have k927 : true = true := zb1 c238
                      refine z_aload_n C 0 rfl dJ4_fixAfterDeletion_241 rfl ?_
                      refine z_callS C (As := [.ref y888]) (mJ4_leftOf (o := (some y888)) hW856 (oM hm915)) (lw_S q709 q710 q64 q711) hd_J4_leftOf rfl (Nat.le_of_ble_eq_true rfl) (by decide) (by decide) (by decide) (by decide) rfl dJ4_fixAfterDeletion_242 (fun _ _ h => h.elim) (fun r928 V929 hP930 => ?_)
                      rw [hP930.1, hP930.2]
                      refine z_st (st' := [va_rf (lf866 y888)]) rfl ?_
                      rcases hy932 : lf866 y888 with _ | y931
                      · skip
                        refine z_callS C (As := [.null]) (mJ4_colorOf (o := none) hW856 oN) (lw_S q703 q704 q64 q705) hd_J4_colorOf rfl (Nat.le_of_ble_eq_true rfl) (by decide) (by decide) (by decide) (by decide) rfl dJ4_fixAfterDeletion_245 (fun _ _ h => h.elim) (fun r933 V934 hP935 => ?_)
                        rw [hP935.1, hP935.2]
                        refine z_st (st' := [.int (zb true)]) rfl ?_
                        refine z_iconst C (v := (nI 1)) dJ4_fixAfterDeletion_248 rfl ?_
                        refine z_icmp_ne C 265 dJ4_fixAfterDeletion_249 (by decide) (fun c249 => ?_) (fun c249 => ?_)
                        · skip
                          have k936 : true = false := zb1f c249
                          cases k936
                        · skip
                          have k937 : true = true := zb1 c249
                          refine z_aload_n C 0 rfl dJ4_fixAfterDeletion_252 rfl ?_
                          refine z_iconst C (v := (nI 0)) dJ4_fixAfterDeletion_253 rfl ?_
                          refine z_st (st' := [.int (zb false), .ref y888]) rfl ?_
                          refine z_callS C (As := [.ref y888, .int (zb false)]) (mJ4_setColor (o := (some y888)) (c := false) hW856 (oM hm915)) (lw_S q715 q716 q64 q717) hd_J4_setColor rfl (Nat.le_of_ble_eq_true rfl) (by decide) (by decide) (by decide) (by decide) rfl dJ4_fixAfterDeletion_254 (fun _ _ h => h.elim) (fun r938 V939 hP940 => ?_)
                          obtain ⟨hW941, hU942⟩ := hP940
                          refine z_st (st' := []) rfl ?_
                          have hU943 := zUnc.tr (S := tC t L) hU858 hU942 (fun _ h => Or.inl h)
                          change tW _ _ _ _ _ _ _ (va_up cl846 y888 false) _ _ _ _ at hW941
                          obtain ⟨cl945, ec944⟩ : ∃ q, q = va_up cl846 y888 false := ⟨_, rfl⟩
                          rw [← ec944] at hW941
                          have k946 : cl945 y888 = false := by rw [ec944, zvs]
                          have k947 : cl945 p = false := by rw [ec944, zvn (Ne.symm nx917)]; exact k847
                          have nx948 : y55 ≠ y888 := (Ne.symm (tI.gg hI859 hm915 hp916 hm21 k873))
                          have k949 : cl945 y55 = true := by rw [ec944, zvn nx948]; exact k848
                          have nx950 : x1 ≠ y888 := (Ne.symm (tI.sib hI859 hm21 hy889 k879))
                          have k951 : cl945 x1 = true := by rw [ec944, zvn nx950]; exact k849
                          refine z_aload_n C 2 rfl dJ4_fixAfterDeletion_257 rfl ?_
                          refine z_callS C (As := [.ref x1]) (mJ4_parentOf (o := (some x1)) hW941 (oM hlp_3)) (lw_S q706 q707 q64 q708) hd_J4_parentOf rfl (Nat.le_of_ble_eq_true rfl) (by decide) (by decide) (by decide) (by decide) rfl dJ4_fixAfterDeletion_258 (fun _ _ h => h.elim) (fun r952 V953 hP954 => ?_)
                          rw [hP954.1, hP954.2]
                          refine z_st (st' := [va_rf (pa867 x1)]) rfl ?_
                          refine z_top (v := .ref p) (congrArg va_rf (show (pa867 x1) = (some p) from (by rw [k878]))) ?_
                          refine z_astore_n C [(1, .ref p), (2, .ref y888), (0, .ref t)] dJ4_fixAfterDeletion_261 rfl (by decide) rfl ?_
                          refine z_goto C 342 dJ4_fixAfterDeletion_262 (by decide) ?_
                          refine z_goto C 0 dJ4_fixAfterDeletion_342 (by decide) ?_
                          refine z_pick [(0, .ref t), (1, .ref p)] [2, 0] rfl ?_
                          have q1 := (hI859.mp hlp_3 k878).2
                          have qa := congrFun elo864 x1
                          rw [zvn nx48] at qa
                          have qb := congrFun ehi865 x1
                          rw [zvn nx834] at qb
                          exact ih_lp V939 rt869 lf866 rg868 pa867 cl945 lo870 hi871 p hW941 hI859 hU943 hm21 k875 k877 (Nat.le_trans (hI859.le hlp_3 k878).1 g880) (Nat.lt_of_lt_of_le g881 (hI859.le hlp_3 k878).2) (by omega)
                      · skip
                        obtain ⟨hm955, hp956, nx957⟩ := hI859.ml hm915 hy932
                        refine z_callS C (As := [.ref y931]) (mJ4_colorOf (o := (some y931)) hW856 (oM hm955)) (lw_S q703 q704 q64 q705) hd_J4_colorOf rfl (Nat.le_of_ble_eq_true rfl) (by decide) (by decide) (by decide) (by decide) rfl dJ4_fixAfterDeletion_245 (fun _ _ h => h.elim) (fun r958 V959 hP960 => ?_)
                        rw [hP960.1, hP960.2]
                        refine z_st (st' := [.int (zb (cl846 y931))]) rfl ?_
                        refine z_iconst C (v := (nI 1)) dJ4_fixAfterDeletion_248 rfl ?_
                        refine z_icmp_ne C 265 dJ4_fixAfterDeletion_249 (by decide) (fun c249 => ?_) (fun c249 => ?_)
                        · skip
                          have k961 : (cl846 y931) = false := zb1f c249
                          refine z_aload_n C 0 rfl dJ4_fixAfterDeletion_265 rfl ?_
                          refine z_callS C (As := [.ref y888]) (mJ4_leftOf (o := (some y888)) hW856 (oM hm915)) (lw_S q709 q710 q64 q711) hd_J4_leftOf rfl (Nat.le_of_ble_eq_true rfl) (by decide) (by decide) (by decide) (by decide) rfl dJ4_fixAfterDeletion_266 (fun _ _ h => h.elim) (fun r962 V963 hP964 => ?_)
                          rw [hP964.1, hP964.2]
                          refine z_st (st' := [va_rf (lf866 y888)]) rfl ?_
                          refine z_top (v := .ref y931) (congrArg va_rf (show (lf866 y888) = (some y931) from (by rw [hy932]))) ?_
                          refine z_callS C (As := [.ref y931]) (mJ4_colorOf (o := (some y931)) hW856 (oM hm955)) (lw_S q703 q704 q64 q705) hd_J4_colorOf rfl (Nat.le_of_ble_eq_true rfl) (by decide) (by decide) (by decide) (by decide) rfl dJ4_fixAfterDeletion_269 (fun _ _ h => h.elim) (fun r965 V966 hP967 => ?_)
                          rw [hP967.1, hP967.2]
                          refine z_st (st' := [.int (zb (cl846 y931))]) rfl ?_
                          refine z_top (v := .int (zb false)) (congrArg (fun c => Value.int (zb c)) (show (cl846 y931) = false from (by rw [k961]))) ?_
                          refine z_iconst C (v := (nI 1)) dJ4_fixAfterDeletion_272 rfl ?_
                          refine z_icmp_ne C 302 dJ4_fixAfterDeletion_273 (by decide) (fun c273 => ?_) (fun c273 => ?_)
                          · skip
                            have k968 : false = false := zb1f c273
                            refine z_aload_n C 0 rfl dJ4_fixAfterDeletion_302 rfl ?_
                            refine z_aload_n C 2 rfl dJ4_fixAfterDeletion_303 rfl ?_
                            refine z_callS C (As := [.ref x1]) (mJ4_parentOf (o := (some x1)) hW856 (oM hlp_3)) (lw_S q706 q707 q64 q708) hd_J4_parentOf rfl (Nat.le_of_ble_eq_true rfl) (by decide) (by decide) (by decide) (by decide) rfl dJ4_fixAfterDeletion_304 (fun _ _ h => h.elim) (fun r969 V970 hP971 => ?_)
                            rw [hP971.1, hP971.2]
                            refine z_st (st' := [va_rf (pa867 x1), .ref y888]) rfl ?_
                            refine z_top (v := .ref p) (congrArg va_rf (show (pa867 x1) = (some p) from (by rw [k878]))) ?_
                            refine z_callS C (As := [.ref p]) (mJ4_colorOf (o := (some p)) hW856 (oM hm21)) (lw_S q703 q704 q64 q705) hd_J4_colorOf rfl (Nat.le_of_ble_eq_true rfl) (by decide) (by decide) (by decide) (by decide) rfl dJ4_fixAfterDeletion_307 (fun _ _ h => h.elim) (fun r972 V973 hP974 => ?_)
                            rw [hP974.1, hP974.2]
                            refine z_st (st' := [.int (zb (cl846 p)), .ref y888]) rfl ?_
                            refine z_top (v := .int (zb false)) (congrArg (fun c => Value.int (zb c)) (show (cl846 p) = false from (by rw [k847]))) ?_
                            refine z_callS C (As := [.ref y888, .int (zb false)]) (mJ4_setColor (o := (some y888)) (c := false) hW856 (oM hm915)) (lw_S q715 q716 q64 q717) hd_J4_setColor rfl (Nat.le_of_ble_eq_true rfl) (by decide) (by decide) (by decide) (by decide) rfl dJ4_fixAfterDeletion_310 (fun _ _ h => h.elim) (fun r975 V976 hP977 => ?_)
                            obtain ⟨hW978, hU979⟩ := hP977
                            refine z_st (st' := []) rfl ?_
                            have hU980 := zUnc.tr (S := tC t L) hU858 hU979 (fun _ h => Or.inl h)
                            change tW _ _ _ _ _ _ _ (va_up cl846 y888 false) _ _ _ _ at hW978
                            obtain ⟨cl982, ec981⟩ : ∃ q, q = va_up cl846 y888 false := ⟨_, rfl⟩
                            rw [← ec981] at hW978
                            have k983 : cl982 y888 = false := by rw [ec981, zvs]
                            have k984 : cl982 p = false := by rw [ec981, zvn (Ne.symm nx917)]; exact k847
                            have nx985 : y55 ≠ y888 := (Ne.symm (tI.gg hI859 hm915 hp916 hm21 k873))
                            have k986 : cl982 y55 = true := by rw [ec981, zvn nx985]; exact k848
                            have nx987 : x1 ≠ y888 := (Ne.symm (tI.sib hI859 hm21 hy889 k879))
                            have k988 : cl982 x1 = true := by rw [ec981, zvn nx987]; exact k849
                            have k989 : cl982 y931 = false := by rw [ec981, zvn nx957]; exact k961
                            refine z_aload_n C 2 rfl dJ4_fixAfterDeletion_313 rfl ?_
                            refine z_callS C (As := [.ref x1]) (mJ4_parentOf (o := (some x1)) hW978 (oM hlp_3)) (lw_S q706 q707 q64 q708) hd_J4_parentOf rfl (Nat.le_of_ble_eq_true rfl) (by decide) (by decide) (by decide) (by decide) rfl dJ4_fixAfterDeletion_314 (fun _ _ h => h.elim) (fun r990 V991 hP992 => ?_)
                            rw [hP992.1, hP992.2]
                            refine z_st (st' := [va_rf (pa867 x1)]) rfl ?_
                            refine z_top (v := .ref p) (congrArg va_rf (show (pa867 x1) = (some p) from (by rw [k878]))) ?_
                            refine z_iconst C (v := (nI 1)) dJ4_fixAfterDeletion_317 rfl ?_
                            refine z_st (st' := [.int (zb true), .ref p]) rfl ?_
                            refine z_callS C (As := [.ref p, .int (zb true)]) (mJ4_setColor (o := (some p)) (c := true) hW978 (oM hm21)) (lw_S q715 q716 q64 q717) hd_J4_setColor rfl (Nat.le_of_ble_eq_true rfl) (by decide) (by decide) (by decide) (by decide) rfl dJ4_fixAfterDeletion_318 (fun _ _ h => h.elim) (fun r993 V994 hP995 => ?_)
                            obtain ⟨hW996, hU997⟩ := hP995
                            refine z_st (st' := []) rfl ?_
                            have hU998 := zUnc.tr (S := tC t L) hU980 hU997 (fun _ h => Or.inl h)
                            change tW _ _ _ _ _ _ _ (va_up cl982 p true) _ _ _ _ at hW996
                            obtain ⟨cl1000, ec999⟩ : ∃ q, q = va_up cl982 p true := ⟨_, rfl⟩
                            rw [← ec999] at hW996
                            have k1001 : cl1000 p = true := by rw [ec999, zvs]
                            have k1002 : cl1000 y888 = false := by rw [ec999, zvn nx917]; exact k983
                            have k1003 : cl1000 y55 = true := by rw [ec999, zvn nx89]; exact k986
                            have k1004 : cl1000 x1 = true := by rw [ec999, zvn nx48]; exact k988
                            have nx1005 : y931 ≠ p := (tI.gg hI859 hm955 hp956 hm915 hp916)
                            have k1006 : cl1000 y931 = false := by rw [ec999, zvn nx1005]; exact k989
                            refine z_aload_n C 0 rfl dJ4_fixAfterDeletion_321 rfl ?_
                            refine z_callS C (As := [.ref y888]) (mJ4_leftOf (o := (some y888)) hW996 (oM hm915)) (lw_S q709 q710 q64 q711) hd_J4_leftOf rfl (Nat.le_of_ble_eq_true rfl) (by decide) (by decide) (by decide) (by decide) rfl dJ4_fixAfterDeletion_322 (fun _ _ h => h.elim) (fun r1007 V1008 hP1009 => ?_)
                            rw [hP1009.1, hP1009.2]
                            refine z_st (st' := [va_rf (lf866 y888)]) rfl ?_
                            refine z_top (v := .ref y931) (congrArg va_rf (show (lf866 y888) = (some y931) from (by rw [hy932]))) ?_
                            refine z_iconst C (v := (nI 1)) dJ4_fixAfterDeletion_325 rfl ?_
                            refine z_st (st' := [.int (zb true), .ref y931]) rfl ?_
                            refine z_callS C (As := [.ref y931, .int (zb true)]) (mJ4_setColor (o := (some y931)) (c := true) hW996 (oM hm955)) (lw_S q715 q716 q64 q717) hd_J4_setColor rfl (Nat.le_of_ble_eq_true rfl) (by decide) (by decide) (by decide) (by decide) rfl dJ4_fixAfterDeletion_326 (fun _ _ h => h.elim) (fun r1010 V1011 hP1012 => ?_)
                            obtain ⟨hW1013, hU1014⟩ := hP1012
                            refine z_st (st' := []) rfl ?_
                            have hU1015 := zUnc.tr (S := tC t L) hU998 hU1014 (fun _ h => Or.inl h)
                            change tW _ _ _ _ _ _ _ (va_up cl1000 y931 true) _ _ _ _ at hW1013
                            obtain ⟨cl1017, ec1016⟩ : ∃ q, q = va_up cl1000 y931 true := ⟨_, rfl⟩
                            rw [← ec1016] at hW1013
                            have k1018 : cl1017 y931 = true := by rw [ec1016, zvs]
                            have k1019 : cl1017 p = true := by rw [ec1016, zvn (Ne.symm nx1005)]; exact k1001
                            have k1020 : cl1017 y888 = false := by rw [ec1016, zvn (Ne.symm nx957)]; exact k1002
                            have nx1021 : x1 ≠ y931 := (ne_pa k878 hp956 (Ne.symm nx917))
                            have k1022 : cl1017 x1 = true := by rw [ec1016, zvn nx1021]; exact k1004
                            refine z_aload_n C 1 rfl dJ4_fixAfterDeletion_329 rfl ?_
                            refine z_aload_n C 2 rfl dJ4_fixAfterDeletion_330 rfl ?_
                            refine z_callS C (As := [.ref x1]) (mJ4_parentOf (o := (some x1)) hW1013 (oM hlp_3)) (lw_S q706 q707 q64 q708) hd_J4_parentOf rfl (Nat.le_of_ble_eq_true rfl) (by decide) (by decide) (by decide) (by decide) rfl dJ4_fixAfterDeletion_331 (fun _ _ h => h.elim) (fun r1023 V1024 hP1025 => ?_)
                            rw [hP1025.1, hP1025.2]
                            refine z_st (st' := [va_rf (pa867 x1), .ref t]) rfl ?_
                            refine z_top (v := .ref p) (congrArg va_rf (show (pa867 x1) = (some p) from (by rw [k878]))) ?_
                            refine z_callV C k_TM hW1013.1 (As := [.ref p]) (mJ4_rotateRight hW1013 hI859 hm21 hy889) (lw_V q722 q724 qs9 q64 q725) rfl hd_J4_rotateRight rfl (Nat.le_of_ble_eq_true rfl) (by decide) (by decide) (by decide) (by decide) rfl dJ4_fixAfterDeletion_334 (fun _ _ h => h.elim) (fun r1026 V1027 hP1028 => ?_)
                            obtain ⟨hW1029, hU1030⟩ := hP1028
                            refine z_st (st' := []) rfl ?_
                            have hU1031 := zUnc.tr (S := tC t L) hU1015 hU1030 (fun _ h => Or.inl h)
                            have hI1032 := tI_rotR hI859 hm21 hy889
                            obtain ⟨lf1039, eB1034⟩ : ∃ q, q = xR rg868 lf866 p y888 := ⟨_, rfl⟩
                            rw [← eB1034] at hW1029 hI1032
                            obtain ⟨pa1040, eP1035⟩ : ∃ q, q = xP rg868 pa867 p y888 := ⟨_, rfl⟩
                            rw [← eP1035] at hW1029 hI1032
                            obtain ⟨rg1041, eA1033⟩ : ∃ q, q = xL rg868 p y888 := ⟨_, rfl⟩
                            rw [← eA1033] at hW1029 hI1032
                            obtain ⟨rt1042, eT1036⟩ : ∃ q, q = xT rt869 p y888 := ⟨_, rfl⟩
                            rw [← eT1036] at hW1029 hI1032
                            obtain ⟨lo1043, elo1037⟩ : ∃ q, q = va_up lo870 p (ps y888 + 1) := ⟨_, rfl⟩
                            rw [← elo1037] at hI1032
                            obtain ⟨hi1044, ehi1038⟩ : ∃ q, q = va_up hi871 y888 (hi871 p) := ⟨_, rfl⟩
                            rw [← ehi1038] at hI1032
                            have k1045 : rg1041 y888 = (some p) := by rw [eA1033]; exact xL_r
                            have k1046 : pa1040 p = (some y888) := by rw [eP1035]; exact xP_p
                            have k1047 : lf1039 p = none := by rw [eB1034, xR_p]; exact hy922
                            have k1048 : pa1040 y888 = (some y55) := by rw [eP1035, xP_r nx917]; exact k873
                            have k1049 : rg1041 y55 = (some y888) := by rw [eA1033]; exact xL_u nx985 k872
                            have k1050 : lf1039 x = none := by rw [eB1034, xR_o nx874 (sn_ne k875)]; exact k875
                            have nx1051 : x ≠ y888 := (fn_ne k875 hy932)
                            have k1052 : rg1041 x = none := by rw [eA1033, xL_o nx1051 (sn_ne k877)]; exact k877
                            have k1053 : pa1040 x1 = (some p) := by rw [eP1035, xP_o nx48 nx987 (sn_ne hy922)]; exact k878
                            have k1054 : rg1041 p = (some x1) := by rw [eA1033, xL_o (Ne.symm nx917) (so_ne k879 nx48)]; exact k879
                            have k1055 : lf1039 y888 = (some y931) := by rw [eB1034, xR_o nx917 (so_ne hy932 nx1005)]; exact hy932
                            have k1056 : pa1040 y931 = (some y888) := by rw [eP1035, xP_o nx1005 nx957 (sn_ne hy922)]; exact hp956
                            have g1057 : lo1043 x1 ≤ ps x := by rw [elo1037, zvn nx48]; exact g880
                            have g1058 : ps x < hi1044 x1 := by rw [ehi1038, zvn nx987]; exact g881
                            refine z_aload_n C 1 rfl dJ4_fixAfterDeletion_337 rfl ?_
                            refine z_get C k_TM hW1029.1 3 (by decide) rfl q162 dJ4_fixAfterDeletion_338 ?_
                            refine z_astore_nQ C (r := rt1042) [(1, va_rf rt1042), (2, .ref y888), (0, .ref t)] dJ4_fixAfterDeletion_341 rfl (by decide) rfl ?_
                            refine z_goto C 0 dJ4_fixAfterDeletion_342 (by decide) ?_
                            refine z_pick [(0, .ref t), (1, va_rf rt1042)] [2, 0] rfl ?_
                            obtain ⟨r01059, hr1060⟩ := hI1032.rtm hlp_3
                            obtain ⟨hm1061, hp1062, -, -⟩ := hI1032.2.1.1 r01059 hr1060
                            have e1063 : (va_rf rt1042 : Value) = .ref r01059 := (congrArg va_rf hr1060)
                            refine z_lv (lv' := [(0, .ref t), (1, .ref r01059)]) (by rw [e1063]) ?_
                            exact hexit V1027 rt1042 lf1039 rg1041 pa1040 cl1017 lo1043 hi1044 r01059 hW1029 hI1032 hU1031 hm1061 hr1060 k1050 k1052
                          · skip
                            have k1064 : false = true := zb1 c273
                            cases k1064
                        · skip
                          have k1065 : (cl846 y931) = true := zb1 c249
                          refine z_aload_n C 0 rfl dJ4_fixAfterDeletion_252 rfl ?_
                          refine z_iconst C (v := (nI 0)) dJ4_fixAfterDeletion_253 rfl ?_
                          refine z_st (st' := [.int (zb false), .ref y888]) rfl ?_
                          refine z_callS C (As := [.ref y888, .int (zb false)]) (mJ4_setColor (o := (some y888)) (c := false) hW856 (oM hm915)) (lw_S q715 q716 q64 q717) hd_J4_setColor rfl (Nat.le_of_ble_eq_true rfl) (by decide) (by decide) (by decide) (by decide) rfl dJ4_fixAfterDeletion_254 (fun _ _ h => h.elim) (fun r1066 V1067 hP1068 => ?_)
                          obtain ⟨hW1069, hU1070⟩ := hP1068
                          refine z_st (st' := []) rfl ?_
                          have hU1071 := zUnc.tr (S := tC t L) hU858 hU1070 (fun _ h => Or.inl h)
                          change tW _ _ _ _ _ _ _ (va_up cl846 y888 false) _ _ _ _ at hW1069
                          obtain ⟨cl1073, ec1072⟩ : ∃ q, q = va_up cl846 y888 false := ⟨_, rfl⟩
                          rw [← ec1072] at hW1069
                          have k1074 : cl1073 y888 = false := by rw [ec1072, zvs]
                          have k1075 : cl1073 p = false := by rw [ec1072, zvn (Ne.symm nx917)]; exact k847
                          have nx1076 : y55 ≠ y888 := (Ne.symm (tI.gg hI859 hm915 hp916 hm21 k873))
                          have k1077 : cl1073 y55 = true := by rw [ec1072, zvn nx1076]; exact k848
                          have nx1078 : x1 ≠ y888 := (Ne.symm (tI.sib hI859 hm21 hy889 k879))
                          have k1079 : cl1073 x1 = true := by rw [ec1072, zvn nx1078]; exact k849
                          have k1080 : cl1073 y931 = true := by rw [ec1072, zvn nx957]; exact k1065
                          refine z_aload_n C 2 rfl dJ4_fixAfterDeletion_257 rfl ?_
                          refine z_callS C (As := [.ref x1]) (mJ4_parentOf (o := (some x1)) hW1069 (oM hlp_3)) (lw_S q706 q707 q64 q708) hd_J4_parentOf rfl (Nat.le_of_ble_eq_true rfl) (by decide) (by decide) (by decide) (by decide) rfl dJ4_fixAfterDeletion_258 (fun _ _ h => h.elim) (fun r1081 V1082 hP1083 => ?_)
                          rw [hP1083.1, hP1083.2]
                          refine z_st (st' := [va_rf (pa867 x1)]) rfl ?_
                          refine z_top (v := .ref p) (congrArg va_rf (show (pa867 x1) = (some p) from (by rw [k878]))) ?_
                          refine z_astore_n C [(1, .ref p), (2, .ref y888), (0, .ref t)] dJ4_fixAfterDeletion_261 rfl (by decide) rfl ?_
                          refine z_goto C 342 dJ4_fixAfterDeletion_262 (by decide) ?_
                          refine z_goto C 0 dJ4_fixAfterDeletion_342 (by decide) ?_
                          refine z_pick [(0, .ref t), (1, .ref p)] [2, 0] rfl ?_
                          have q1 := (hI859.mp hlp_3 k878).2
                          have qa := congrFun elo864 x1
                          rw [zvn nx48] at qa
                          have qb := congrFun ehi865 x1
                          rw [zvn nx834] at qb
                          exact ih_lp V1067 rt869 lf866 rg868 pa867 cl1073 lo870 hi871 p hW1069 hI859 hU1071 hm21 k875 k877 (Nat.le_trans (hI859.le hlp_3 k878).1 g880) (Nat.lt_of_lt_of_le g881 (hI859.le hlp_3 k878).2) (by omega)
                  · skip
                    obtain ⟨hm1084, hp1085, nx1086⟩ := hI859.mr hm915 hy922
                    refine z_callS C (As := [.ref y921]) (mJ4_colorOf (o := (some y921)) hW856 (oM hm1084)) (lw_S q703 q704 q64 q705) hd_J4_colorOf rfl (Nat.le_of_ble_eq_true rfl) (by decide) (by decide) (by decide) (by decide) rfl dJ4_fixAfterDeletion_234 (fun _ _ h => h.elim) (fun r1087 V1088 hP1089 => ?_)
                    rw [hP1089.1, hP1089.2]
                    refine z_st (st' := [.int (zb (cl846 y921))]) rfl ?_
                    refine z_iconst C (v := (nI 1)) dJ4_fixAfterDeletion_237 rfl ?_
                    refine z_icmp_ne C 265 dJ4_fixAfterDeletion_238 (by decide) (fun c238 => ?_) (fun c238 => ?_)
                    · skip
                      have k1090 : (cl846 y921) = false := zb1f c238
                      refine z_aload_n C 0 rfl dJ4_fixAfterDeletion_265 rfl ?_
                      refine z_callS C (As := [.ref y888]) (mJ4_leftOf (o := (some y888)) hW856 (oM hm915)) (lw_S q709 q710 q64 q711) hd_J4_leftOf rfl (Nat.le_of_ble_eq_true rfl) (by decide) (by decide) (by decide) (by decide) rfl dJ4_fixAfterDeletion_266 (fun _ _ h => h.elim) (fun r1091 V1092 hP1093 => ?_)
                      rw [hP1093.1, hP1093.2]
                      refine z_st (st' := [va_rf (lf866 y888)]) rfl ?_
                      rcases hy1095 : lf866 y888 with _ | y1094
                      · skip
                        refine z_callS C (As := [.null]) (mJ4_colorOf (o := none) hW856 oN) (lw_S q703 q704 q64 q705) hd_J4_colorOf rfl (Nat.le_of_ble_eq_true rfl) (by decide) (by decide) (by decide) (by decide) rfl dJ4_fixAfterDeletion_269 (fun _ _ h => h.elim) (fun r1096 V1097 hP1098 => ?_)
                        rw [hP1098.1, hP1098.2]
                        refine z_st (st' := [.int (zb true)]) rfl ?_
                        refine z_iconst C (v := (nI 1)) dJ4_fixAfterDeletion_272 rfl ?_
                        refine z_icmp_ne C 302 dJ4_fixAfterDeletion_273 (by decide) (fun c273 => ?_) (fun c273 => ?_)
                        · skip
                          have k1099 : true = false := zb1f c273
                          cases k1099
                        · skip
                          have k1100 : true = true := zb1 c273
                          refine z_aload_n C 0 rfl dJ4_fixAfterDeletion_276 rfl ?_
                          refine z_callS C (As := [.ref y888]) (mJ4_rightOf (o := (some y888)) hW856 (oM hm915)) (lw_S q712 q713 q64 q714) hd_J4_rightOf rfl (Nat.le_of_ble_eq_true rfl) (by decide) (by decide) (by decide) (by decide) rfl dJ4_fixAfterDeletion_277 (fun _ _ h => h.elim) (fun r1101 V1102 hP1103 => ?_)
                          rw [hP1103.1, hP1103.2]
                          refine z_st (st' := [va_rf (rg868 y888)]) rfl ?_
                          refine z_top (v := .ref y921) (congrArg va_rf (show (rg868 y888) = (some y921) from (by rw [hy922]))) ?_
                          refine z_iconst C (v := (nI 1)) dJ4_fixAfterDeletion_280 rfl ?_
                          refine z_st (st' := [.int (zb true), .ref y921]) rfl ?_
                          refine z_callS C (As := [.ref y921, .int (zb true)]) (mJ4_setColor (o := (some y921)) (c := true) hW856 (oM hm1084)) (lw_S q715 q716 q64 q717) hd_J4_setColor rfl (Nat.le_of_ble_eq_true rfl) (by decide) (by decide) (by decide) (by decide) rfl dJ4_fixAfterDeletion_281 (fun _ _ h => h.elim) (fun r1104 V1105 hP1106 => ?_)
                          obtain ⟨hW1107, hU1108⟩ := hP1106
                          refine z_st (st' := []) rfl ?_
                          have hU1109 := zUnc.tr (S := tC t L) hU858 hU1108 (fun _ h => Or.inl h)
                          change tW _ _ _ _ _ _ _ (va_up cl846 y921 true) _ _ _ _ at hW1107
                          obtain ⟨cl1111, ec1110⟩ : ∃ q, q = va_up cl846 y921 true := ⟨_, rfl⟩
                          rw [← ec1110] at hW1107
                          have k1112 : cl1111 y921 = true := by rw [ec1110, zvs]
                          have nx1113 : y55 ≠ y888 := (Ne.symm (tI.gg hI859 hm915 hp916 hm21 k873))
                          have nx1114 : p ≠ y921 := (ne_pa k873 hp1085 nx1113)
                          have k1115 : cl1111 p = false := by rw [ec1110, zvn nx1114]; exact k847
                          have nx1116 : x1 ≠ y921 := (ne_pa k878 hp1085 (Ne.symm nx917))
                          have k1117 : cl1111 x1 = true := by rw [ec1110, zvn nx1116]; exact k849
                          refine z_aload_n C 0 rfl dJ4_fixAfterDeletion_284 rfl ?_
                          refine z_iconst C (v := (nI 0)) dJ4_fixAfterDeletion_285 rfl ?_
                          refine z_st (st' := [.int (zb false), .ref y888]) rfl ?_
                          refine z_callS C (As := [.ref y888, .int (zb false)]) (mJ4_setColor (o := (some y888)) (c := false) hW1107 (oM hm915)) (lw_S q715 q716 q64 q717) hd_J4_setColor rfl (Nat.le_of_ble_eq_true rfl) (by decide) (by decide) (by decide) (by decide) rfl dJ4_fixAfterDeletion_286 (fun _ _ h => h.elim) (fun r1118 V1119 hP1120 => ?_)
                          obtain ⟨hW1121, hU1122⟩ := hP1120
                          refine z_st (st' := []) rfl ?_
                          have hU1123 := zUnc.tr (S := tC t L) hU1109 hU1122 (fun _ h => Or.inl h)
                          change tW _ _ _ _ _ _ _ (va_up cl1111 y888 false) _ _ _ _ at hW1121
                          obtain ⟨cl1125, ec1124⟩ : ∃ q, q = va_up cl1111 y888 false := ⟨_, rfl⟩
                          rw [← ec1124] at hW1121
                          have k1126 : cl1125 y888 = false := by rw [ec1124, zvs]
                          have k1127 : cl1125 y921 = true := by rw [ec1124, zvn nx1086]; exact k1112
                          have k1128 : cl1125 p = false := by rw [ec1124, zvn (Ne.symm nx917)]; exact k1115
                          have nx1129 : x1 ≠ y888 := (Ne.symm (tI.sib hI859 hm21 hy889 k879))
                          have k1130 : cl1125 x1 = true := by rw [ec1124, zvn nx1129]; exact k1117
                          refine z_aload_n C 1 rfl dJ4_fixAfterDeletion_289 rfl ?_
                          refine z_aload_n C 0 rfl dJ4_fixAfterDeletion_290 rfl ?_
                          refine z_callV C k_TM hW1121.1 (As := [.ref y888]) (mJ4_rotateLeft hW1121 hI859 hm915 hy922) (lw_V q718 q720 qs8 q64 q721) rfl hd_J4_rotateLeft rfl (Nat.le_of_ble_eq_true rfl) (by decide) (by decide) (by decide) (by decide) rfl dJ4_fixAfterDeletion_291 (fun _ _ h => h.elim) (fun r1131 V1132 hP1133 => ?_)
                          obtain ⟨hW1134, hU1135⟩ := hP1133
                          refine z_st (st' := []) rfl ?_
                          have hU1136 := zUnc.tr (S := tC t L) hU1123 hU1135 (fun _ h => Or.inl h)
                          have hI1137 := tI_rotL hI859 hm915 hy922
                          obtain ⟨rg1144, eB1139⟩ : ∃ q, q = xR lf866 rg868 y888 y921 := ⟨_, rfl⟩
                          rw [← eB1139] at hW1134 hI1137
                          obtain ⟨pa1145, eP1140⟩ : ∃ q, q = xP lf866 pa867 y888 y921 := ⟨_, rfl⟩
                          rw [← eP1140] at hW1134 hI1137
                          obtain ⟨lf1146, eA1138⟩ : ∃ q, q = xL lf866 y888 y921 := ⟨_, rfl⟩
                          rw [← eA1138] at hW1134 hI1137
                          obtain ⟨rt1147, eT1141⟩ : ∃ q, q = xT rt869 y888 y921 := ⟨_, rfl⟩
                          rw [← eT1141] at hW1134 hI1137
                          obtain ⟨lo1148, elo1142⟩ : ∃ q, q = va_up lo870 y921 (lo870 y888) := ⟨_, rfl⟩
                          rw [← elo1142] at hI1137
                          obtain ⟨hi1149, ehi1143⟩ : ∃ q, q = va_up hi871 y888 (ps y921) := ⟨_, rfl⟩
                          rw [← ehi1143] at hI1137
                          have k1150 : lf1146 y921 = (some y888) := by rw [eA1138]; exact xL_r
                          have k1151 : pa1145 y888 = (some y921) := by rw [eP1140]; exact xP_p
                          have k1152 : pa1145 y921 = (some p) := by rw [eP1140, xP_r nx1086]; exact hp916
                          have k1153 : rg1144 y55 = (some p) := by rw [eB1139, xR_o nx1113 (so_ne k872 (Ne.symm nx917))]; exact k872
                          have nx1154 : x ≠ y921 := (hI859.fR hm21 k879 hy889 g880 hm1084 (hI859.le hm1084 hp1085).2)
                          have k1155 : lf1146 x = none := by rw [eA1138, xL_o nx1154 (sn_ne k875)]; exact k875
                          have nx1156 : x ≠ y888 := (fn_ne k877 hy922)
                          have k1157 : rg1144 x = none := by rw [eB1139, xR_o nx1156 (sn_ne k877)]; exact k877
                          have k1158 : pa1145 x1 = (some p) := by rw [eP1140, xP_o nx1129 nx1116 (fun z => nx1114 (Option.some.inj (k878.symm.trans (hI859.ml hm1084 z).2.1)))]; exact k878
                          have k1159 : rg1144 p = (some x1) := by rw [eB1139, xR_o (Ne.symm nx917) (so_ne k879 nx1129)]; exact k879
                          have k1160 : lf1146 p = (some y921) := by rw [eA1138]; exact xL_u nx1114 hy889
                          have k1161 : lf1146 y888 = none := by rw [eA1138, xL_o (Ne.symm nx1086) (sn_ne hy1095)]; exact hy1095
                          have g1162 : lo1148 x1 ≤ ps x := by rw [elo1142, zvn nx1116]; exact g880
                          have g1163 : ps x < hi1149 x1 := by rw [ehi1143, zvn nx1129]; exact g881
                          refine z_aload_n C 2 rfl dJ4_fixAfterDeletion_294 rfl ?_
                          refine z_callS C (As := [.ref x1]) (mJ4_parentOf (o := (some x1)) hW1134 (oM hlp_3)) (lw_S q706 q707 q64 q708) hd_J4_parentOf rfl (Nat.le_of_ble_eq_true rfl) (by decide) (by decide) (by decide) (by decide) rfl dJ4_fixAfterDeletion_295 (fun _ _ h => h.elim) (fun r1164 V1165 hP1166 => ?_)
                          rw [hP1166.1, hP1166.2]
                          refine z_st (st' := [va_rf (pa1145 x1)]) rfl ?_
                          refine z_top (v := .ref p) (congrArg va_rf (show (pa1145 x1) = (some p) from (by rw [k1158]))) ?_
                          refine z_callS C (As := [.ref p]) (mJ4_leftOf (o := (some p)) hW1134 (oM hm21)) (lw_S q709 q710 q64 q711) hd_J4_leftOf rfl (Nat.le_of_ble_eq_true rfl) (by decide) (by decide) (by decide) (by decide) rfl dJ4_fixAfterDeletion_298 (fun _ _ h => h.elim) (fun r1167 V1168 hP1169 => ?_)
                          rw [hP1169.1, hP1169.2]
                          refine z_st (st' := [va_rf (lf1146 p)]) rfl ?_
                          refine z_top (v := .ref y921) (congrArg va_rf (show (lf1146 p) = (some y921) from (by rw [k1160]))) ?_
                          refine z_astore_n C [(2, .ref y921), (0, .ref t), (1, .ref x1)] dJ4_fixAfterDeletion_301 rfl (by decide) rfl ?_
                          refine z_aload_n C 0 rfl dJ4_fixAfterDeletion_302 rfl ?_
                          refine z_aload_n C 2 rfl dJ4_fixAfterDeletion_303 rfl ?_
                          refine z_callS C (As := [.ref x1]) (mJ4_parentOf (o := (some x1)) hW1134 (oM hlp_3)) (lw_S q706 q707 q64 q708) hd_J4_parentOf rfl (Nat.le_of_ble_eq_true rfl) (by decide) (by decide) (by decide) (by decide) rfl dJ4_fixAfterDeletion_304 (fun _ _ h => h.elim) (fun r1170 V1171 hP1172 => ?_)
                          rw [hP1172.1, hP1172.2]
                          refine z_st (st' := [va_rf (pa1145 x1), .ref y921]) rfl ?_
                          refine z_top (v := .ref p) (congrArg va_rf (show (pa1145 x1) = (some p) from (by rw [k1158]))) ?_
                          refine z_callS C (As := [.ref p]) (mJ4_colorOf (o := (some p)) hW1134 (oM hm21)) (lw_S q703 q704 q64 q705) hd_J4_colorOf rfl (Nat.le_of_ble_eq_true rfl) (by decide) (by decide) (by decide) (by decide) rfl dJ4_fixAfterDeletion_307 (fun _ _ h => h.elim) (fun r1173 V1174 hP1175 => ?_)
                          rw [hP1175.1, hP1175.2]
                          refine z_st (st' := [.int (zb (cl1125 p)), .ref y921]) rfl ?_
                          refine z_top (v := .int (zb false)) (congrArg (fun c => Value.int (zb c)) (show (cl1125 p) = false from (by rw [k1128]))) ?_
                          refine z_callS C (As := [.ref y921, .int (zb false)]) (mJ4_setColor (o := (some y921)) (c := false) hW1134 (oM hm1084)) (lw_S q715 q716 q64 q717) hd_J4_setColor rfl (Nat.le_of_ble_eq_true rfl) (by decide) (by decide) (by decide) (by decide) rfl dJ4_fixAfterDeletion_310 (fun _ _ h => h.elim) (fun r1176 V1177 hP1178 => ?_)
                          obtain ⟨hW1179, hU1180⟩ := hP1178
                          refine z_st (st' := []) rfl ?_
                          have hU1181 := zUnc.tr (S := tC t L) hU1136 hU1180 (fun _ h => Or.inl h)
                          change tW _ _ _ _ _ _ _ (va_up cl1125 y921 false) _ _ _ _ at hW1179
                          obtain ⟨cl1183, ec1182⟩ : ∃ q, q = va_up cl1125 y921 false := ⟨_, rfl⟩
                          rw [← ec1182] at hW1179
                          have k1184 : cl1183 y921 = false := by rw [ec1182, zvs]
                          have k1185 : cl1183 y888 = false := by rw [ec1182, zvn (Ne.symm nx1086)]; exact k1126
                          have k1186 : cl1183 p = false := by rw [ec1182, zvn nx1114]; exact k1128
                          have k1187 : cl1183 x1 = true := by rw [ec1182, zvn nx1116]; exact k1130
                          refine z_aload_n C 2 rfl dJ4_fixAfterDeletion_313 rfl ?_
                          refine z_callS C (As := [.ref x1]) (mJ4_parentOf (o := (some x1)) hW1179 (oM hlp_3)) (lw_S q706 q707 q64 q708) hd_J4_parentOf rfl (Nat.le_of_ble_eq_true rfl) (by decide) (by decide) (by decide) (by decide) rfl dJ4_fixAfterDeletion_314 (fun _ _ h => h.elim) (fun r1188 V1189 hP1190 => ?_)
                          rw [hP1190.1, hP1190.2]
                          refine z_st (st' := [va_rf (pa1145 x1)]) rfl ?_
                          refine z_top (v := .ref p) (congrArg va_rf (show (pa1145 x1) = (some p) from (by rw [k1158]))) ?_
                          refine z_iconst C (v := (nI 1)) dJ4_fixAfterDeletion_317 rfl ?_
                          refine z_st (st' := [.int (zb true), .ref p]) rfl ?_
                          refine z_callS C (As := [.ref p, .int (zb true)]) (mJ4_setColor (o := (some p)) (c := true) hW1179 (oM hm21)) (lw_S q715 q716 q64 q717) hd_J4_setColor rfl (Nat.le_of_ble_eq_true rfl) (by decide) (by decide) (by decide) (by decide) rfl dJ4_fixAfterDeletion_318 (fun _ _ h => h.elim) (fun r1191 V1192 hP1193 => ?_)
                          obtain ⟨hW1194, hU1195⟩ := hP1193
                          refine z_st (st' := []) rfl ?_
                          have hU1196 := zUnc.tr (S := tC t L) hU1181 hU1195 (fun _ h => Or.inl h)
                          change tW _ _ _ _ _ _ _ (va_up cl1183 p true) _ _ _ _ at hW1194
                          obtain ⟨cl1198, ec1197⟩ : ∃ q, q = va_up cl1183 p true := ⟨_, rfl⟩
                          rw [← ec1197] at hW1194
                          have k1199 : cl1198 p = true := by rw [ec1197, zvs]
                          have k1200 : cl1198 y921 = false := by rw [ec1197, zvn (Ne.symm nx1114)]; exact k1184
                          have k1201 : cl1198 y888 = false := by rw [ec1197, zvn nx917]; exact k1185
                          have k1202 : cl1198 x1 = true := by rw [ec1197, zvn nx48]; exact k1187
                          refine z_aload_n C 0 rfl dJ4_fixAfterDeletion_321 rfl ?_
                          refine z_callS C (As := [.ref y921]) (mJ4_leftOf (o := (some y921)) hW1194 (oM hm1084)) (lw_S q709 q710 q64 q711) hd_J4_leftOf rfl (Nat.le_of_ble_eq_true rfl) (by decide) (by decide) (by decide) (by decide) rfl dJ4_fixAfterDeletion_322 (fun _ _ h => h.elim) (fun r1203 V1204 hP1205 => ?_)
                          rw [hP1205.1, hP1205.2]
                          refine z_st (st' := [va_rf (lf1146 y921)]) rfl ?_
                          refine z_top (v := .ref y888) (congrArg va_rf (show (lf1146 y921) = (some y888) from (by rw [k1150]))) ?_
                          refine z_iconst C (v := (nI 1)) dJ4_fixAfterDeletion_325 rfl ?_
                          refine z_st (st' := [.int (zb true), .ref y888]) rfl ?_
                          refine z_callS C (As := [.ref y888, .int (zb true)]) (mJ4_setColor (o := (some y888)) (c := true) hW1194 (oM hm915)) (lw_S q715 q716 q64 q717) hd_J4_setColor rfl (Nat.le_of_ble_eq_true rfl) (by decide) (by decide) (by decide) (by decide) rfl dJ4_fixAfterDeletion_326 (fun _ _ h => h.elim) (fun r1206 V1207 hP1208 => ?_)
                          obtain ⟨hW1209, hU1210⟩ := hP1208
                          refine z_st (st' := []) rfl ?_
                          have hU1211 := zUnc.tr (S := tC t L) hU1196 hU1210 (fun _ h => Or.inl h)
                          change tW _ _ _ _ _ _ _ (va_up cl1198 y888 true) _ _ _ _ at hW1209
                          obtain ⟨cl1213, ec1212⟩ : ∃ q, q = va_up cl1198 y888 true := ⟨_, rfl⟩
                          rw [← ec1212] at hW1209
                          have k1214 : cl1213 y888 = true := by rw [ec1212, zvs]
                          have k1215 : cl1213 p = true := by rw [ec1212, zvn (Ne.symm nx917)]; exact k1199
                          have k1216 : cl1213 y921 = false := by rw [ec1212, zvn nx1086]; exact k1200
                          have k1217 : cl1213 x1 = true := by rw [ec1212, zvn nx1129]; exact k1202
                          refine z_aload_n C 1 rfl dJ4_fixAfterDeletion_329 rfl ?_
                          refine z_aload_n C 2 rfl dJ4_fixAfterDeletion_330 rfl ?_
                          refine z_callS C (As := [.ref x1]) (mJ4_parentOf (o := (some x1)) hW1209 (oM hlp_3)) (lw_S q706 q707 q64 q708) hd_J4_parentOf rfl (Nat.le_of_ble_eq_true rfl) (by decide) (by decide) (by decide) (by decide) rfl dJ4_fixAfterDeletion_331 (fun _ _ h => h.elim) (fun r1218 V1219 hP1220 => ?_)
                          rw [hP1220.1, hP1220.2]
                          refine z_st (st' := [va_rf (pa1145 x1), .ref t]) rfl ?_
                          refine z_top (v := .ref p) (congrArg va_rf (show (pa1145 x1) = (some p) from (by rw [k1158]))) ?_
                          refine z_callV C k_TM hW1209.1 (As := [.ref p]) (mJ4_rotateRight hW1209 hI1137 hm21 k1160) (lw_V q722 q724 qs9 q64 q725) rfl hd_J4_rotateRight rfl (Nat.le_of_ble_eq_true rfl) (by decide) (by decide) (by decide) (by decide) rfl dJ4_fixAfterDeletion_334 (fun _ _ h => h.elim) (fun r1221 V1222 hP1223 => ?_)
                          obtain ⟨hW1224, hU1225⟩ := hP1223
                          refine z_st (st' := []) rfl ?_
                          have hU1226 := zUnc.tr (S := tC t L) hU1211 hU1225 (fun _ h => Or.inl h)
                          have hI1227 := tI_rotR hI1137 hm21 k1160
                          obtain ⟨lf1234, eB1229⟩ : ∃ q, q = xR rg1144 lf1146 p y921 := ⟨_, rfl⟩
                          rw [← eB1229] at hW1224 hI1227
                          obtain ⟨pa1235, eP1230⟩ : ∃ q, q = xP rg1144 pa1145 p y921 := ⟨_, rfl⟩
                          rw [← eP1230] at hW1224 hI1227
                          obtain ⟨rg1236, eA1228⟩ : ∃ q, q = xL rg1144 p y921 := ⟨_, rfl⟩
                          rw [← eA1228] at hW1224 hI1227
                          obtain ⟨rt1237, eT1231⟩ : ∃ q, q = xT rt1147 p y921 := ⟨_, rfl⟩
                          rw [← eT1231] at hW1224 hI1227
                          obtain ⟨lo1238, elo1232⟩ : ∃ q, q = va_up lo1148 p (ps y921 + 1) := ⟨_, rfl⟩
                          rw [← elo1232] at hI1227
                          obtain ⟨hi1239, ehi1233⟩ : ∃ q, q = va_up hi1149 y921 (hi1149 p) := ⟨_, rfl⟩
                          rw [← ehi1233] at hI1227
                          have k1240 : rg1236 y921 = (some p) := by rw [eA1228]; exact xL_r
                          have k1241 : pa1235 p = (some y921) := by rw [eP1230]; exact xP_p
                          have k1242 : lf1234 y921 = (some y888) := by rw [eB1229, xR_o (Ne.symm nx1114) (so_ne k1150 nx917)]; exact k1150
                          have k1243 : pa1235 y888 = (some y921) := by rw [eP1230, xP_o nx917 (Ne.symm nx1086) (hI1137.lr hm1084 k1150)]; exact k1151
                          have k1244 : lf1234 x = none := by rw [eB1229, xR_o nx874 (sn_ne k1155)]; exact k1155
                          have k1245 : rg1236 x = none := by rw [eA1228, xL_o nx1154 (sn_ne k1157)]; exact k1157
                          have k1246 : pa1235 x1 = (some p) := by rw [eP1230, xP_o nx48 nx1116 (fun z => nx1114 (Option.some.inj (k1158.symm.trans (hI1137.mr hm1084 z).2.1)))]; exact k1158
                          have k1247 : rg1236 p = (some x1) := by rw [eA1228, xL_o nx1114 (so_ne k1159 nx48)]; exact k1159
                          have k1248 : lf1234 y888 = none := by rw [eB1229, xR_o nx917 (sn_ne k1161)]; exact k1161
                          have g1249 : lo1238 x1 ≤ ps x := by rw [elo1232, zvn nx48]; exact g1162
                          have g1250 : ps x < hi1239 x1 := by rw [ehi1233, zvn nx1116]; exact g1163
                          refine z_aload_n C 1 rfl dJ4_fixAfterDeletion_337 rfl ?_
                          refine z_get C k_TM hW1224.1 3 (by decide) rfl q162 dJ4_fixAfterDeletion_338 ?_
                          refine z_astore_nQ C (r := rt1237) [(1, va_rf rt1237), (2, .ref y921), (0, .ref t)] dJ4_fixAfterDeletion_341 rfl (by decide) rfl ?_
                          refine z_goto C 0 dJ4_fixAfterDeletion_342 (by decide) ?_
                          refine z_pick [(0, .ref t), (1, va_rf rt1237)] [2, 0] rfl ?_
                          obtain ⟨r01251, hr1252⟩ := hI1227.rtm hlp_3
                          obtain ⟨hm1253, hp1254, -, -⟩ := hI1227.2.1.1 r01251 hr1252
                          have e1255 : (va_rf rt1237 : Value) = .ref r01251 := (congrArg va_rf hr1252)
                          refine z_lv (lv' := [(0, .ref t), (1, .ref r01251)]) (by rw [e1255]) ?_
                          exact hexit V1222 rt1237 lf1234 rg1236 pa1235 cl1213 lo1238 hi1239 r01251 hW1224 hI1227 hU1226 hm1253 hr1252 k1244 k1245
                      · skip
                        obtain ⟨hm1256, hp1257, nx1258⟩ := hI859.ml hm915 hy1095
                        refine z_callS C (As := [.ref y1094]) (mJ4_colorOf (o := (some y1094)) hW856 (oM hm1256)) (lw_S q703 q704 q64 q705) hd_J4_colorOf rfl (Nat.le_of_ble_eq_true rfl) (by decide) (by decide) (by decide) (by decide) rfl dJ4_fixAfterDeletion_269 (fun _ _ h => h.elim) (fun r1259 V1260 hP1261 => ?_)
                        rw [hP1261.1, hP1261.2]
                        refine z_st (st' := [.int (zb (cl846 y1094))]) rfl ?_
                        refine z_iconst C (v := (nI 1)) dJ4_fixAfterDeletion_272 rfl ?_
                        refine z_icmp_ne C 302 dJ4_fixAfterDeletion_273 (by decide) (fun c273 => ?_) (fun c273 => ?_)
                        · skip
                          have k1262 : (cl846 y1094) = false := zb1f c273
                          refine z_aload_n C 0 rfl dJ4_fixAfterDeletion_302 rfl ?_
                          refine z_aload_n C 2 rfl dJ4_fixAfterDeletion_303 rfl ?_
                          refine z_callS C (As := [.ref x1]) (mJ4_parentOf (o := (some x1)) hW856 (oM hlp_3)) (lw_S q706 q707 q64 q708) hd_J4_parentOf rfl (Nat.le_of_ble_eq_true rfl) (by decide) (by decide) (by decide) (by decide) rfl dJ4_fixAfterDeletion_304 (fun _ _ h => h.elim) (fun r1263 V1264 hP1265 => ?_)
                          rw [hP1265.1, hP1265.2]
                          refine z_st (st' := [va_rf (pa867 x1), .ref y888]) rfl ?_
                          refine z_top (v := .ref p) (congrArg va_rf (show (pa867 x1) = (some p) from (by rw [k878]))) ?_
                          refine z_callS C (As := [.ref p]) (mJ4_colorOf (o := (some p)) hW856 (oM hm21)) (lw_S q703 q704 q64 q705) hd_J4_colorOf rfl (Nat.le_of_ble_eq_true rfl) (by decide) (by decide) (by decide) (by decide) rfl dJ4_fixAfterDeletion_307 (fun _ _ h => h.elim) (fun r1266 V1267 hP1268 => ?_)
                          rw [hP1268.1, hP1268.2]
                          refine z_st (st' := [.int (zb (cl846 p)), .ref y888]) rfl ?_
                          refine z_top (v := .int (zb false)) (congrArg (fun c => Value.int (zb c)) (show (cl846 p) = false from (by rw [k847]))) ?_
                          refine z_callS C (As := [.ref y888, .int (zb false)]) (mJ4_setColor (o := (some y888)) (c := false) hW856 (oM hm915)) (lw_S q715 q716 q64 q717) hd_J4_setColor rfl (Nat.le_of_ble_eq_true rfl) (by decide) (by decide) (by decide) (by decide) rfl dJ4_fixAfterDeletion_310 (fun _ _ h => h.elim) (fun r1269 V1270 hP1271 => ?_)
                          obtain ⟨hW1272, hU1273⟩ := hP1271
                          refine z_st (st' := []) rfl ?_
                          have hU1274 := zUnc.tr (S := tC t L) hU858 hU1273 (fun _ h => Or.inl h)
                          change tW _ _ _ _ _ _ _ (va_up cl846 y888 false) _ _ _ _ at hW1272
                          obtain ⟨cl1276, ec1275⟩ : ∃ q, q = va_up cl846 y888 false := ⟨_, rfl⟩
                          rw [← ec1275] at hW1272
                          have k1277 : cl1276 y888 = false := by rw [ec1275, zvs]
                          have k1278 : cl1276 p = false := by rw [ec1275, zvn (Ne.symm nx917)]; exact k847
                          have nx1279 : y55 ≠ y888 := (Ne.symm (tI.gg hI859 hm915 hp916 hm21 k873))
                          have k1280 : cl1276 y55 = true := by rw [ec1275, zvn nx1279]; exact k848
                          have nx1281 : x1 ≠ y888 := (Ne.symm (tI.sib hI859 hm21 hy889 k879))
                          have k1282 : cl1276 x1 = true := by rw [ec1275, zvn nx1281]; exact k849
                          have k1283 : cl1276 y921 = false := by rw [ec1275, zvn nx1086]; exact k1090
                          have k1284 : cl1276 y1094 = false := by rw [ec1275, zvn nx1258]; exact k1262
                          refine z_aload_n C 2 rfl dJ4_fixAfterDeletion_313 rfl ?_
                          refine z_callS C (As := [.ref x1]) (mJ4_parentOf (o := (some x1)) hW1272 (oM hlp_3)) (lw_S q706 q707 q64 q708) hd_J4_parentOf rfl (Nat.le_of_ble_eq_true rfl) (by decide) (by decide) (by decide) (by decide) rfl dJ4_fixAfterDeletion_314 (fun _ _ h => h.elim) (fun r1285 V1286 hP1287 => ?_)
                          rw [hP1287.1, hP1287.2]
                          refine z_st (st' := [va_rf (pa867 x1)]) rfl ?_
                          refine z_top (v := .ref p) (congrArg va_rf (show (pa867 x1) = (some p) from (by rw [k878]))) ?_
                          refine z_iconst C (v := (nI 1)) dJ4_fixAfterDeletion_317 rfl ?_
                          refine z_st (st' := [.int (zb true), .ref p]) rfl ?_
                          refine z_callS C (As := [.ref p, .int (zb true)]) (mJ4_setColor (o := (some p)) (c := true) hW1272 (oM hm21)) (lw_S q715 q716 q64 q717) hd_J4_setColor rfl (Nat.le_of_ble_eq_true rfl) (by decide) (by decide) (by decide) (by decide) rfl dJ4_fixAfterDeletion_318 (fun _ _ h => h.elim) (fun r1288 V1289 hP1290 => ?_)
                          obtain ⟨hW1291, hU1292⟩ := hP1290
                          refine z_st (st' := []) rfl ?_
                          have hU1293 := zUnc.tr (S := tC t L) hU1274 hU1292 (fun _ h => Or.inl h)
                          change tW _ _ _ _ _ _ _ (va_up cl1276 p true) _ _ _ _ at hW1291
                          obtain ⟨cl1295, ec1294⟩ : ∃ q, q = va_up cl1276 p true := ⟨_, rfl⟩
                          rw [← ec1294] at hW1291
                          have k1296 : cl1295 p = true := by rw [ec1294, zvs]
                          have k1297 : cl1295 y888 = false := by rw [ec1294, zvn nx917]; exact k1277
                          have k1298 : cl1295 y55 = true := by rw [ec1294, zvn nx89]; exact k1280
                          have k1299 : cl1295 x1 = true := by rw [ec1294, zvn nx48]; exact k1282
                          have nx1300 : y921 ≠ p := (tI.gg hI859 hm1084 hp1085 hm915 hp916)
                          have k1301 : cl1295 y921 = false := by rw [ec1294, zvn nx1300]; exact k1283
                          have nx1302 : y1094 ≠ p := (tI.gg hI859 hm1256 hp1257 hm915 hp916)
                          have k1303 : cl1295 y1094 = false := by rw [ec1294, zvn nx1302]; exact k1284
                          refine z_aload_n C 0 rfl dJ4_fixAfterDeletion_321 rfl ?_
                          refine z_callS C (As := [.ref y888]) (mJ4_leftOf (o := (some y888)) hW1291 (oM hm915)) (lw_S q709 q710 q64 q711) hd_J4_leftOf rfl (Nat.le_of_ble_eq_true rfl) (by decide) (by decide) (by decide) (by decide) rfl dJ4_fixAfterDeletion_322 (fun _ _ h => h.elim) (fun r1304 V1305 hP1306 => ?_)
                          rw [hP1306.1, hP1306.2]
                          refine z_st (st' := [va_rf (lf866 y888)]) rfl ?_
                          refine z_top (v := .ref y1094) (congrArg va_rf (show (lf866 y888) = (some y1094) from (by rw [hy1095]))) ?_
                          refine z_iconst C (v := (nI 1)) dJ4_fixAfterDeletion_325 rfl ?_
                          refine z_st (st' := [.int (zb true), .ref y1094]) rfl ?_
                          refine z_callS C (As := [.ref y1094, .int (zb true)]) (mJ4_setColor (o := (some y1094)) (c := true) hW1291 (oM hm1256)) (lw_S q715 q716 q64 q717) hd_J4_setColor rfl (Nat.le_of_ble_eq_true rfl) (by decide) (by decide) (by decide) (by decide) rfl dJ4_fixAfterDeletion_326 (fun _ _ h => h.elim) (fun r1307 V1308 hP1309 => ?_)
                          obtain ⟨hW1310, hU1311⟩ := hP1309
                          refine z_st (st' := []) rfl ?_
                          have hU1312 := zUnc.tr (S := tC t L) hU1293 hU1311 (fun _ h => Or.inl h)
                          change tW _ _ _ _ _ _ _ (va_up cl1295 y1094 true) _ _ _ _ at hW1310
                          obtain ⟨cl1314, ec1313⟩ : ∃ q, q = va_up cl1295 y1094 true := ⟨_, rfl⟩
                          rw [← ec1313] at hW1310
                          have k1315 : cl1314 y1094 = true := by rw [ec1313, zvs]
                          have k1316 : cl1314 p = true := by rw [ec1313, zvn (Ne.symm nx1302)]; exact k1296
                          have k1317 : cl1314 y888 = false := by rw [ec1313, zvn (Ne.symm nx1258)]; exact k1297
                          have nx1318 : x1 ≠ y1094 := (ne_pa k878 hp1257 (Ne.symm nx917))
                          have k1319 : cl1314 x1 = true := by rw [ec1313, zvn nx1318]; exact k1299
                          have nx1320 : y921 ≠ y1094 := (Ne.symm (tI.sib hI859 hm915 hy1095 hy922))
                          have k1321 : cl1314 y921 = false := by rw [ec1313, zvn nx1320]; exact k1301
                          refine z_aload_n C 1 rfl dJ4_fixAfterDeletion_329 rfl ?_
                          refine z_aload_n C 2 rfl dJ4_fixAfterDeletion_330 rfl ?_
                          refine z_callS C (As := [.ref x1]) (mJ4_parentOf (o := (some x1)) hW1310 (oM hlp_3)) (lw_S q706 q707 q64 q708) hd_J4_parentOf rfl (Nat.le_of_ble_eq_true rfl) (by decide) (by decide) (by decide) (by decide) rfl dJ4_fixAfterDeletion_331 (fun _ _ h => h.elim) (fun r1322 V1323 hP1324 => ?_)
                          rw [hP1324.1, hP1324.2]
                          refine z_st (st' := [va_rf (pa867 x1), .ref t]) rfl ?_
                          refine z_top (v := .ref p) (congrArg va_rf (show (pa867 x1) = (some p) from (by rw [k878]))) ?_
                          refine z_callV C k_TM hW1310.1 (As := [.ref p]) (mJ4_rotateRight hW1310 hI859 hm21 hy889) (lw_V q722 q724 qs9 q64 q725) rfl hd_J4_rotateRight rfl (Nat.le_of_ble_eq_true rfl) (by decide) (by decide) (by decide) (by decide) rfl dJ4_fixAfterDeletion_334 (fun _ _ h => h.elim) (fun r1325 V1326 hP1327 => ?_)
                          obtain ⟨hW1328, hU1329⟩ := hP1327
                          refine z_st (st' := []) rfl ?_
                          have hU1330 := zUnc.tr (S := tC t L) hU1312 hU1329 (fun _ h => Or.inl h)
                          have hI1331 := tI_rotR hI859 hm21 hy889
                          obtain ⟨lf1338, eB1333⟩ : ∃ q, q = xR rg868 lf866 p y888 := ⟨_, rfl⟩
                          rw [← eB1333] at hW1328 hI1331
                          obtain ⟨pa1339, eP1334⟩ : ∃ q, q = xP rg868 pa867 p y888 := ⟨_, rfl⟩
                          rw [← eP1334] at hW1328 hI1331
                          obtain ⟨rg1340, eA1332⟩ : ∃ q, q = xL rg868 p y888 := ⟨_, rfl⟩
                          rw [← eA1332] at hW1328 hI1331
                          obtain ⟨rt1341, eT1335⟩ : ∃ q, q = xT rt869 p y888 := ⟨_, rfl⟩
                          rw [← eT1335] at hW1328 hI1331
                          obtain ⟨lo1342, elo1336⟩ : ∃ q, q = va_up lo870 p (ps y888 + 1) := ⟨_, rfl⟩
                          rw [← elo1336] at hI1331
                          obtain ⟨hi1343, ehi1337⟩ : ∃ q, q = va_up hi871 y888 (hi871 p) := ⟨_, rfl⟩
                          rw [← ehi1337] at hI1331
                          have k1344 : rg1340 y888 = (some p) := by rw [eA1332]; exact xL_r
                          have k1345 : pa1339 p = (some y888) := by rw [eP1334]; exact xP_p
                          have k1346 : lf1338 p = (some y921) := by rw [eB1333, xR_p]; exact hy922
                          have k1347 : pa1339 y888 = (some y55) := by rw [eP1334, xP_r nx917]; exact k873
                          have k1348 : rg1340 y55 = (some y888) := by rw [eA1332]; exact xL_u nx1279 k872
                          have k1349 : lf1338 x = none := by rw [eB1333, xR_o nx874 (sn_ne k875)]; exact k875
                          have nx1350 : x ≠ y888 := (fn_ne k875 hy1095)
                          have k1351 : rg1340 x = none := by rw [eA1332, xL_o nx1350 (sn_ne k877)]; exact k877
                          have nx1352 : y921 ≠ x1 := (ne_pa hp1085 k878 nx917)
                          have k1353 : pa1339 x1 = (some p) := by rw [eP1334, xP_o nx48 nx1281 (so_ne hy922 nx1352)]; exact k878
                          have k1354 : rg1340 p = (some x1) := by rw [eA1332, xL_o (Ne.symm nx917) (so_ne k879 nx48)]; exact k879
                          have k1355 : pa1339 y921 = (some p) := by rw [eP1334]; exact xP_c nx1300 nx1086 hy922
                          have k1356 : lf1338 y888 = (some y1094) := by rw [eB1333, xR_o nx917 (so_ne hy1095 nx1302)]; exact hy1095
                          have k1357 : pa1339 y1094 = (some y888) := by rw [eP1334, xP_o nx1302 nx1258 (so_ne hy922 nx1320)]; exact hp1257
                          have g1358 : lo1342 x1 ≤ ps x := by rw [elo1336, zvn nx48]; exact g880
                          have g1359 : ps x < hi1343 x1 := by rw [ehi1337, zvn nx1281]; exact g881
                          refine z_aload_n C 1 rfl dJ4_fixAfterDeletion_337 rfl ?_
                          refine z_get C k_TM hW1328.1 3 (by decide) rfl q162 dJ4_fixAfterDeletion_338 ?_
                          refine z_astore_nQ C (r := rt1341) [(1, va_rf rt1341), (2, .ref y888), (0, .ref t)] dJ4_fixAfterDeletion_341 rfl (by decide) rfl ?_
                          refine z_goto C 0 dJ4_fixAfterDeletion_342 (by decide) ?_
                          refine z_pick [(0, .ref t), (1, va_rf rt1341)] [2, 0] rfl ?_
                          obtain ⟨r01360, hr1361⟩ := hI1331.rtm hlp_3
                          obtain ⟨hm1362, hp1363, -, -⟩ := hI1331.2.1.1 r01360 hr1361
                          have e1364 : (va_rf rt1341 : Value) = .ref r01360 := (congrArg va_rf hr1361)
                          refine z_lv (lv' := [(0, .ref t), (1, .ref r01360)]) (by rw [e1364]) ?_
                          exact hexit V1326 rt1341 lf1338 rg1340 pa1339 cl1314 lo1342 hi1343 r01360 hW1328 hI1331 hU1330 hm1362 hr1361 k1349 k1351
                        · skip
                          have k1365 : (cl846 y1094) = true := zb1 c273
                          refine z_aload_n C 0 rfl dJ4_fixAfterDeletion_276 rfl ?_
                          refine z_callS C (As := [.ref y888]) (mJ4_rightOf (o := (some y888)) hW856 (oM hm915)) (lw_S q712 q713 q64 q714) hd_J4_rightOf rfl (Nat.le_of_ble_eq_true rfl) (by decide) (by decide) (by decide) (by decide) rfl dJ4_fixAfterDeletion_277 (fun _ _ h => h.elim) (fun r1366 V1367 hP1368 => ?_)
                          rw [hP1368.1, hP1368.2]
                          refine z_st (st' := [va_rf (rg868 y888)]) rfl ?_
                          refine z_top (v := .ref y921) (congrArg va_rf (show (rg868 y888) = (some y921) from (by rw [hy922]))) ?_
                          refine z_iconst C (v := (nI 1)) dJ4_fixAfterDeletion_280 rfl ?_
                          refine z_st (st' := [.int (zb true), .ref y921]) rfl ?_
                          refine z_callS C (As := [.ref y921, .int (zb true)]) (mJ4_setColor (o := (some y921)) (c := true) hW856 (oM hm1084)) (lw_S q715 q716 q64 q717) hd_J4_setColor rfl (Nat.le_of_ble_eq_true rfl) (by decide) (by decide) (by decide) (by decide) rfl dJ4_fixAfterDeletion_281 (fun _ _ h => h.elim) (fun r1369 V1370 hP1371 => ?_)
                          obtain ⟨hW1372, hU1373⟩ := hP1371
                          refine z_st (st' := []) rfl ?_
                          have hU1374 := zUnc.tr (S := tC t L) hU858 hU1373 (fun _ h => Or.inl h)
                          change tW _ _ _ _ _ _ _ (va_up cl846 y921 true) _ _ _ _ at hW1372
                          obtain ⟨cl1376, ec1375⟩ : ∃ q, q = va_up cl846 y921 true := ⟨_, rfl⟩
                          rw [← ec1375] at hW1372
                          have k1377 : cl1376 y921 = true := by rw [ec1375, zvs]
                          have nx1378 : y55 ≠ y888 := (Ne.symm (tI.gg hI859 hm915 hp916 hm21 k873))
                          have nx1379 : p ≠ y921 := (ne_pa k873 hp1085 nx1378)
                          have k1380 : cl1376 p = false := by rw [ec1375, zvn nx1379]; exact k847
                          have nx1381 : x1 ≠ y921 := (ne_pa k878 hp1085 (Ne.symm nx917))
                          have k1382 : cl1376 x1 = true := by rw [ec1375, zvn nx1381]; exact k849
                          have nx1383 : y1094 ≠ y921 := (tI.sib hI859 hm915 hy1095 hy922)
                          have k1384 : cl1376 y1094 = true := by rw [ec1375, zvn nx1383]; exact k1365
                          refine z_aload_n C 0 rfl dJ4_fixAfterDeletion_284 rfl ?_
                          refine z_iconst C (v := (nI 0)) dJ4_fixAfterDeletion_285 rfl ?_
                          refine z_st (st' := [.int (zb false), .ref y888]) rfl ?_
                          refine z_callS C (As := [.ref y888, .int (zb false)]) (mJ4_setColor (o := (some y888)) (c := false) hW1372 (oM hm915)) (lw_S q715 q716 q64 q717) hd_J4_setColor rfl (Nat.le_of_ble_eq_true rfl) (by decide) (by decide) (by decide) (by decide) rfl dJ4_fixAfterDeletion_286 (fun _ _ h => h.elim) (fun r1385 V1386 hP1387 => ?_)
                          obtain ⟨hW1388, hU1389⟩ := hP1387
                          refine z_st (st' := []) rfl ?_
                          have hU1390 := zUnc.tr (S := tC t L) hU1374 hU1389 (fun _ h => Or.inl h)
                          change tW _ _ _ _ _ _ _ (va_up cl1376 y888 false) _ _ _ _ at hW1388
                          obtain ⟨cl1392, ec1391⟩ : ∃ q, q = va_up cl1376 y888 false := ⟨_, rfl⟩
                          rw [← ec1391] at hW1388
                          have k1393 : cl1392 y888 = false := by rw [ec1391, zvs]
                          have k1394 : cl1392 y921 = true := by rw [ec1391, zvn nx1086]; exact k1377
                          have k1395 : cl1392 p = false := by rw [ec1391, zvn (Ne.symm nx917)]; exact k1380
                          have nx1396 : x1 ≠ y888 := (Ne.symm (tI.sib hI859 hm21 hy889 k879))
                          have k1397 : cl1392 x1 = true := by rw [ec1391, zvn nx1396]; exact k1382
                          have k1398 : cl1392 y1094 = true := by rw [ec1391, zvn nx1258]; exact k1384
                          refine z_aload_n C 1 rfl dJ4_fixAfterDeletion_289 rfl ?_
                          refine z_aload_n C 0 rfl dJ4_fixAfterDeletion_290 rfl ?_
                          refine z_callV C k_TM hW1388.1 (As := [.ref y888]) (mJ4_rotateLeft hW1388 hI859 hm915 hy922) (lw_V q718 q720 qs8 q64 q721) rfl hd_J4_rotateLeft rfl (Nat.le_of_ble_eq_true rfl) (by decide) (by decide) (by decide) (by decide) rfl dJ4_fixAfterDeletion_291 (fun _ _ h => h.elim) (fun r1399 V1400 hP1401 => ?_)
                          obtain ⟨hW1402, hU1403⟩ := hP1401
                          refine z_st (st' := []) rfl ?_
                          have hU1404 := zUnc.tr (S := tC t L) hU1390 hU1403 (fun _ h => Or.inl h)
                          have hI1405 := tI_rotL hI859 hm915 hy922
                          obtain ⟨rg1412, eB1407⟩ : ∃ q, q = xR lf866 rg868 y888 y921 := ⟨_, rfl⟩
                          rw [← eB1407] at hW1402 hI1405
                          obtain ⟨pa1413, eP1408⟩ : ∃ q, q = xP lf866 pa867 y888 y921 := ⟨_, rfl⟩
                          rw [← eP1408] at hW1402 hI1405
                          obtain ⟨lf1414, eA1406⟩ : ∃ q, q = xL lf866 y888 y921 := ⟨_, rfl⟩
                          rw [← eA1406] at hW1402 hI1405
                          obtain ⟨rt1415, eT1409⟩ : ∃ q, q = xT rt869 y888 y921 := ⟨_, rfl⟩
                          rw [← eT1409] at hW1402 hI1405
                          obtain ⟨lo1416, elo1410⟩ : ∃ q, q = va_up lo870 y921 (lo870 y888) := ⟨_, rfl⟩
                          rw [← elo1410] at hI1405
                          obtain ⟨hi1417, ehi1411⟩ : ∃ q, q = va_up hi871 y888 (ps y921) := ⟨_, rfl⟩
                          rw [← ehi1411] at hI1405
                          have k1418 : lf1414 y921 = (some y888) := by rw [eA1406]; exact xL_r
                          have k1419 : pa1413 y888 = (some y921) := by rw [eP1408]; exact xP_p
                          have k1420 : pa1413 y921 = (some p) := by rw [eP1408, xP_r nx1086]; exact hp916
                          have k1421 : rg1412 y55 = (some p) := by rw [eB1407, xR_o nx1378 (so_ne k872 (Ne.symm nx917))]; exact k872
                          have nx1422 : x ≠ y921 := (hI859.fR hm21 k879 hy889 g880 hm1084 (hI859.le hm1084 hp1085).2)
                          have k1423 : lf1414 x = none := by rw [eA1406, xL_o nx1422 (sn_ne k875)]; exact k875
                          have nx1424 : x ≠ y888 := (fn_ne k875 hy1095)
                          have k1425 : rg1412 x = none := by rw [eB1407, xR_o nx1424 (sn_ne k877)]; exact k877
                          have k1426 : pa1413 x1 = (some p) := by rw [eP1408, xP_o nx1396 nx1381 (fun z => nx1379 (Option.some.inj (k878.symm.trans (hI859.ml hm1084 z).2.1)))]; exact k878
                          have k1427 : rg1412 p = (some x1) := by rw [eB1407, xR_o (Ne.symm nx917) (so_ne k879 nx1396)]; exact k879
                          have k1428 : lf1414 p = (some y921) := by rw [eA1406]; exact xL_u nx1379 hy889
                          have k1429 : lf1414 y888 = (some y1094) := by rw [eA1406, xL_o (Ne.symm nx1086) (so_ne hy1095 nx1258)]; exact hy1095
                          have k1430 : pa1413 y1094 = (some y888) := by rw [eP1408, xP_o nx1258 nx1383 (fun z => (Ne.symm nx1086) (Option.some.inj (hp1257.symm.trans (hI859.ml hm1084 z).2.1)))]; exact hp1257
                          have g1431 : lo1416 x1 ≤ ps x := by rw [elo1410, zvn nx1381]; exact g880
                          have g1432 : ps x < hi1417 x1 := by rw [ehi1411, zvn nx1396]; exact g881
                          refine z_aload_n C 2 rfl dJ4_fixAfterDeletion_294 rfl ?_
                          refine z_callS C (As := [.ref x1]) (mJ4_parentOf (o := (some x1)) hW1402 (oM hlp_3)) (lw_S q706 q707 q64 q708) hd_J4_parentOf rfl (Nat.le_of_ble_eq_true rfl) (by decide) (by decide) (by decide) (by decide) rfl dJ4_fixAfterDeletion_295 (fun _ _ h => h.elim) (fun r1433 V1434 hP1435 => ?_)
                          rw [hP1435.1, hP1435.2]
                          refine z_st (st' := [va_rf (pa1413 x1)]) rfl ?_
                          refine z_top (v := .ref p) (congrArg va_rf (show (pa1413 x1) = (some p) from (by rw [k1426]))) ?_
                          refine z_callS C (As := [.ref p]) (mJ4_leftOf (o := (some p)) hW1402 (oM hm21)) (lw_S q709 q710 q64 q711) hd_J4_leftOf rfl (Nat.le_of_ble_eq_true rfl) (by decide) (by decide) (by decide) (by decide) rfl dJ4_fixAfterDeletion_298 (fun _ _ h => h.elim) (fun r1436 V1437 hP1438 => ?_)
                          rw [hP1438.1, hP1438.2]
                          refine z_st (st' := [va_rf (lf1414 p)]) rfl ?_
                          refine z_top (v := .ref y921) (congrArg va_rf (show (lf1414 p) = (some y921) from (by rw [k1428]))) ?_
                          refine z_astore_n C [(2, .ref y921), (0, .ref t), (1, .ref x1)] dJ4_fixAfterDeletion_301 rfl (by decide) rfl ?_
                          refine z_aload_n C 0 rfl dJ4_fixAfterDeletion_302 rfl ?_
                          refine z_aload_n C 2 rfl dJ4_fixAfterDeletion_303 rfl ?_
                          refine z_callS C (As := [.ref x1]) (mJ4_parentOf (o := (some x1)) hW1402 (oM hlp_3)) (lw_S q706 q707 q64 q708) hd_J4_parentOf rfl (Nat.le_of_ble_eq_true rfl) (by decide) (by decide) (by decide) (by decide) rfl dJ4_fixAfterDeletion_304 (fun _ _ h => h.elim) (fun r1439 V1440 hP1441 => ?_)
                          rw [hP1441.1, hP1441.2]
                          refine z_st (st' := [va_rf (pa1413 x1), .ref y921]) rfl ?_
                          refine z_top (v := .ref p) (congrArg va_rf (show (pa1413 x1) = (some p) from (by rw [k1426]))) ?_
                          refine z_callS C (As := [.ref p]) (mJ4_colorOf (o := (some p)) hW1402 (oM hm21)) (lw_S q703 q704 q64 q705) hd_J4_colorOf rfl (Nat.le_of_ble_eq_true rfl) (by decide) (by decide) (by decide) (by decide) rfl dJ4_fixAfterDeletion_307 (fun _ _ h => h.elim) (fun r1442 V1443 hP1444 => ?_)
                          rw [hP1444.1, hP1444.2]
                          refine z_st (st' := [.int (zb (cl1392 p)), .ref y921]) rfl ?_
                          refine z_top (v := .int (zb false)) (congrArg (fun c => Value.int (zb c)) (show (cl1392 p) = false from (by rw [k1395]))) ?_
                          refine z_callS C (As := [.ref y921, .int (zb false)]) (mJ4_setColor (o := (some y921)) (c := false) hW1402 (oM hm1084)) (lw_S q715 q716 q64 q717) hd_J4_setColor rfl (Nat.le_of_ble_eq_true rfl) (by decide) (by decide) (by decide) (by decide) rfl dJ4_fixAfterDeletion_310 (fun _ _ h => h.elim) (fun r1445 V1446 hP1447 => ?_)
                          obtain ⟨hW1448, hU1449⟩ := hP1447
                          refine z_st (st' := []) rfl ?_
                          have hU1450 := zUnc.tr (S := tC t L) hU1404 hU1449 (fun _ h => Or.inl h)
                          change tW _ _ _ _ _ _ _ (va_up cl1392 y921 false) _ _ _ _ at hW1448
                          obtain ⟨cl1452, ec1451⟩ : ∃ q, q = va_up cl1392 y921 false := ⟨_, rfl⟩
                          rw [← ec1451] at hW1448
                          have k1453 : cl1452 y921 = false := by rw [ec1451, zvs]
                          have k1454 : cl1452 y888 = false := by rw [ec1451, zvn (Ne.symm nx1086)]; exact k1393
                          have k1455 : cl1452 p = false := by rw [ec1451, zvn nx1379]; exact k1395
                          have k1456 : cl1452 x1 = true := by rw [ec1451, zvn nx1381]; exact k1397
                          have k1457 : cl1452 y1094 = true := by rw [ec1451, zvn nx1383]; exact k1398
                          refine z_aload_n C 2 rfl dJ4_fixAfterDeletion_313 rfl ?_
                          refine z_callS C (As := [.ref x1]) (mJ4_parentOf (o := (some x1)) hW1448 (oM hlp_3)) (lw_S q706 q707 q64 q708) hd_J4_parentOf rfl (Nat.le_of_ble_eq_true rfl) (by decide) (by decide) (by decide) (by decide) rfl dJ4_fixAfterDeletion_314 (fun _ _ h => h.elim) (fun r1458 V1459 hP1460 => ?_)
                          rw [hP1460.1, hP1460.2]
                          refine z_st (st' := [va_rf (pa1413 x1)]) rfl ?_
                          refine z_top (v := .ref p) (congrArg va_rf (show (pa1413 x1) = (some p) from (by rw [k1426]))) ?_
                          refine z_iconst C (v := (nI 1)) dJ4_fixAfterDeletion_317 rfl ?_
                          refine z_st (st' := [.int (zb true), .ref p]) rfl ?_
                          refine z_callS C (As := [.ref p, .int (zb true)]) (mJ4_setColor (o := (some p)) (c := true) hW1448 (oM hm21)) (lw_S q715 q716 q64 q717) hd_J4_setColor rfl (Nat.le_of_ble_eq_true rfl) (by decide) (by decide) (by decide) (by decide) rfl dJ4_fixAfterDeletion_318 (fun _ _ h => h.elim) (fun r1461 V1462 hP1463 => ?_)
                          obtain ⟨hW1464, hU1465⟩ := hP1463
                          refine z_st (st' := []) rfl ?_
                          have hU1466 := zUnc.tr (S := tC t L) hU1450 hU1465 (fun _ h => Or.inl h)
                          change tW _ _ _ _ _ _ _ (va_up cl1452 p true) _ _ _ _ at hW1464
                          obtain ⟨cl1468, ec1467⟩ : ∃ q, q = va_up cl1452 p true := ⟨_, rfl⟩
                          rw [← ec1467] at hW1464
                          have k1469 : cl1468 p = true := by rw [ec1467, zvs]
                          have k1470 : cl1468 y921 = false := by rw [ec1467, zvn (Ne.symm nx1379)]; exact k1453
                          have k1471 : cl1468 y888 = false := by rw [ec1467, zvn nx917]; exact k1454
                          have k1472 : cl1468 x1 = true := by rw [ec1467, zvn nx48]; exact k1456
                          refine z_aload_n C 0 rfl dJ4_fixAfterDeletion_321 rfl ?_
                          refine z_callS C (As := [.ref y921]) (mJ4_leftOf (o := (some y921)) hW1464 (oM hm1084)) (lw_S q709 q710 q64 q711) hd_J4_leftOf rfl (Nat.le_of_ble_eq_true rfl) (by decide) (by decide) (by decide) (by decide) rfl dJ4_fixAfterDeletion_322 (fun _ _ h => h.elim) (fun r1473 V1474 hP1475 => ?_)
                          rw [hP1475.1, hP1475.2]
                          refine z_st (st' := [va_rf (lf1414 y921)]) rfl ?_
                          refine z_top (v := .ref y888) (congrArg va_rf (show (lf1414 y921) = (some y888) from (by rw [k1418]))) ?_
                          refine z_iconst C (v := (nI 1)) dJ4_fixAfterDeletion_325 rfl ?_
                          refine z_st (st' := [.int (zb true), .ref y888]) rfl ?_
                          refine z_callS C (As := [.ref y888, .int (zb true)]) (mJ4_setColor (o := (some y888)) (c := true) hW1464 (oM hm915)) (lw_S q715 q716 q64 q717) hd_J4_setColor rfl (Nat.le_of_ble_eq_true rfl) (by decide) (by decide) (by decide) (by decide) rfl dJ4_fixAfterDeletion_326 (fun _ _ h => h.elim) (fun r1476 V1477 hP1478 => ?_)
                          obtain ⟨hW1479, hU1480⟩ := hP1478
                          refine z_st (st' := []) rfl ?_
                          have hU1481 := zUnc.tr (S := tC t L) hU1466 hU1480 (fun _ h => Or.inl h)
                          change tW _ _ _ _ _ _ _ (va_up cl1468 y888 true) _ _ _ _ at hW1479
                          obtain ⟨cl1483, ec1482⟩ : ∃ q, q = va_up cl1468 y888 true := ⟨_, rfl⟩
                          rw [← ec1482] at hW1479
                          have k1484 : cl1483 y888 = true := by rw [ec1482, zvs]
                          have k1485 : cl1483 p = true := by rw [ec1482, zvn (Ne.symm nx917)]; exact k1469
                          have k1486 : cl1483 y921 = false := by rw [ec1482, zvn nx1086]; exact k1470
                          have k1487 : cl1483 x1 = true := by rw [ec1482, zvn nx1396]; exact k1472
                          refine z_aload_n C 1 rfl dJ4_fixAfterDeletion_329 rfl ?_
                          refine z_aload_n C 2 rfl dJ4_fixAfterDeletion_330 rfl ?_
                          refine z_callS C (As := [.ref x1]) (mJ4_parentOf (o := (some x1)) hW1479 (oM hlp_3)) (lw_S q706 q707 q64 q708) hd_J4_parentOf rfl (Nat.le_of_ble_eq_true rfl) (by decide) (by decide) (by decide) (by decide) rfl dJ4_fixAfterDeletion_331 (fun _ _ h => h.elim) (fun r1488 V1489 hP1490 => ?_)
                          rw [hP1490.1, hP1490.2]
                          refine z_st (st' := [va_rf (pa1413 x1), .ref t]) rfl ?_
                          refine z_top (v := .ref p) (congrArg va_rf (show (pa1413 x1) = (some p) from (by rw [k1426]))) ?_
                          refine z_callV C k_TM hW1479.1 (As := [.ref p]) (mJ4_rotateRight hW1479 hI1405 hm21 k1428) (lw_V q722 q724 qs9 q64 q725) rfl hd_J4_rotateRight rfl (Nat.le_of_ble_eq_true rfl) (by decide) (by decide) (by decide) (by decide) rfl dJ4_fixAfterDeletion_334 (fun _ _ h => h.elim) (fun r1491 V1492 hP1493 => ?_)
                          obtain ⟨hW1494, hU1495⟩ := hP1493
                          refine z_st (st' := []) rfl ?_
                          have hU1496 := zUnc.tr (S := tC t L) hU1481 hU1495 (fun _ h => Or.inl h)
                          have hI1497 := tI_rotR hI1405 hm21 k1428
                          obtain ⟨lf1504, eB1499⟩ : ∃ q, q = xR rg1412 lf1414 p y921 := ⟨_, rfl⟩
                          rw [← eB1499] at hW1494 hI1497
                          obtain ⟨pa1505, eP1500⟩ : ∃ q, q = xP rg1412 pa1413 p y921 := ⟨_, rfl⟩
                          rw [← eP1500] at hW1494 hI1497
                          obtain ⟨rg1506, eA1498⟩ : ∃ q, q = xL rg1412 p y921 := ⟨_, rfl⟩
                          rw [← eA1498] at hW1494 hI1497
                          obtain ⟨rt1507, eT1501⟩ : ∃ q, q = xT rt1415 p y921 := ⟨_, rfl⟩
                          rw [← eT1501] at hW1494 hI1497
                          obtain ⟨lo1508, elo1502⟩ : ∃ q, q = va_up lo1416 p (ps y921 + 1) := ⟨_, rfl⟩
                          rw [← elo1502] at hI1497
                          obtain ⟨hi1509, ehi1503⟩ : ∃ q, q = va_up hi1417 y921 (hi1417 p) := ⟨_, rfl⟩
                          rw [← ehi1503] at hI1497
                          have k1510 : rg1506 y921 = (some p) := by rw [eA1498]; exact xL_r
                          have k1511 : pa1505 p = (some y921) := by rw [eP1500]; exact xP_p
                          have k1512 : lf1504 y921 = (some y888) := by rw [eB1499, xR_o (Ne.symm nx1379) (so_ne k1418 nx917)]; exact k1418
                          have k1513 : pa1505 y888 = (some y921) := by rw [eP1500, xP_o nx917 (Ne.symm nx1086) (hI1405.lr hm1084 k1418)]; exact k1419
                          have k1514 : lf1504 x = none := by rw [eB1499, xR_o nx874 (sn_ne k1423)]; exact k1423
                          have k1515 : rg1506 x = none := by rw [eA1498, xL_o nx1422 (sn_ne k1425)]; exact k1425
                          have k1516 : pa1505 x1 = (some p) := by rw [eP1500, xP_o nx48 nx1381 (fun z => nx1379 (Option.some.inj (k1426.symm.trans (hI1405.mr hm1084 z).2.1)))]; exact k1426
                          have k1517 : rg1506 p = (some x1) := by rw [eA1498, xL_o nx1379 (so_ne k1427 nx48)]; exact k1427
                          have g1518 : lo1508 x1 ≤ ps x := by rw [elo1502, zvn nx48]; exact g1431
                          have g1519 : ps x < hi1509 x1 := by rw [ehi1503, zvn nx1381]; exact g1432
                          refine z_aload_n C 1 rfl dJ4_fixAfterDeletion_337 rfl ?_
                          refine z_get C k_TM hW1494.1 3 (by decide) rfl q162 dJ4_fixAfterDeletion_338 ?_
                          refine z_astore_nQ C (r := rt1507) [(1, va_rf rt1507), (2, .ref y921), (0, .ref t)] dJ4_fixAfterDeletion_341 rfl (by decide) rfl ?_
                          refine z_goto C 0 dJ4_fixAfterDeletion_342 (by decide) ?_
                          refine z_pick [(0, .ref t), (1, va_rf rt1507)] [2, 0] rfl ?_
                          obtain ⟨r01520, hr1521⟩ := hI1497.rtm hlp_3
                          obtain ⟨hm1522, hp1523, -, -⟩ := hI1497.2.1.1 r01520 hr1521
                          have e1524 : (va_rf rt1507 : Value) = .ref r01520 := (congrArg va_rf hr1521)
                          refine z_lv (lv' := [(0, .ref t), (1, .ref r01520)]) (by rw [e1524]) ?_
                          exact hexit V1492 rt1507 lf1504 rg1506 pa1505 cl1483 lo1508 hi1509 r01520 hW1494 hI1497 hU1496 hm1522 hr1521 k1514 k1515
                    · skip
                      have k1525 : (cl846 y921) = true := zb1 c238
                      refine z_aload_n C 0 rfl dJ4_fixAfterDeletion_241 rfl ?_
                      refine z_callS C (As := [.ref y888]) (mJ4_leftOf (o := (some y888)) hW856 (oM hm915)) (lw_S q709 q710 q64 q711) hd_J4_leftOf rfl (Nat.le_of_ble_eq_true rfl) (by decide) (by decide) (by decide) (by decide) rfl dJ4_fixAfterDeletion_242 (fun _ _ h => h.elim) (fun r1526 V1527 hP1528 => ?_)
                      rw [hP1528.1, hP1528.2]
                      refine z_st (st' := [va_rf (lf866 y888)]) rfl ?_
                      rcases hy1530 : lf866 y888 with _ | y1529
                      · skip
                        refine z_callS C (As := [.null]) (mJ4_colorOf (o := none) hW856 oN) (lw_S q703 q704 q64 q705) hd_J4_colorOf rfl (Nat.le_of_ble_eq_true rfl) (by decide) (by decide) (by decide) (by decide) rfl dJ4_fixAfterDeletion_245 (fun _ _ h => h.elim) (fun r1531 V1532 hP1533 => ?_)
                        rw [hP1533.1, hP1533.2]
                        refine z_st (st' := [.int (zb true)]) rfl ?_
                        refine z_iconst C (v := (nI 1)) dJ4_fixAfterDeletion_248 rfl ?_
                        refine z_icmp_ne C 265 dJ4_fixAfterDeletion_249 (by decide) (fun c249 => ?_) (fun c249 => ?_)
                        · skip
                          have k1534 : true = false := zb1f c249
                          cases k1534
                        · skip
                          have k1535 : true = true := zb1 c249
                          refine z_aload_n C 0 rfl dJ4_fixAfterDeletion_252 rfl ?_
                          refine z_iconst C (v := (nI 0)) dJ4_fixAfterDeletion_253 rfl ?_
                          refine z_st (st' := [.int (zb false), .ref y888]) rfl ?_
                          refine z_callS C (As := [.ref y888, .int (zb false)]) (mJ4_setColor (o := (some y888)) (c := false) hW856 (oM hm915)) (lw_S q715 q716 q64 q717) hd_J4_setColor rfl (Nat.le_of_ble_eq_true rfl) (by decide) (by decide) (by decide) (by decide) rfl dJ4_fixAfterDeletion_254 (fun _ _ h => h.elim) (fun r1536 V1537 hP1538 => ?_)
                          obtain ⟨hW1539, hU1540⟩ := hP1538
                          refine z_st (st' := []) rfl ?_
                          have hU1541 := zUnc.tr (S := tC t L) hU858 hU1540 (fun _ h => Or.inl h)
                          change tW _ _ _ _ _ _ _ (va_up cl846 y888 false) _ _ _ _ at hW1539
                          obtain ⟨cl1543, ec1542⟩ : ∃ q, q = va_up cl846 y888 false := ⟨_, rfl⟩
                          rw [← ec1542] at hW1539
                          have k1544 : cl1543 y888 = false := by rw [ec1542, zvs]
                          have k1545 : cl1543 p = false := by rw [ec1542, zvn (Ne.symm nx917)]; exact k847
                          have nx1546 : y55 ≠ y888 := (Ne.symm (tI.gg hI859 hm915 hp916 hm21 k873))
                          have k1547 : cl1543 y55 = true := by rw [ec1542, zvn nx1546]; exact k848
                          have nx1548 : x1 ≠ y888 := (Ne.symm (tI.sib hI859 hm21 hy889 k879))
                          have k1549 : cl1543 x1 = true := by rw [ec1542, zvn nx1548]; exact k849
                          have k1550 : cl1543 y921 = true := by rw [ec1542, zvn nx1086]; exact k1525
                          refine z_aload_n C 2 rfl dJ4_fixAfterDeletion_257 rfl ?_
                          refine z_callS C (As := [.ref x1]) (mJ4_parentOf (o := (some x1)) hW1539 (oM hlp_3)) (lw_S q706 q707 q64 q708) hd_J4_parentOf rfl (Nat.le_of_ble_eq_true rfl) (by decide) (by decide) (by decide) (by decide) rfl dJ4_fixAfterDeletion_258 (fun _ _ h => h.elim) (fun r1551 V1552 hP1553 => ?_)
                          rw [hP1553.1, hP1553.2]
                          refine z_st (st' := [va_rf (pa867 x1)]) rfl ?_
                          refine z_top (v := .ref p) (congrArg va_rf (show (pa867 x1) = (some p) from (by rw [k878]))) ?_
                          refine z_astore_n C [(1, .ref p), (2, .ref y888), (0, .ref t)] dJ4_fixAfterDeletion_261 rfl (by decide) rfl ?_
                          refine z_goto C 342 dJ4_fixAfterDeletion_262 (by decide) ?_
                          refine z_goto C 0 dJ4_fixAfterDeletion_342 (by decide) ?_
                          refine z_pick [(0, .ref t), (1, .ref p)] [2, 0] rfl ?_
                          have q1 := (hI859.mp hlp_3 k878).2
                          have qa := congrFun elo864 x1
                          rw [zvn nx48] at qa
                          have qb := congrFun ehi865 x1
                          rw [zvn nx834] at qb
                          exact ih_lp V1537 rt869 lf866 rg868 pa867 cl1543 lo870 hi871 p hW1539 hI859 hU1541 hm21 k875 k877 (Nat.le_trans (hI859.le hlp_3 k878).1 g880) (Nat.lt_of_lt_of_le g881 (hI859.le hlp_3 k878).2) (by omega)
                      · skip
                        obtain ⟨hm1554, hp1555, nx1556⟩ := hI859.ml hm915 hy1530
                        refine z_callS C (As := [.ref y1529]) (mJ4_colorOf (o := (some y1529)) hW856 (oM hm1554)) (lw_S q703 q704 q64 q705) hd_J4_colorOf rfl (Nat.le_of_ble_eq_true rfl) (by decide) (by decide) (by decide) (by decide) rfl dJ4_fixAfterDeletion_245 (fun _ _ h => h.elim) (fun r1557 V1558 hP1559 => ?_)
                        rw [hP1559.1, hP1559.2]
                        refine z_st (st' := [.int (zb (cl846 y1529))]) rfl ?_
                        refine z_iconst C (v := (nI 1)) dJ4_fixAfterDeletion_248 rfl ?_
                        refine z_icmp_ne C 265 dJ4_fixAfterDeletion_249 (by decide) (fun c249 => ?_) (fun c249 => ?_)
                        · skip
                          have k1560 : (cl846 y1529) = false := zb1f c249
                          refine z_aload_n C 0 rfl dJ4_fixAfterDeletion_265 rfl ?_
                          refine z_callS C (As := [.ref y888]) (mJ4_leftOf (o := (some y888)) hW856 (oM hm915)) (lw_S q709 q710 q64 q711) hd_J4_leftOf rfl (Nat.le_of_ble_eq_true rfl) (by decide) (by decide) (by decide) (by decide) rfl dJ4_fixAfterDeletion_266 (fun _ _ h => h.elim) (fun r1561 V1562 hP1563 => ?_)
                          rw [hP1563.1, hP1563.2]
                          refine z_st (st' := [va_rf (lf866 y888)]) rfl ?_
                          refine z_top (v := .ref y1529) (congrArg va_rf (show (lf866 y888) = (some y1529) from (by rw [hy1530]))) ?_
                          refine z_callS C (As := [.ref y1529]) (mJ4_colorOf (o := (some y1529)) hW856 (oM hm1554)) (lw_S q703 q704 q64 q705) hd_J4_colorOf rfl (Nat.le_of_ble_eq_true rfl) (by decide) (by decide) (by decide) (by decide) rfl dJ4_fixAfterDeletion_269 (fun _ _ h => h.elim) (fun r1564 V1565 hP1566 => ?_)
                          rw [hP1566.1, hP1566.2]
                          refine z_st (st' := [.int (zb (cl846 y1529))]) rfl ?_
                          refine z_top (v := .int (zb false)) (congrArg (fun c => Value.int (zb c)) (show (cl846 y1529) = false from (by rw [k1560]))) ?_
                          refine z_iconst C (v := (nI 1)) dJ4_fixAfterDeletion_272 rfl ?_
                          refine z_icmp_ne C 302 dJ4_fixAfterDeletion_273 (by decide) (fun c273 => ?_) (fun c273 => ?_)
                          · skip
                            have k1567 : false = false := zb1f c273
                            refine z_aload_n C 0 rfl dJ4_fixAfterDeletion_302 rfl ?_
                            refine z_aload_n C 2 rfl dJ4_fixAfterDeletion_303 rfl ?_
                            refine z_callS C (As := [.ref x1]) (mJ4_parentOf (o := (some x1)) hW856 (oM hlp_3)) (lw_S q706 q707 q64 q708) hd_J4_parentOf rfl (Nat.le_of_ble_eq_true rfl) (by decide) (by decide) (by decide) (by decide) rfl dJ4_fixAfterDeletion_304 (fun _ _ h => h.elim) (fun r1568 V1569 hP1570 => ?_)
                            rw [hP1570.1, hP1570.2]
                            refine z_st (st' := [va_rf (pa867 x1), .ref y888]) rfl ?_
                            refine z_top (v := .ref p) (congrArg va_rf (show (pa867 x1) = (some p) from (by rw [k878]))) ?_
                            refine z_callS C (As := [.ref p]) (mJ4_colorOf (o := (some p)) hW856 (oM hm21)) (lw_S q703 q704 q64 q705) hd_J4_colorOf rfl (Nat.le_of_ble_eq_true rfl) (by decide) (by decide) (by decide) (by decide) rfl dJ4_fixAfterDeletion_307 (fun _ _ h => h.elim) (fun r1571 V1572 hP1573 => ?_)
                            rw [hP1573.1, hP1573.2]
                            refine z_st (st' := [.int (zb (cl846 p)), .ref y888]) rfl ?_
                            refine z_top (v := .int (zb false)) (congrArg (fun c => Value.int (zb c)) (show (cl846 p) = false from (by rw [k847]))) ?_
                            refine z_callS C (As := [.ref y888, .int (zb false)]) (mJ4_setColor (o := (some y888)) (c := false) hW856 (oM hm915)) (lw_S q715 q716 q64 q717) hd_J4_setColor rfl (Nat.le_of_ble_eq_true rfl) (by decide) (by decide) (by decide) (by decide) rfl dJ4_fixAfterDeletion_310 (fun _ _ h => h.elim) (fun r1574 V1575 hP1576 => ?_)
                            obtain ⟨hW1577, hU1578⟩ := hP1576
                            refine z_st (st' := []) rfl ?_
                            have hU1579 := zUnc.tr (S := tC t L) hU858 hU1578 (fun _ h => Or.inl h)
                            change tW _ _ _ _ _ _ _ (va_up cl846 y888 false) _ _ _ _ at hW1577
                            obtain ⟨cl1581, ec1580⟩ : ∃ q, q = va_up cl846 y888 false := ⟨_, rfl⟩
                            rw [← ec1580] at hW1577
                            have k1582 : cl1581 y888 = false := by rw [ec1580, zvs]
                            have k1583 : cl1581 p = false := by rw [ec1580, zvn (Ne.symm nx917)]; exact k847
                            have nx1584 : y55 ≠ y888 := (Ne.symm (tI.gg hI859 hm915 hp916 hm21 k873))
                            have k1585 : cl1581 y55 = true := by rw [ec1580, zvn nx1584]; exact k848
                            have nx1586 : x1 ≠ y888 := (Ne.symm (tI.sib hI859 hm21 hy889 k879))
                            have k1587 : cl1581 x1 = true := by rw [ec1580, zvn nx1586]; exact k849
                            have k1588 : cl1581 y921 = true := by rw [ec1580, zvn nx1086]; exact k1525
                            have k1589 : cl1581 y1529 = false := by rw [ec1580, zvn nx1556]; exact k1560
                            refine z_aload_n C 2 rfl dJ4_fixAfterDeletion_313 rfl ?_
                            refine z_callS C (As := [.ref x1]) (mJ4_parentOf (o := (some x1)) hW1577 (oM hlp_3)) (lw_S q706 q707 q64 q708) hd_J4_parentOf rfl (Nat.le_of_ble_eq_true rfl) (by decide) (by decide) (by decide) (by decide) rfl dJ4_fixAfterDeletion_314 (fun _ _ h => h.elim) (fun r1590 V1591 hP1592 => ?_)
                            rw [hP1592.1, hP1592.2]
                            refine z_st (st' := [va_rf (pa867 x1)]) rfl ?_
                            refine z_top (v := .ref p) (congrArg va_rf (show (pa867 x1) = (some p) from (by rw [k878]))) ?_
                            refine z_iconst C (v := (nI 1)) dJ4_fixAfterDeletion_317 rfl ?_
                            refine z_st (st' := [.int (zb true), .ref p]) rfl ?_
                            refine z_callS C (As := [.ref p, .int (zb true)]) (mJ4_setColor (o := (some p)) (c := true) hW1577 (oM hm21)) (lw_S q715 q716 q64 q717) hd_J4_setColor rfl (Nat.le_of_ble_eq_true rfl) (by decide) (by decide) (by decide) (by decide) rfl dJ4_fixAfterDeletion_318 (fun _ _ h => h.elim) (fun r1593 V1594 hP1595 => ?_)
                            obtain ⟨hW1596, hU1597⟩ := hP1595
                            refine z_st (st' := []) rfl ?_
                            have hU1598 := zUnc.tr (S := tC t L) hU1579 hU1597 (fun _ h => Or.inl h)
                            change tW _ _ _ _ _ _ _ (va_up cl1581 p true) _ _ _ _ at hW1596
                            obtain ⟨cl1600, ec1599⟩ : ∃ q, q = va_up cl1581 p true := ⟨_, rfl⟩
                            rw [← ec1599] at hW1596
                            have k1601 : cl1600 p = true := by rw [ec1599, zvs]
                            have k1602 : cl1600 y888 = false := by rw [ec1599, zvn nx917]; exact k1582
                            have k1603 : cl1600 y55 = true := by rw [ec1599, zvn nx89]; exact k1585
                            have k1604 : cl1600 x1 = true := by rw [ec1599, zvn nx48]; exact k1587
                            have nx1605 : y921 ≠ p := (tI.gg hI859 hm1084 hp1085 hm915 hp916)
                            have k1606 : cl1600 y921 = true := by rw [ec1599, zvn nx1605]; exact k1588
                            have nx1607 : y1529 ≠ p := (tI.gg hI859 hm1554 hp1555 hm915 hp916)
                            have k1608 : cl1600 y1529 = false := by rw [ec1599, zvn nx1607]; exact k1589
                            refine z_aload_n C 0 rfl dJ4_fixAfterDeletion_321 rfl ?_
                            refine z_callS C (As := [.ref y888]) (mJ4_leftOf (o := (some y888)) hW1596 (oM hm915)) (lw_S q709 q710 q64 q711) hd_J4_leftOf rfl (Nat.le_of_ble_eq_true rfl) (by decide) (by decide) (by decide) (by decide) rfl dJ4_fixAfterDeletion_322 (fun _ _ h => h.elim) (fun r1609 V1610 hP1611 => ?_)
                            rw [hP1611.1, hP1611.2]
                            refine z_st (st' := [va_rf (lf866 y888)]) rfl ?_
                            refine z_top (v := .ref y1529) (congrArg va_rf (show (lf866 y888) = (some y1529) from (by rw [hy1530]))) ?_
                            refine z_iconst C (v := (nI 1)) dJ4_fixAfterDeletion_325 rfl ?_
                            refine z_st (st' := [.int (zb true), .ref y1529]) rfl ?_
                            refine z_callS C (As := [.ref y1529, .int (zb true)]) (mJ4_setColor (o := (some y1529)) (c := true) hW1596 (oM hm1554)) (lw_S q715 q716 q64 q717) hd_J4_setColor rfl (Nat.le_of_ble_eq_true rfl) (by decide) (by decide) (by decide) (by decide) rfl dJ4_fixAfterDeletion_326 (fun _ _ h => h.elim) (fun r1612 V1613 hP1614 => ?_)
                            obtain ⟨hW1615, hU1616⟩ := hP1614
                            refine z_st (st' := []) rfl ?_
                            have hU1617 := zUnc.tr (S := tC t L) hU1598 hU1616 (fun _ h => Or.inl h)
                            change tW _ _ _ _ _ _ _ (va_up cl1600 y1529 true) _ _ _ _ at hW1615
                            obtain ⟨cl1619, ec1618⟩ : ∃ q, q = va_up cl1600 y1529 true := ⟨_, rfl⟩
                            rw [← ec1618] at hW1615
                            have k1620 : cl1619 y1529 = true := by rw [ec1618, zvs]
                            have k1621 : cl1619 p = true := by rw [ec1618, zvn (Ne.symm nx1607)]; exact k1601
                            have k1622 : cl1619 y888 = false := by rw [ec1618, zvn (Ne.symm nx1556)]; exact k1602
                            have nx1623 : x1 ≠ y1529 := (ne_pa k878 hp1555 (Ne.symm nx917))
                            have k1624 : cl1619 x1 = true := by rw [ec1618, zvn nx1623]; exact k1604
                            have nx1625 : y921 ≠ y1529 := (Ne.symm (tI.sib hI859 hm915 hy1530 hy922))
                            have k1626 : cl1619 y921 = true := by rw [ec1618, zvn nx1625]; exact k1606
                            refine z_aload_n C 1 rfl dJ4_fixAfterDeletion_329 rfl ?_
                            refine z_aload_n C 2 rfl dJ4_fixAfterDeletion_330 rfl ?_
                            refine z_callS C (As := [.ref x1]) (mJ4_parentOf (o := (some x1)) hW1615 (oM hlp_3)) (lw_S q706 q707 q64 q708) hd_J4_parentOf rfl (Nat.le_of_ble_eq_true rfl) (by decide) (by decide) (by decide) (by decide) rfl dJ4_fixAfterDeletion_331 (fun _ _ h => h.elim) (fun r1627 V1628 hP1629 => ?_)
                            rw [hP1629.1, hP1629.2]
                            refine z_st (st' := [va_rf (pa867 x1), .ref t]) rfl ?_
                            refine z_top (v := .ref p) (congrArg va_rf (show (pa867 x1) = (some p) from (by rw [k878]))) ?_
                            refine z_callV C k_TM hW1615.1 (As := [.ref p]) (mJ4_rotateRight hW1615 hI859 hm21 hy889) (lw_V q722 q724 qs9 q64 q725) rfl hd_J4_rotateRight rfl (Nat.le_of_ble_eq_true rfl) (by decide) (by decide) (by decide) (by decide) rfl dJ4_fixAfterDeletion_334 (fun _ _ h => h.elim) (fun r1630 V1631 hP1632 => ?_)
                            obtain ⟨hW1633, hU1634⟩ := hP1632
                            refine z_st (st' := []) rfl ?_
                            have hU1635 := zUnc.tr (S := tC t L) hU1617 hU1634 (fun _ h => Or.inl h)
                            have hI1636 := tI_rotR hI859 hm21 hy889
                            obtain ⟨lf1643, eB1638⟩ : ∃ q, q = xR rg868 lf866 p y888 := ⟨_, rfl⟩
                            rw [← eB1638] at hW1633 hI1636
                            obtain ⟨pa1644, eP1639⟩ : ∃ q, q = xP rg868 pa867 p y888 := ⟨_, rfl⟩
                            rw [← eP1639] at hW1633 hI1636
                            obtain ⟨rg1645, eA1637⟩ : ∃ q, q = xL rg868 p y888 := ⟨_, rfl⟩
                            rw [← eA1637] at hW1633 hI1636
                            obtain ⟨rt1646, eT1640⟩ : ∃ q, q = xT rt869 p y888 := ⟨_, rfl⟩
                            rw [← eT1640] at hW1633 hI1636
                            obtain ⟨lo1647, elo1641⟩ : ∃ q, q = va_up lo870 p (ps y888 + 1) := ⟨_, rfl⟩
                            rw [← elo1641] at hI1636
                            obtain ⟨hi1648, ehi1642⟩ : ∃ q, q = va_up hi871 y888 (hi871 p) := ⟨_, rfl⟩
                            rw [← ehi1642] at hI1636
                            have k1649 : rg1645 y888 = (some p) := by rw [eA1637]; exact xL_r
                            have k1650 : pa1644 p = (some y888) := by rw [eP1639]; exact xP_p
                            have k1651 : lf1643 p = (some y921) := by rw [eB1638, xR_p]; exact hy922
                            have k1652 : pa1644 y888 = (some y55) := by rw [eP1639, xP_r nx917]; exact k873
                            have k1653 : rg1645 y55 = (some y888) := by rw [eA1637]; exact xL_u nx1584 k872
                            have k1654 : lf1643 x = none := by rw [eB1638, xR_o nx874 (sn_ne k875)]; exact k875
                            have nx1655 : x ≠ y888 := (fn_ne k875 hy1530)
                            have k1656 : rg1645 x = none := by rw [eA1637, xL_o nx1655 (sn_ne k877)]; exact k877
                            have nx1657 : y921 ≠ x1 := (ne_pa hp1085 k878 nx917)
                            have k1658 : pa1644 x1 = (some p) := by rw [eP1639, xP_o nx48 nx1586 (so_ne hy922 nx1657)]; exact k878
                            have k1659 : rg1645 p = (some x1) := by rw [eA1637, xL_o (Ne.symm nx917) (so_ne k879 nx48)]; exact k879
                            have k1660 : pa1644 y921 = (some p) := by rw [eP1639]; exact xP_c nx1605 nx1086 hy922
                            have k1661 : lf1643 y888 = (some y1529) := by rw [eB1638, xR_o nx917 (so_ne hy1530 nx1607)]; exact hy1530
                            have k1662 : pa1644 y1529 = (some y888) := by rw [eP1639, xP_o nx1607 nx1556 (so_ne hy922 nx1625)]; exact hp1555
                            have g1663 : lo1647 x1 ≤ ps x := by rw [elo1641, zvn nx48]; exact g880
                            have g1664 : ps x < hi1648 x1 := by rw [ehi1642, zvn nx1586]; exact g881
                            refine z_aload_n C 1 rfl dJ4_fixAfterDeletion_337 rfl ?_
                            refine z_get C k_TM hW1633.1 3 (by decide) rfl q162 dJ4_fixAfterDeletion_338 ?_
                            refine z_astore_nQ C (r := rt1646) [(1, va_rf rt1646), (2, .ref y888), (0, .ref t)] dJ4_fixAfterDeletion_341 rfl (by decide) rfl ?_
                            refine z_goto C 0 dJ4_fixAfterDeletion_342 (by decide) ?_
                            refine z_pick [(0, .ref t), (1, va_rf rt1646)] [2, 0] rfl ?_
                            obtain ⟨r01665, hr1666⟩ := hI1636.rtm hlp_3
                            obtain ⟨hm1667, hp1668, -, -⟩ := hI1636.2.1.1 r01665 hr1666
                            have e1669 : (va_rf rt1646 : Value) = .ref r01665 := (congrArg va_rf hr1666)
                            refine z_lv (lv' := [(0, .ref t), (1, .ref r01665)]) (by rw [e1669]) ?_
                            exact hexit V1631 rt1646 lf1643 rg1645 pa1644 cl1619 lo1647 hi1648 r01665 hW1633 hI1636 hU1635 hm1667 hr1666 k1654 k1656
                          · skip
                            have k1670 : false = true := zb1 c273
                            cases k1670
                        · skip
                          have k1671 : (cl846 y1529) = true := zb1 c249
                          refine z_aload_n C 0 rfl dJ4_fixAfterDeletion_252 rfl ?_
                          refine z_iconst C (v := (nI 0)) dJ4_fixAfterDeletion_253 rfl ?_
                          refine z_st (st' := [.int (zb false), .ref y888]) rfl ?_
                          refine z_callS C (As := [.ref y888, .int (zb false)]) (mJ4_setColor (o := (some y888)) (c := false) hW856 (oM hm915)) (lw_S q715 q716 q64 q717) hd_J4_setColor rfl (Nat.le_of_ble_eq_true rfl) (by decide) (by decide) (by decide) (by decide) rfl dJ4_fixAfterDeletion_254 (fun _ _ h => h.elim) (fun r1672 V1673 hP1674 => ?_)
                          obtain ⟨hW1675, hU1676⟩ := hP1674
                          refine z_st (st' := []) rfl ?_
                          have hU1677 := zUnc.tr (S := tC t L) hU858 hU1676 (fun _ h => Or.inl h)
                          change tW _ _ _ _ _ _ _ (va_up cl846 y888 false) _ _ _ _ at hW1675
                          obtain ⟨cl1679, ec1678⟩ : ∃ q, q = va_up cl846 y888 false := ⟨_, rfl⟩
                          rw [← ec1678] at hW1675
                          have k1680 : cl1679 y888 = false := by rw [ec1678, zvs]
                          have k1681 : cl1679 p = false := by rw [ec1678, zvn (Ne.symm nx917)]; exact k847
                          have nx1682 : y55 ≠ y888 := (Ne.symm (tI.gg hI859 hm915 hp916 hm21 k873))
                          have k1683 : cl1679 y55 = true := by rw [ec1678, zvn nx1682]; exact k848
                          have nx1684 : x1 ≠ y888 := (Ne.symm (tI.sib hI859 hm21 hy889 k879))
                          have k1685 : cl1679 x1 = true := by rw [ec1678, zvn nx1684]; exact k849
                          have k1686 : cl1679 y921 = true := by rw [ec1678, zvn nx1086]; exact k1525
                          have k1687 : cl1679 y1529 = true := by rw [ec1678, zvn nx1556]; exact k1671
                          refine z_aload_n C 2 rfl dJ4_fixAfterDeletion_257 rfl ?_
                          refine z_callS C (As := [.ref x1]) (mJ4_parentOf (o := (some x1)) hW1675 (oM hlp_3)) (lw_S q706 q707 q64 q708) hd_J4_parentOf rfl (Nat.le_of_ble_eq_true rfl) (by decide) (by decide) (by decide) (by decide) rfl dJ4_fixAfterDeletion_258 (fun _ _ h => h.elim) (fun r1688 V1689 hP1690 => ?_)
                          rw [hP1690.1, hP1690.2]
                          refine z_st (st' := [va_rf (pa867 x1)]) rfl ?_
                          refine z_top (v := .ref p) (congrArg va_rf (show (pa867 x1) = (some p) from (by rw [k878]))) ?_
                          refine z_astore_n C [(1, .ref p), (2, .ref y888), (0, .ref t)] dJ4_fixAfterDeletion_261 rfl (by decide) rfl ?_
                          refine z_goto C 342 dJ4_fixAfterDeletion_262 (by decide) ?_
                          refine z_goto C 0 dJ4_fixAfterDeletion_342 (by decide) ?_
                          refine z_pick [(0, .ref t), (1, .ref p)] [2, 0] rfl ?_
                          have q1 := (hI859.mp hlp_3 k878).2
                          have qa := congrFun elo864 x1
                          rw [zvn nx48] at qa
                          have qb := congrFun ehi865 x1
                          rw [zvn nx834] at qb
                          exact ih_lp V1673 rt869 lf866 rg868 pa867 cl1679 lo870 hi871 p hW1675 hI859 hU1677 hm21 k875 k877 (Nat.le_trans (hI859.le hlp_3 k878).1 g880) (Nat.lt_of_lt_of_le g881 (hI859.le hlp_3 k878).2) (by omega)
          · skip
            have k1691 : lf1 p = (some x1) := Eq.symm c24
            obtain ⟨hm1692, hp1693, nx1694⟩ := hlp_1.ml hm21 k1691
            refine z_aload_n C 1 rfl dJ4_fixAfterDeletion_27 rfl ?_
            refine z_callS C (As := [.ref x1]) (mJ4_parentOf (o := (some x1)) hlp_0 (oM hlp_3)) (lw_S q706 q707 q64 q708) hd_J4_parentOf rfl (Nat.le_of_ble_eq_true rfl) (by decide) (by decide) (by decide) (by decide) rfl dJ4_fixAfterDeletion_28 (fun _ _ h => h.elim) (fun r1695 V1696 hP1697 => ?_)
            rw [hP1697.1, hP1697.2]
            refine z_st (st' := [va_rf (pa1 x1)]) rfl ?_
            refine z_top (v := .ref p) (congrArg va_rf (show (pa1 x1) = (some p) from (by rw [hp]))) ?_
            refine z_callS C (As := [.ref p]) (mJ4_rightOf (o := (some p)) hlp_0 (oM hm21)) (lw_S q712 q713 q64 q714) hd_J4_rightOf rfl (Nat.le_of_ble_eq_true rfl) (by decide) (by decide) (by decide) (by decide) rfl dJ4_fixAfterDeletion_31 (fun _ _ h => h.elim) (fun r1698 V1699 hP1700 => ?_)
            rw [hP1700.1, hP1700.2]
            refine z_st (st' := [va_rf (rg1 p)]) rfl ?_
            refine z_astore_nQ C (r := (rg1 p)) [(2, va_rf (rg1 p)), (0, .ref t), (1, .ref x1)] dJ4_fixAfterDeletion_34 rfl (by decide) rfl ?_
            refine z_aload_nQ C 0 (r := (rg1 p)) rfl dJ4_fixAfterDeletion_35 rfl ?_
            rcases hy1702 : rg1 p with _ | y1701
            · skip
              refine z_callS C (As := [.null]) (mJ4_colorOf (o := none) hlp_0 oN) (lw_S q703 q704 q64 q705) hd_J4_colorOf rfl (Nat.le_of_ble_eq_true rfl) (by decide) (by decide) (by decide) (by decide) rfl dJ4_fixAfterDeletion_36 (fun _ _ h => h.elim) (fun r1703 V1704 hP1705 => ?_)
              rw [hP1705.1, hP1705.2]
              refine z_st (st' := [.int (zb true)]) rfl ?_
              refine z_if_neB C 71 dJ4_fixAfterDeletion_39 (by decide) (fun c39 => ?_) (fun c39 => ?_)
              · skip
                have k1706 : true = true := c39
                refine z_aload_nQ C 0 (r := none) rfl dJ4_fixAfterDeletion_71 rfl ?_
                refine z_callS C (As := [.null]) (mJ4_leftOf (o := none) hlp_0 oN) (lw_S q709 q710 q64 q711) hd_J4_leftOf rfl (Nat.le_of_ble_eq_true rfl) (by decide) (by decide) (by decide) (by decide) rfl dJ4_fixAfterDeletion_72 (fun _ _ h => h.elim) (fun r1707 V1708 hP1709 => ?_)
                rw [hP1709.1, hP1709.2]
                refine z_st (st' := [.null]) rfl ?_
                refine z_callS C (As := [.null]) (mJ4_colorOf (o := none) hlp_0 oN) (lw_S q703 q704 q64 q705) hd_J4_colorOf rfl (Nat.le_of_ble_eq_true rfl) (by decide) (by decide) (by decide) (by decide) rfl dJ4_fixAfterDeletion_75 (fun _ _ h => h.elim) (fun r1710 V1711 hP1712 => ?_)
                rw [hP1712.1, hP1712.2]
                refine z_st (st' := [.int (zb true)]) rfl ?_
                refine z_iconst C (v := (nI 1)) dJ4_fixAfterDeletion_78 rfl ?_
                refine z_icmp_ne C 106 dJ4_fixAfterDeletion_79 (by decide) (fun c79 => ?_) (fun c79 => ?_)
                · skip
                  have k1713 : true = false := zb1f c79
                  cases k1713
                · skip
                  have k1714 : true = true := zb1 c79
                  refine z_aload_nQ C 0 (r := none) rfl dJ4_fixAfterDeletion_82 rfl ?_
                  refine z_callS C (As := [.null]) (mJ4_rightOf (o := none) hlp_0 oN) (lw_S q712 q713 q64 q714) hd_J4_rightOf rfl (Nat.le_of_ble_eq_true rfl) (by decide) (by decide) (by decide) (by decide) rfl dJ4_fixAfterDeletion_83 (fun _ _ h => h.elim) (fun r1715 V1716 hP1717 => ?_)
                  rw [hP1717.1, hP1717.2]
                  refine z_st (st' := [.null]) rfl ?_
                  refine z_callS C (As := [.null]) (mJ4_colorOf (o := none) hlp_0 oN) (lw_S q703 q704 q64 q705) hd_J4_colorOf rfl (Nat.le_of_ble_eq_true rfl) (by decide) (by decide) (by decide) (by decide) rfl dJ4_fixAfterDeletion_86 (fun _ _ h => h.elim) (fun r1718 V1719 hP1720 => ?_)
                  rw [hP1720.1, hP1720.2]
                  refine z_st (st' := [.int (zb true)]) rfl ?_
                  refine z_iconst C (v := (nI 1)) dJ4_fixAfterDeletion_89 rfl ?_
                  refine z_icmp_ne C 106 dJ4_fixAfterDeletion_90 (by decide) (fun c90 => ?_) (fun c90 => ?_)
                  · skip
                    have k1721 : true = false := zb1f c90
                    cases k1721
                  · skip
                    have k1722 : true = true := zb1 c90
                    refine z_aload_nQ C 0 (r := none) rfl dJ4_fixAfterDeletion_93 rfl ?_
                    refine z_iconst C (v := (nI 0)) dJ4_fixAfterDeletion_94 rfl ?_
                    refine z_st (st' := [.int (zb false), .null]) rfl ?_
                    refine z_callS C (As := [.null, .int (zb false)]) (mJ4_setColor (o := none) (c := false) hlp_0 oN) (lw_S q715 q716 q64 q717) hd_J4_setColor rfl (Nat.le_of_ble_eq_true rfl) (by decide) (by decide) (by decide) (by decide) rfl dJ4_fixAfterDeletion_95 (fun _ _ h => h.elim) (fun r1723 V1724 hP1725 => ?_)
                    obtain ⟨hW1726, hU1727⟩ := hP1725
                    refine z_st (st' := []) rfl ?_
                    have hU1728 := zUnc.tr (S := tC t L) hlp_2 hU1727 (fun _ h => Or.inl h)
                    change tW _ _ _ _ _ _ _ cl1 _ _ _ _ at hW1726
                    refine z_aload_n C 2 rfl dJ4_fixAfterDeletion_98 rfl ?_
                    refine z_callS C (As := [.ref x1]) (mJ4_parentOf (o := (some x1)) hW1726 (oM hlp_3)) (lw_S q706 q707 q64 q708) hd_J4_parentOf rfl (Nat.le_of_ble_eq_true rfl) (by decide) (by decide) (by decide) (by decide) rfl dJ4_fixAfterDeletion_99 (fun _ _ h => h.elim) (fun r1729 V1730 hP1731 => ?_)
                    rw [hP1731.1, hP1731.2]
                    refine z_st (st' := [va_rf (pa1 x1)]) rfl ?_
                    refine z_top (v := .ref p) (congrArg va_rf (show (pa1 x1) = (some p) from (by rw [hp]))) ?_
                    refine z_astore_n C [(1, .ref p), (2, .null), (0, .ref t)] dJ4_fixAfterDeletion_102 rfl (by decide) rfl ?_
                    refine z_goto C 183 dJ4_fixAfterDeletion_103 (by decide) ?_
                    refine z_goto C 0 dJ4_fixAfterDeletion_183 (by decide) ?_
                    refine z_pick [(0, .ref t), (1, .ref p)] [2, 0] rfl ?_
                    have q1 := (hlp_1.mp hlp_3 hp).2
                    exact ih_lp V1724 rt1 lf1 rg1 pa1 cl1 lo1 hi1 p hW1726 hlp_1 hU1728 hm21 hlp_4 hlp_5 (Nat.le_trans (hlp_1.le hlp_3 hp).1 hlp_6) (Nat.lt_of_lt_of_le hlp_7 (hlp_1.le hlp_3 hp).2) (by omega)
              · skip
                have k1732 : true = false := c39
                cases k1732
            · skip
              obtain ⟨hm1733, hp1734, nx1735⟩ := hlp_1.mr hm21 hy1702
              refine z_callS C (As := [.ref y1701]) (mJ4_colorOf (o := (some y1701)) hlp_0 (oM hm1733)) (lw_S q703 q704 q64 q705) hd_J4_colorOf rfl (Nat.le_of_ble_eq_true rfl) (by decide) (by decide) (by decide) (by decide) rfl dJ4_fixAfterDeletion_36 (fun _ _ h => h.elim) (fun r1736 V1737 hP1738 => ?_)
              rw [hP1738.1, hP1738.2]
              refine z_st (st' := [.int (zb (cl1 y1701))]) rfl ?_
              refine z_if_neB C 71 dJ4_fixAfterDeletion_39 (by decide) (fun c39 => ?_) (fun c39 => ?_)
              · skip
                have k1739 : (cl1 y1701) = true := c39
                refine z_aload_n C 0 rfl dJ4_fixAfterDeletion_71 rfl ?_
                refine z_callS C (As := [.ref y1701]) (mJ4_leftOf (o := (some y1701)) hlp_0 (oM hm1733)) (lw_S q709 q710 q64 q711) hd_J4_leftOf rfl (Nat.le_of_ble_eq_true rfl) (by decide) (by decide) (by decide) (by decide) rfl dJ4_fixAfterDeletion_72 (fun _ _ h => h.elim) (fun r1740 V1741 hP1742 => ?_)
                rw [hP1742.1, hP1742.2]
                refine z_st (st' := [va_rf (lf1 y1701)]) rfl ?_
                rcases hy1744 : lf1 y1701 with _ | y1743
                · skip
                  refine z_callS C (As := [.null]) (mJ4_colorOf (o := none) hlp_0 oN) (lw_S q703 q704 q64 q705) hd_J4_colorOf rfl (Nat.le_of_ble_eq_true rfl) (by decide) (by decide) (by decide) (by decide) rfl dJ4_fixAfterDeletion_75 (fun _ _ h => h.elim) (fun r1745 V1746 hP1747 => ?_)
                  rw [hP1747.1, hP1747.2]
                  refine z_st (st' := [.int (zb true)]) rfl ?_
                  refine z_iconst C (v := (nI 1)) dJ4_fixAfterDeletion_78 rfl ?_
                  refine z_icmp_ne C 106 dJ4_fixAfterDeletion_79 (by decide) (fun c79 => ?_) (fun c79 => ?_)
                  · skip
                    have k1748 : true = false := zb1f c79
                    cases k1748
                  · skip
                    have k1749 : true = true := zb1 c79
                    refine z_aload_n C 0 rfl dJ4_fixAfterDeletion_82 rfl ?_
                    refine z_callS C (As := [.ref y1701]) (mJ4_rightOf (o := (some y1701)) hlp_0 (oM hm1733)) (lw_S q712 q713 q64 q714) hd_J4_rightOf rfl (Nat.le_of_ble_eq_true rfl) (by decide) (by decide) (by decide) (by decide) rfl dJ4_fixAfterDeletion_83 (fun _ _ h => h.elim) (fun r1750 V1751 hP1752 => ?_)
                    rw [hP1752.1, hP1752.2]
                    refine z_st (st' := [va_rf (rg1 y1701)]) rfl ?_
                    rcases hy1754 : rg1 y1701 with _ | y1753
                    · skip
                      refine z_callS C (As := [.null]) (mJ4_colorOf (o := none) hlp_0 oN) (lw_S q703 q704 q64 q705) hd_J4_colorOf rfl (Nat.le_of_ble_eq_true rfl) (by decide) (by decide) (by decide) (by decide) rfl dJ4_fixAfterDeletion_86 (fun _ _ h => h.elim) (fun r1755 V1756 hP1757 => ?_)
                      rw [hP1757.1, hP1757.2]
                      refine z_st (st' := [.int (zb true)]) rfl ?_
                      refine z_iconst C (v := (nI 1)) dJ4_fixAfterDeletion_89 rfl ?_
                      refine z_icmp_ne C 106 dJ4_fixAfterDeletion_90 (by decide) (fun c90 => ?_) (fun c90 => ?_)
                      · skip
                        have k1758 : true = false := zb1f c90
                        cases k1758
                      · skip
                        have k1759 : true = true := zb1 c90
                        refine z_aload_n C 0 rfl dJ4_fixAfterDeletion_93 rfl ?_
                        refine z_iconst C (v := (nI 0)) dJ4_fixAfterDeletion_94 rfl ?_
                        refine z_st (st' := [.int (zb false), .ref y1701]) rfl ?_
                        refine z_callS C (As := [.ref y1701, .int (zb false)]) (mJ4_setColor (o := (some y1701)) (c := false) hlp_0 (oM hm1733)) (lw_S q715 q716 q64 q717) hd_J4_setColor rfl (Nat.le_of_ble_eq_true rfl) (by decide) (by decide) (by decide) (by decide) rfl dJ4_fixAfterDeletion_95 (fun _ _ h => h.elim) (fun r1760 V1761 hP1762 => ?_)
                        obtain ⟨hW1763, hU1764⟩ := hP1762
                        refine z_st (st' := []) rfl ?_
                        have hU1765 := zUnc.tr (S := tC t L) hlp_2 hU1764 (fun _ h => Or.inl h)
                        change tW _ _ _ _ _ _ _ (va_up cl1 y1701 false) _ _ _ _ at hW1763
                        obtain ⟨cl1767, ec1766⟩ : ∃ q, q = va_up cl1 y1701 false := ⟨_, rfl⟩
                        rw [← ec1766] at hW1763
                        have k1768 : cl1767 y1701 = false := by rw [ec1766, zvs]
                        have nx1769 : x1 ≠ y1701 := (tI.sib hlp_1 hm21 k1691 hy1702)
                        have k1770 : cl1767 x1 = true := by rw [ec1766, zvn nx1769]; exact k37
                        refine z_aload_n C 2 rfl dJ4_fixAfterDeletion_98 rfl ?_
                        refine z_callS C (As := [.ref x1]) (mJ4_parentOf (o := (some x1)) hW1763 (oM hlp_3)) (lw_S q706 q707 q64 q708) hd_J4_parentOf rfl (Nat.le_of_ble_eq_true rfl) (by decide) (by decide) (by decide) (by decide) rfl dJ4_fixAfterDeletion_99 (fun _ _ h => h.elim) (fun r1771 V1772 hP1773 => ?_)
                        rw [hP1773.1, hP1773.2]
                        refine z_st (st' := [va_rf (pa1 x1)]) rfl ?_
                        refine z_top (v := .ref p) (congrArg va_rf (show (pa1 x1) = (some p) from (by rw [hp]))) ?_
                        refine z_astore_n C [(1, .ref p), (2, .ref y1701), (0, .ref t)] dJ4_fixAfterDeletion_102 rfl (by decide) rfl ?_
                        refine z_goto C 183 dJ4_fixAfterDeletion_103 (by decide) ?_
                        refine z_goto C 0 dJ4_fixAfterDeletion_183 (by decide) ?_
                        refine z_pick [(0, .ref t), (1, .ref p)] [2, 0] rfl ?_
                        have q1 := (hlp_1.mp hlp_3 hp).2
                        exact ih_lp V1761 rt1 lf1 rg1 pa1 cl1767 lo1 hi1 p hW1763 hlp_1 hU1765 hm21 hlp_4 hlp_5 (Nat.le_trans (hlp_1.le hlp_3 hp).1 hlp_6) (Nat.lt_of_lt_of_le hlp_7 (hlp_1.le hlp_3 hp).2) (by omega)
                    · skip
                      obtain ⟨hm1774, hp1775, nx1776⟩ := hlp_1.mr hm1733 hy1754
                      refine z_callS C (As := [.ref y1753]) (mJ4_colorOf (o := (some y1753)) hlp_0 (oM hm1774)) (lw_S q703 q704 q64 q705) hd_J4_colorOf rfl (Nat.le_of_ble_eq_true rfl) (by decide) (by decide) (by decide) (by decide) rfl dJ4_fixAfterDeletion_86 (fun _ _ h => h.elim) (fun r1777 V1778 hP1779 => ?_)
                      rw [hP1779.1, hP1779.2]
                      refine z_st (st' := [.int (zb (cl1 y1753))]) rfl ?_
                      refine z_iconst C (v := (nI 1)) dJ4_fixAfterDeletion_89 rfl ?_
                      refine z_icmp_ne C 106 dJ4_fixAfterDeletion_90 (by decide) (fun c90 => ?_) (fun c90 => ?_)
                      · skip
                        have k1780 : (cl1 y1753) = false := zb1f c90
                        refine z_aload_n C 0 rfl dJ4_fixAfterDeletion_106 rfl ?_
                        refine z_callS C (As := [.ref y1701]) (mJ4_rightOf (o := (some y1701)) hlp_0 (oM hm1733)) (lw_S q712 q713 q64 q714) hd_J4_rightOf rfl (Nat.le_of_ble_eq_true rfl) (by decide) (by decide) (by decide) (by decide) rfl dJ4_fixAfterDeletion_107 (fun _ _ h => h.elim) (fun r1781 V1782 hP1783 => ?_)
                        rw [hP1783.1, hP1783.2]
                        refine z_st (st' := [va_rf (rg1 y1701)]) rfl ?_
                        refine z_top (v := .ref y1753) (congrArg va_rf (show (rg1 y1701) = (some y1753) from (by rw [hy1754]))) ?_
                        refine z_callS C (As := [.ref y1753]) (mJ4_colorOf (o := (some y1753)) hlp_0 (oM hm1774)) (lw_S q703 q704 q64 q705) hd_J4_colorOf rfl (Nat.le_of_ble_eq_true rfl) (by decide) (by decide) (by decide) (by decide) rfl dJ4_fixAfterDeletion_110 (fun _ _ h => h.elim) (fun r1784 V1785 hP1786 => ?_)
                        rw [hP1786.1, hP1786.2]
                        refine z_st (st' := [.int (zb (cl1 y1753))]) rfl ?_
                        refine z_top (v := .int (zb false)) (congrArg (fun c => Value.int (zb c)) (show (cl1 y1753) = false from (by rw [k1780]))) ?_
                        refine z_iconst C (v := (nI 1)) dJ4_fixAfterDeletion_113 rfl ?_
                        refine z_icmp_ne C 143 dJ4_fixAfterDeletion_114 (by decide) (fun c114 => ?_) (fun c114 => ?_)
                        · skip
                          have k1787 : false = false := zb1f c114
                          refine z_aload_n C 0 rfl dJ4_fixAfterDeletion_143 rfl ?_
                          refine z_aload_n C 2 rfl dJ4_fixAfterDeletion_144 rfl ?_
                          refine z_callS C (As := [.ref x1]) (mJ4_parentOf (o := (some x1)) hlp_0 (oM hlp_3)) (lw_S q706 q707 q64 q708) hd_J4_parentOf rfl (Nat.le_of_ble_eq_true rfl) (by decide) (by decide) (by decide) (by decide) rfl dJ4_fixAfterDeletion_145 (fun _ _ h => h.elim) (fun r1788 V1789 hP1790 => ?_)
                          rw [hP1790.1, hP1790.2]
                          refine z_st (st' := [va_rf (pa1 x1), .ref y1701]) rfl ?_
                          refine z_top (v := .ref p) (congrArg va_rf (show (pa1 x1) = (some p) from (by rw [hp]))) ?_
                          refine z_callS C (As := [.ref p]) (mJ4_colorOf (o := (some p)) hlp_0 (oM hm21)) (lw_S q703 q704 q64 q705) hd_J4_colorOf rfl (Nat.le_of_ble_eq_true rfl) (by decide) (by decide) (by decide) (by decide) rfl dJ4_fixAfterDeletion_148 (fun _ _ h => h.elim) (fun r1791 V1792 hP1793 => ?_)
                          rw [hP1793.1, hP1793.2]
                          refine z_st (st' := [.int (zb (cl1 p)), .ref y1701]) rfl ?_
                          refine z_callS C (As := [.ref y1701, .int (zb (cl1 p))]) (mJ4_setColor (o := (some y1701)) (c := (cl1 p)) hlp_0 (oM hm1733)) (lw_S q715 q716 q64 q717) hd_J4_setColor rfl (Nat.le_of_ble_eq_true rfl) (by decide) (by decide) (by decide) (by decide) rfl dJ4_fixAfterDeletion_151 (fun _ _ h => h.elim) (fun r1794 V1795 hP1796 => ?_)
                          obtain ⟨hW1797, hU1798⟩ := hP1796
                          refine z_st (st' := []) rfl ?_
                          have hU1799 := zUnc.tr (S := tC t L) hlp_2 hU1798 (fun _ h => Or.inl h)
                          change tW _ _ _ _ _ _ _ (va_up cl1 y1701 (cl1 p)) _ _ _ _ at hW1797
                          obtain ⟨cl1801, ec1800⟩ : ∃ q, q = va_up cl1 y1701 (cl1 p) := ⟨_, rfl⟩
                          rw [← ec1800] at hW1797
                          have k1802 : cl1801 y1701 = (cl1 p) := by rw [ec1800, zvs]
                          have nx1803 : x1 ≠ y1701 := (tI.sib hlp_1 hm21 k1691 hy1702)
                          have k1804 : cl1801 x1 = true := by rw [ec1800, zvn nx1803]; exact k37
                          have k1805 : cl1801 y1753 = false := by rw [ec1800, zvn nx1776]; exact k1780
                          refine z_aload_n C 2 rfl dJ4_fixAfterDeletion_154 rfl ?_
                          refine z_callS C (As := [.ref x1]) (mJ4_parentOf (o := (some x1)) hW1797 (oM hlp_3)) (lw_S q706 q707 q64 q708) hd_J4_parentOf rfl (Nat.le_of_ble_eq_true rfl) (by decide) (by decide) (by decide) (by decide) rfl dJ4_fixAfterDeletion_155 (fun _ _ h => h.elim) (fun r1806 V1807 hP1808 => ?_)
                          rw [hP1808.1, hP1808.2]
                          refine z_st (st' := [va_rf (pa1 x1)]) rfl ?_
                          refine z_top (v := .ref p) (congrArg va_rf (show (pa1 x1) = (some p) from (by rw [hp]))) ?_
                          refine z_iconst C (v := (nI 1)) dJ4_fixAfterDeletion_158 rfl ?_
                          refine z_st (st' := [.int (zb true), .ref p]) rfl ?_
                          refine z_callS C (As := [.ref p, .int (zb true)]) (mJ4_setColor (o := (some p)) (c := true) hW1797 (oM hm21)) (lw_S q715 q716 q64 q717) hd_J4_setColor rfl (Nat.le_of_ble_eq_true rfl) (by decide) (by decide) (by decide) (by decide) rfl dJ4_fixAfterDeletion_159 (fun _ _ h => h.elim) (fun r1809 V1810 hP1811 => ?_)
                          obtain ⟨hW1812, hU1813⟩ := hP1811
                          refine z_st (st' := []) rfl ?_
                          have hU1814 := zUnc.tr (S := tC t L) hU1799 hU1813 (fun _ h => Or.inl h)
                          change tW _ _ _ _ _ _ _ (va_up cl1801 p true) _ _ _ _ at hW1812
                          obtain ⟨cl1816, ec1815⟩ : ∃ q, q = va_up cl1801 p true := ⟨_, rfl⟩
                          rw [← ec1815] at hW1812
                          have k1817 : cl1816 p = true := by rw [ec1815, zvs]
                          have k1818 : cl1816 x1 = true := by rw [ec1815, zvn nx1694]; exact k1804
                          have nx1819 : y1753 ≠ p := (tI.gg hlp_1 hm1774 hp1775 hm1733 hp1734)
                          have k1820 : cl1816 y1753 = false := by rw [ec1815, zvn nx1819]; exact k1805
                          refine z_aload_n C 0 rfl dJ4_fixAfterDeletion_162 rfl ?_
                          refine z_callS C (As := [.ref y1701]) (mJ4_rightOf (o := (some y1701)) hW1812 (oM hm1733)) (lw_S q712 q713 q64 q714) hd_J4_rightOf rfl (Nat.le_of_ble_eq_true rfl) (by decide) (by decide) (by decide) (by decide) rfl dJ4_fixAfterDeletion_163 (fun _ _ h => h.elim) (fun r1821 V1822 hP1823 => ?_)
                          rw [hP1823.1, hP1823.2]
                          refine z_st (st' := [va_rf (rg1 y1701)]) rfl ?_
                          refine z_top (v := .ref y1753) (congrArg va_rf (show (rg1 y1701) = (some y1753) from (by rw [hy1754]))) ?_
                          refine z_iconst C (v := (nI 1)) dJ4_fixAfterDeletion_166 rfl ?_
                          refine z_st (st' := [.int (zb true), .ref y1753]) rfl ?_
                          refine z_callS C (As := [.ref y1753, .int (zb true)]) (mJ4_setColor (o := (some y1753)) (c := true) hW1812 (oM hm1774)) (lw_S q715 q716 q64 q717) hd_J4_setColor rfl (Nat.le_of_ble_eq_true rfl) (by decide) (by decide) (by decide) (by decide) rfl dJ4_fixAfterDeletion_167 (fun _ _ h => h.elim) (fun r1824 V1825 hP1826 => ?_)
                          obtain ⟨hW1827, hU1828⟩ := hP1826
                          refine z_st (st' := []) rfl ?_
                          have hU1829 := zUnc.tr (S := tC t L) hU1814 hU1828 (fun _ h => Or.inl h)
                          change tW _ _ _ _ _ _ _ (va_up cl1816 y1753 true) _ _ _ _ at hW1827
                          obtain ⟨cl1831, ec1830⟩ : ∃ q, q = va_up cl1816 y1753 true := ⟨_, rfl⟩
                          rw [← ec1830] at hW1827
                          have k1832 : cl1831 y1753 = true := by rw [ec1830, zvs]
                          have k1833 : cl1831 p = true := by rw [ec1830, zvn (Ne.symm nx1819)]; exact k1817
                          have nx1834 : x1 ≠ y1753 := (ne_pa hp hp1775 (Ne.symm nx1735))
                          have k1835 : cl1831 x1 = true := by rw [ec1830, zvn nx1834]; exact k1818
                          refine z_aload_n C 1 rfl dJ4_fixAfterDeletion_170 rfl ?_
                          refine z_aload_n C 2 rfl dJ4_fixAfterDeletion_171 rfl ?_
                          refine z_callS C (As := [.ref x1]) (mJ4_parentOf (o := (some x1)) hW1827 (oM hlp_3)) (lw_S q706 q707 q64 q708) hd_J4_parentOf rfl (Nat.le_of_ble_eq_true rfl) (by decide) (by decide) (by decide) (by decide) rfl dJ4_fixAfterDeletion_172 (fun _ _ h => h.elim) (fun r1836 V1837 hP1838 => ?_)
                          rw [hP1838.1, hP1838.2]
                          refine z_st (st' := [va_rf (pa1 x1), .ref t]) rfl ?_
                          refine z_top (v := .ref p) (congrArg va_rf (show (pa1 x1) = (some p) from (by rw [hp]))) ?_
                          refine z_callV C k_TM hW1827.1 (As := [.ref p]) (mJ4_rotateLeft hW1827 hlp_1 hm21 hy1702) (lw_V q718 q720 qs8 q64 q721) rfl hd_J4_rotateLeft rfl (Nat.le_of_ble_eq_true rfl) (by decide) (by decide) (by decide) (by decide) rfl dJ4_fixAfterDeletion_175 (fun _ _ h => h.elim) (fun r1839 V1840 hP1841 => ?_)
                          obtain ⟨hW1842, hU1843⟩ := hP1841
                          refine z_st (st' := []) rfl ?_
                          have hU1844 := zUnc.tr (S := tC t L) hU1829 hU1843 (fun _ h => Or.inl h)
                          have hI1845 := tI_rotL hlp_1 hm21 hy1702
                          obtain ⟨rg1852, eB1847⟩ : ∃ q, q = xR lf1 rg1 p y1701 := ⟨_, rfl⟩
                          rw [← eB1847] at hW1842 hI1845
                          obtain ⟨pa1853, eP1848⟩ : ∃ q, q = xP lf1 pa1 p y1701 := ⟨_, rfl⟩
                          rw [← eP1848] at hW1842 hI1845
                          obtain ⟨lf1854, eA1846⟩ : ∃ q, q = xL lf1 p y1701 := ⟨_, rfl⟩
                          rw [← eA1846] at hW1842 hI1845
                          obtain ⟨rt1855, eT1849⟩ : ∃ q, q = xT rt1 p y1701 := ⟨_, rfl⟩
                          rw [← eT1849] at hW1842 hI1845
                          obtain ⟨lo1856, elo1850⟩ : ∃ q, q = va_up lo1 y1701 (lo1 p) := ⟨_, rfl⟩
                          rw [← elo1850] at hI1845
                          obtain ⟨hi1857, ehi1851⟩ : ∃ q, q = va_up hi1 p (ps y1701) := ⟨_, rfl⟩
                          rw [← ehi1851] at hI1845
                          have k1858 : lf1854 y1701 = (some p) := by rw [eA1846]; exact xL_r
                          have k1859 : pa1853 p = (some y1701) := by rw [eP1848]; exact xP_p
                          have k1860 : rg1852 p = none := by rw [eB1847, xR_p]; exact hy1744
                          have nx1861 : x ≠ y1701 := (fn_ne hlp_5 hy1754)
                          have k1862 : lf1854 x = none := by rw [eA1846, xL_o nx1861 (sn_ne hlp_4)]; exact hlp_4
                          have nx1863 : x ≠ p := (fn_ne hlp_4 k1691)
                          have k1864 : rg1852 x = none := by rw [eB1847, xR_o nx1863 (sn_ne hlp_5)]; exact hlp_5
                          have k1865 : pa1853 x1 = (some p) := by rw [eP1848, xP_o nx1694 nx1803 (sn_ne hy1744)]; exact hp
                          have k1866 : lf1854 p = (some x1) := by rw [eA1846, xL_o (Ne.symm nx1735) (so_ne k1691 nx1694)]; exact k1691
                          have k1867 : rg1852 y1701 = (some y1753) := by rw [eB1847, xR_o nx1735 (so_ne hy1754 nx1819)]; exact hy1754
                          have k1868 : pa1853 y1753 = (some y1701) := by rw [eP1848, xP_o nx1819 nx1776 (sn_ne hy1744)]; exact hp1775
                          have g1869 : lo1856 x1 ≤ ps x := by rw [elo1850, zvn nx1803]; exact hlp_6
                          have g1870 : ps x < hi1857 x1 := by rw [ehi1851, zvn nx1694]; exact hlp_7
                          refine z_aload_n C 1 rfl dJ4_fixAfterDeletion_178 rfl ?_
                          refine z_get C k_TM hW1842.1 3 (by decide) rfl q162 dJ4_fixAfterDeletion_179 ?_
                          refine z_astore_nQ C (r := rt1855) [(1, va_rf rt1855), (2, .ref y1701), (0, .ref t)] dJ4_fixAfterDeletion_182 rfl (by decide) rfl ?_
                          refine z_goto C 0 dJ4_fixAfterDeletion_183 (by decide) ?_
                          refine z_pick [(0, .ref t), (1, va_rf rt1855)] [2, 0] rfl ?_
                          obtain ⟨r01871, hr1872⟩ := hI1845.rtm hlp_3
                          obtain ⟨hm1873, hp1874, -, -⟩ := hI1845.2.1.1 r01871 hr1872
                          have e1875 : (va_rf rt1855 : Value) = .ref r01871 := (congrArg va_rf hr1872)
                          refine z_lv (lv' := [(0, .ref t), (1, .ref r01871)]) (by rw [e1875]) ?_
                          exact hexit V1840 rt1855 lf1854 rg1852 pa1853 cl1831 lo1856 hi1857 r01871 hW1842 hI1845 hU1844 hm1873 hr1872 k1862 k1864
                        · skip
                          have k1876 : false = true := zb1 c114
                          cases k1876
                      · skip
                        have k1877 : (cl1 y1753) = true := zb1 c90
                        refine z_aload_n C 0 rfl dJ4_fixAfterDeletion_93 rfl ?_
                        refine z_iconst C (v := (nI 0)) dJ4_fixAfterDeletion_94 rfl ?_
                        refine z_st (st' := [.int (zb false), .ref y1701]) rfl ?_
                        refine z_callS C (As := [.ref y1701, .int (zb false)]) (mJ4_setColor (o := (some y1701)) (c := false) hlp_0 (oM hm1733)) (lw_S q715 q716 q64 q717) hd_J4_setColor rfl (Nat.le_of_ble_eq_true rfl) (by decide) (by decide) (by decide) (by decide) rfl dJ4_fixAfterDeletion_95 (fun _ _ h => h.elim) (fun r1878 V1879 hP1880 => ?_)
                        obtain ⟨hW1881, hU1882⟩ := hP1880
                        refine z_st (st' := []) rfl ?_
                        have hU1883 := zUnc.tr (S := tC t L) hlp_2 hU1882 (fun _ h => Or.inl h)
                        change tW _ _ _ _ _ _ _ (va_up cl1 y1701 false) _ _ _ _ at hW1881
                        obtain ⟨cl1885, ec1884⟩ : ∃ q, q = va_up cl1 y1701 false := ⟨_, rfl⟩
                        rw [← ec1884] at hW1881
                        have k1886 : cl1885 y1701 = false := by rw [ec1884, zvs]
                        have nx1887 : x1 ≠ y1701 := (tI.sib hlp_1 hm21 k1691 hy1702)
                        have k1888 : cl1885 x1 = true := by rw [ec1884, zvn nx1887]; exact k37
                        have k1889 : cl1885 y1753 = true := by rw [ec1884, zvn nx1776]; exact k1877
                        refine z_aload_n C 2 rfl dJ4_fixAfterDeletion_98 rfl ?_
                        refine z_callS C (As := [.ref x1]) (mJ4_parentOf (o := (some x1)) hW1881 (oM hlp_3)) (lw_S q706 q707 q64 q708) hd_J4_parentOf rfl (Nat.le_of_ble_eq_true rfl) (by decide) (by decide) (by decide) (by decide) rfl dJ4_fixAfterDeletion_99 (fun _ _ h => h.elim) (fun r1890 V1891 hP1892 => ?_)
                        rw [hP1892.1, hP1892.2]
                        refine z_st (st' := [va_rf (pa1 x1)]) rfl ?_
                        refine z_top (v := .ref p) (congrArg va_rf (show (pa1 x1) = (some p) from (by rw [hp]))) ?_
                        refine z_astore_n C [(1, .ref p), (2, .ref y1701), (0, .ref t)] dJ4_fixAfterDeletion_102 rfl (by decide) rfl ?_
                        refine z_goto C 183 dJ4_fixAfterDeletion_103 (by decide) ?_
                        refine z_goto C 0 dJ4_fixAfterDeletion_183 (by decide) ?_
                        refine z_pick [(0, .ref t), (1, .ref p)] [2, 0] rfl ?_
                        have q1 := (hlp_1.mp hlp_3 hp).2
                        exact ih_lp V1879 rt1 lf1 rg1 pa1 cl1885 lo1 hi1 p hW1881 hlp_1 hU1883 hm21 hlp_4 hlp_5 (Nat.le_trans (hlp_1.le hlp_3 hp).1 hlp_6) (Nat.lt_of_lt_of_le hlp_7 (hlp_1.le hlp_3 hp).2) (by omega)
                · skip
                  obtain ⟨hm1893, hp1894, nx1895⟩ := hlp_1.ml hm1733 hy1744
                  refine z_callS C (As := [.ref y1743]) (mJ4_colorOf (o := (some y1743)) hlp_0 (oM hm1893)) (lw_S q703 q704 q64 q705) hd_J4_colorOf rfl (Nat.le_of_ble_eq_true rfl) (by decide) (by decide) (by decide) (by decide) rfl dJ4_fixAfterDeletion_75 (fun _ _ h => h.elim) (fun r1896 V1897 hP1898 => ?_)
                  rw [hP1898.1, hP1898.2]
                  refine z_st (st' := [.int (zb (cl1 y1743))]) rfl ?_
                  refine z_iconst C (v := (nI 1)) dJ4_fixAfterDeletion_78 rfl ?_
                  refine z_icmp_ne C 106 dJ4_fixAfterDeletion_79 (by decide) (fun c79 => ?_) (fun c79 => ?_)
                  · skip
                    have k1899 : (cl1 y1743) = false := zb1f c79
                    refine z_aload_n C 0 rfl dJ4_fixAfterDeletion_106 rfl ?_
                    refine z_callS C (As := [.ref y1701]) (mJ4_rightOf (o := (some y1701)) hlp_0 (oM hm1733)) (lw_S q712 q713 q64 q714) hd_J4_rightOf rfl (Nat.le_of_ble_eq_true rfl) (by decide) (by decide) (by decide) (by decide) rfl dJ4_fixAfterDeletion_107 (fun _ _ h => h.elim) (fun r1900 V1901 hP1902 => ?_)
                    rw [hP1902.1, hP1902.2]
                    refine z_st (st' := [va_rf (rg1 y1701)]) rfl ?_
                    rcases hy1904 : rg1 y1701 with _ | y1903
                    · skip
                      refine z_callS C (As := [.null]) (mJ4_colorOf (o := none) hlp_0 oN) (lw_S q703 q704 q64 q705) hd_J4_colorOf rfl (Nat.le_of_ble_eq_true rfl) (by decide) (by decide) (by decide) (by decide) rfl dJ4_fixAfterDeletion_110 (fun _ _ h => h.elim) (fun r1905 V1906 hP1907 => ?_)
                      rw [hP1907.1, hP1907.2]
                      refine z_st (st' := [.int (zb true)]) rfl ?_
                      refine z_iconst C (v := (nI 1)) dJ4_fixAfterDeletion_113 rfl ?_
                      refine z_icmp_ne C 143 dJ4_fixAfterDeletion_114 (by decide) (fun c114 => ?_) (fun c114 => ?_)
                      · skip
                        have k1908 : true = false := zb1f c114
                        cases k1908
                      · skip
                        have k1909 : true = true := zb1 c114
                        refine z_aload_n C 0 rfl dJ4_fixAfterDeletion_117 rfl ?_
                        refine z_callS C (As := [.ref y1701]) (mJ4_leftOf (o := (some y1701)) hlp_0 (oM hm1733)) (lw_S q709 q710 q64 q711) hd_J4_leftOf rfl (Nat.le_of_ble_eq_true rfl) (by decide) (by decide) (by decide) (by decide) rfl dJ4_fixAfterDeletion_118 (fun _ _ h => h.elim) (fun r1910 V1911 hP1912 => ?_)
                        rw [hP1912.1, hP1912.2]
                        refine z_st (st' := [va_rf (lf1 y1701)]) rfl ?_
                        refine z_top (v := .ref y1743) (congrArg va_rf (show (lf1 y1701) = (some y1743) from (by rw [hy1744]))) ?_
                        refine z_iconst C (v := (nI 1)) dJ4_fixAfterDeletion_121 rfl ?_
                        refine z_st (st' := [.int (zb true), .ref y1743]) rfl ?_
                        refine z_callS C (As := [.ref y1743, .int (zb true)]) (mJ4_setColor (o := (some y1743)) (c := true) hlp_0 (oM hm1893)) (lw_S q715 q716 q64 q717) hd_J4_setColor rfl (Nat.le_of_ble_eq_true rfl) (by decide) (by decide) (by decide) (by decide) rfl dJ4_fixAfterDeletion_122 (fun _ _ h => h.elim) (fun r1913 V1914 hP1915 => ?_)
                        obtain ⟨hW1916, hU1917⟩ := hP1915
                        refine z_st (st' := []) rfl ?_
                        have hU1918 := zUnc.tr (S := tC t L) hlp_2 hU1917 (fun _ h => Or.inl h)
                        change tW _ _ _ _ _ _ _ (va_up cl1 y1743 true) _ _ _ _ at hW1916
                        obtain ⟨cl1920, ec1919⟩ : ∃ q, q = va_up cl1 y1743 true := ⟨_, rfl⟩
                        rw [← ec1919] at hW1916
                        have k1921 : cl1920 y1743 = true := by rw [ec1919, zvs]
                        have nx1922 : x1 ≠ y1743 := (ne_pa hp hp1894 (Ne.symm nx1735))
                        have k1923 : cl1920 x1 = true := by rw [ec1919, zvn nx1922]; exact k37
                        have k1924 : cl1920 y1701 = true := by rw [ec1919, zvn (Ne.symm nx1895)]; exact k1739
                        refine z_aload_n C 0 rfl dJ4_fixAfterDeletion_125 rfl ?_
                        refine z_iconst C (v := (nI 0)) dJ4_fixAfterDeletion_126 rfl ?_
                        refine z_st (st' := [.int (zb false), .ref y1701]) rfl ?_
                        refine z_callS C (As := [.ref y1701, .int (zb false)]) (mJ4_setColor (o := (some y1701)) (c := false) hW1916 (oM hm1733)) (lw_S q715 q716 q64 q717) hd_J4_setColor rfl (Nat.le_of_ble_eq_true rfl) (by decide) (by decide) (by decide) (by decide) rfl dJ4_fixAfterDeletion_127 (fun _ _ h => h.elim) (fun r1925 V1926 hP1927 => ?_)
                        obtain ⟨hW1928, hU1929⟩ := hP1927
                        refine z_st (st' := []) rfl ?_
                        have hU1930 := zUnc.tr (S := tC t L) hU1918 hU1929 (fun _ h => Or.inl h)
                        change tW _ _ _ _ _ _ _ (va_up cl1920 y1701 false) _ _ _ _ at hW1928
                        obtain ⟨cl1932, ec1931⟩ : ∃ q, q = va_up cl1920 y1701 false := ⟨_, rfl⟩
                        rw [← ec1931] at hW1928
                        have k1933 : cl1932 y1701 = false := by rw [ec1931, zvs]
                        have k1934 : cl1932 y1743 = true := by rw [ec1931, zvn nx1895]; exact k1921
                        have nx1935 : x1 ≠ y1701 := (tI.sib hlp_1 hm21 k1691 hy1702)
                        have k1936 : cl1932 x1 = true := by rw [ec1931, zvn nx1935]; exact k1923
                        refine z_aload_n C 1 rfl dJ4_fixAfterDeletion_130 rfl ?_
                        refine z_aload_n C 0 rfl dJ4_fixAfterDeletion_131 rfl ?_
                        refine z_callV C k_TM hW1928.1 (As := [.ref y1701]) (mJ4_rotateRight hW1928 hlp_1 hm1733 hy1744) (lw_V q722 q724 qs9 q64 q725) rfl hd_J4_rotateRight rfl (Nat.le_of_ble_eq_true rfl) (by decide) (by decide) (by decide) (by decide) rfl dJ4_fixAfterDeletion_132 (fun _ _ h => h.elim) (fun r1937 V1938 hP1939 => ?_)
                        obtain ⟨hW1940, hU1941⟩ := hP1939
                        refine z_st (st' := []) rfl ?_
                        have hU1942 := zUnc.tr (S := tC t L) hU1930 hU1941 (fun _ h => Or.inl h)
                        have hI1943 := tI_rotR hlp_1 hm1733 hy1744
                        obtain ⟨lf1950, eB1945⟩ : ∃ q, q = xR rg1 lf1 y1701 y1743 := ⟨_, rfl⟩
                        rw [← eB1945] at hW1940 hI1943
                        obtain ⟨pa1951, eP1946⟩ : ∃ q, q = xP rg1 pa1 y1701 y1743 := ⟨_, rfl⟩
                        rw [← eP1946] at hW1940 hI1943
                        obtain ⟨rg1952, eA1944⟩ : ∃ q, q = xL rg1 y1701 y1743 := ⟨_, rfl⟩
                        rw [← eA1944] at hW1940 hI1943
                        obtain ⟨rt1953, eT1947⟩ : ∃ q, q = xT rt1 y1701 y1743 := ⟨_, rfl⟩
                        rw [← eT1947] at hW1940 hI1943
                        obtain ⟨lo1954, elo1948⟩ : ∃ q, q = va_up lo1 y1701 (ps y1743 + 1) := ⟨_, rfl⟩
                        rw [← elo1948] at hI1943
                        obtain ⟨hi1955, ehi1949⟩ : ∃ q, q = va_up hi1 y1743 (hi1 y1701) := ⟨_, rfl⟩
                        rw [← ehi1949] at hI1943
                        have k1956 : rg1952 y1743 = (some y1701) := by rw [eA1944]; exact xL_r
                        have k1957 : pa1951 y1701 = (some y1743) := by rw [eP1946]; exact xP_p
                        have k1958 : pa1951 y1743 = (some p) := by rw [eP1946, xP_r nx1895]; exact hp1734
                        have nx1959 : x ≠ y1701 := (fn_ne hlp_4 hy1744)
                        have k1960 : lf1950 x = none := by rw [eB1945, xR_o nx1959 (sn_ne hlp_4)]; exact hlp_4
                        have nx1961 : x ≠ y1743 := (hlp_1.fL hm21 k1691 hy1702 hlp_7 hm1893 (hlp_1.le hm1893 hp1894).1)
                        have k1962 : rg1952 x = none := by rw [eA1944, xL_o nx1961 (sn_ne hlp_5)]; exact hlp_5
                        have nx1963 : p ≠ y1743 := (Ne.symm (tI.gg hlp_1 hm1893 hp1894 hm1733 hp1734))
                        have k1964 : pa1951 x1 = (some p) := by rw [eP1946, xP_o nx1935 nx1922 (fun z => nx1963 (Option.some.inj (hp.symm.trans (hlp_1.mr hm1893 z).2.1)))]; exact hp
                        have k1965 : lf1950 p = (some x1) := by rw [eB1945, xR_o (Ne.symm nx1735) (so_ne k1691 nx1935)]; exact k1691
                        have k1966 : rg1952 p = (some y1743) := by rw [eA1944]; exact xL_u nx1963 hy1702
                        have k1967 : rg1952 y1701 = none := by rw [eA1944, xL_o (Ne.symm nx1895) (sn_ne hy1904)]; exact hy1904
                        have g1968 : lo1954 x1 ≤ ps x := by rw [elo1948, zvn nx1935]; exact hlp_6
                        have g1969 : ps x < hi1955 x1 := by rw [ehi1949, zvn nx1922]; exact hlp_7
                        refine z_aload_n C 2 rfl dJ4_fixAfterDeletion_135 rfl ?_
                        refine z_callS C (As := [.ref x1]) (mJ4_parentOf (o := (some x1)) hW1940 (oM hlp_3)) (lw_S q706 q707 q64 q708) hd_J4_parentOf rfl (Nat.le_of_ble_eq_true rfl) (by decide) (by decide) (by decide) (by decide) rfl dJ4_fixAfterDeletion_136 (fun _ _ h => h.elim) (fun r1970 V1971 hP1972 => ?_)
                        rw [hP1972.1, hP1972.2]
                        refine z_st (st' := [va_rf (pa1951 x1)]) rfl ?_
                        refine z_top (v := .ref p) (congrArg va_rf (show (pa1951 x1) = (some p) from (by rw [k1964]))) ?_
                        refine z_callS C (As := [.ref p]) (mJ4_rightOf (o := (some p)) hW1940 (oM hm21)) (lw_S q712 q713 q64 q714) hd_J4_rightOf rfl (Nat.le_of_ble_eq_true rfl) (by decide) (by decide) (by decide) (by decide) rfl dJ4_fixAfterDeletion_139 (fun _ _ h => h.elim) (fun r1973 V1974 hP1975 => ?_)
                        rw [hP1975.1, hP1975.2]
                        refine z_st (st' := [va_rf (rg1952 p)]) rfl ?_
                        refine z_top (v := .ref y1743) (congrArg va_rf (show (rg1952 p) = (some y1743) from (by rw [k1966]))) ?_
                        refine z_astore_n C [(2, .ref y1743), (0, .ref t), (1, .ref x1)] dJ4_fixAfterDeletion_142 rfl (by decide) rfl ?_
                        refine z_aload_n C 0 rfl dJ4_fixAfterDeletion_143 rfl ?_
                        refine z_aload_n C 2 rfl dJ4_fixAfterDeletion_144 rfl ?_
                        refine z_callS C (As := [.ref x1]) (mJ4_parentOf (o := (some x1)) hW1940 (oM hlp_3)) (lw_S q706 q707 q64 q708) hd_J4_parentOf rfl (Nat.le_of_ble_eq_true rfl) (by decide) (by decide) (by decide) (by decide) rfl dJ4_fixAfterDeletion_145 (fun _ _ h => h.elim) (fun r1976 V1977 hP1978 => ?_)
                        rw [hP1978.1, hP1978.2]
                        refine z_st (st' := [va_rf (pa1951 x1), .ref y1743]) rfl ?_
                        refine z_top (v := .ref p) (congrArg va_rf (show (pa1951 x1) = (some p) from (by rw [k1964]))) ?_
                        refine z_callS C (As := [.ref p]) (mJ4_colorOf (o := (some p)) hW1940 (oM hm21)) (lw_S q703 q704 q64 q705) hd_J4_colorOf rfl (Nat.le_of_ble_eq_true rfl) (by decide) (by decide) (by decide) (by decide) rfl dJ4_fixAfterDeletion_148 (fun _ _ h => h.elim) (fun r1979 V1980 hP1981 => ?_)
                        rw [hP1981.1, hP1981.2]
                        refine z_st (st' := [.int (zb (cl1932 p)), .ref y1743]) rfl ?_
                        refine z_callS C (As := [.ref y1743, .int (zb (cl1932 p))]) (mJ4_setColor (o := (some y1743)) (c := (cl1932 p)) hW1940 (oM hm1893)) (lw_S q715 q716 q64 q717) hd_J4_setColor rfl (Nat.le_of_ble_eq_true rfl) (by decide) (by decide) (by decide) (by decide) rfl dJ4_fixAfterDeletion_151 (fun _ _ h => h.elim) (fun r1982 V1983 hP1984 => ?_)
                        obtain ⟨hW1985, hU1986⟩ := hP1984
                        refine z_st (st' := []) rfl ?_
                        have hU1987 := zUnc.tr (S := tC t L) hU1942 hU1986 (fun _ h => Or.inl h)
                        change tW _ _ _ _ _ _ _ (va_up cl1932 y1743 (cl1932 p)) _ _ _ _ at hW1985
                        obtain ⟨cl1989, ec1988⟩ : ∃ q, q = va_up cl1932 y1743 (cl1932 p) := ⟨_, rfl⟩
                        rw [← ec1988] at hW1985
                        have k1990 : cl1989 y1743 = (cl1932 p) := by rw [ec1988, zvs]
                        have k1991 : cl1989 y1701 = false := by rw [ec1988, zvn (Ne.symm nx1895)]; exact k1933
                        have k1992 : cl1989 x1 = true := by rw [ec1988, zvn nx1922]; exact k1936
                        refine z_aload_n C 2 rfl dJ4_fixAfterDeletion_154 rfl ?_
                        refine z_callS C (As := [.ref x1]) (mJ4_parentOf (o := (some x1)) hW1985 (oM hlp_3)) (lw_S q706 q707 q64 q708) hd_J4_parentOf rfl (Nat.le_of_ble_eq_true rfl) (by decide) (by decide) (by decide) (by decide) rfl dJ4_fixAfterDeletion_155 (fun _ _ h => h.elim) (fun r1993 V1994 hP1995 => ?_)
                        rw [hP1995.1, hP1995.2]
                        refine z_st (st' := [va_rf (pa1951 x1)]) rfl ?_
                        refine z_top (v := .ref p) (congrArg va_rf (show (pa1951 x1) = (some p) from (by rw [k1964]))) ?_
                        refine z_iconst C (v := (nI 1)) dJ4_fixAfterDeletion_158 rfl ?_
                        refine z_st (st' := [.int (zb true), .ref p]) rfl ?_
                        refine z_callS C (As := [.ref p, .int (zb true)]) (mJ4_setColor (o := (some p)) (c := true) hW1985 (oM hm21)) (lw_S q715 q716 q64 q717) hd_J4_setColor rfl (Nat.le_of_ble_eq_true rfl) (by decide) (by decide) (by decide) (by decide) rfl dJ4_fixAfterDeletion_159 (fun _ _ h => h.elim) (fun r1996 V1997 hP1998 => ?_)
                        obtain ⟨hW1999, hU2000⟩ := hP1998
                        refine z_st (st' := []) rfl ?_
                        have hU2001 := zUnc.tr (S := tC t L) hU1987 hU2000 (fun _ h => Or.inl h)
                        change tW _ _ _ _ _ _ _ (va_up cl1989 p true) _ _ _ _ at hW1999
                        obtain ⟨cl2003, ec2002⟩ : ∃ q, q = va_up cl1989 p true := ⟨_, rfl⟩
                        rw [← ec2002] at hW1999
                        have k2004 : cl2003 p = true := by rw [ec2002, zvs]
                        have k2005 : cl2003 y1701 = false := by rw [ec2002, zvn nx1735]; exact k1991
                        have k2006 : cl2003 x1 = true := by rw [ec2002, zvn nx1694]; exact k1992
                        refine z_aload_n C 0 rfl dJ4_fixAfterDeletion_162 rfl ?_
                        refine z_callS C (As := [.ref y1743]) (mJ4_rightOf (o := (some y1743)) hW1999 (oM hm1893)) (lw_S q712 q713 q64 q714) hd_J4_rightOf rfl (Nat.le_of_ble_eq_true rfl) (by decide) (by decide) (by decide) (by decide) rfl dJ4_fixAfterDeletion_163 (fun _ _ h => h.elim) (fun r2007 V2008 hP2009 => ?_)
                        rw [hP2009.1, hP2009.2]
                        refine z_st (st' := [va_rf (rg1952 y1743)]) rfl ?_
                        refine z_top (v := .ref y1701) (congrArg va_rf (show (rg1952 y1743) = (some y1701) from (by rw [k1956]))) ?_
                        refine z_iconst C (v := (nI 1)) dJ4_fixAfterDeletion_166 rfl ?_
                        refine z_st (st' := [.int (zb true), .ref y1701]) rfl ?_
                        refine z_callS C (As := [.ref y1701, .int (zb true)]) (mJ4_setColor (o := (some y1701)) (c := true) hW1999 (oM hm1733)) (lw_S q715 q716 q64 q717) hd_J4_setColor rfl (Nat.le_of_ble_eq_true rfl) (by decide) (by decide) (by decide) (by decide) rfl dJ4_fixAfterDeletion_167 (fun _ _ h => h.elim) (fun r2010 V2011 hP2012 => ?_)
                        obtain ⟨hW2013, hU2014⟩ := hP2012
                        refine z_st (st' := []) rfl ?_
                        have hU2015 := zUnc.tr (S := tC t L) hU2001 hU2014 (fun _ h => Or.inl h)
                        change tW _ _ _ _ _ _ _ (va_up cl2003 y1701 true) _ _ _ _ at hW2013
                        obtain ⟨cl2017, ec2016⟩ : ∃ q, q = va_up cl2003 y1701 true := ⟨_, rfl⟩
                        rw [← ec2016] at hW2013
                        have k2018 : cl2017 y1701 = true := by rw [ec2016, zvs]
                        have k2019 : cl2017 p = true := by rw [ec2016, zvn (Ne.symm nx1735)]; exact k2004
                        have k2020 : cl2017 x1 = true := by rw [ec2016, zvn nx1935]; exact k2006
                        refine z_aload_n C 1 rfl dJ4_fixAfterDeletion_170 rfl ?_
                        refine z_aload_n C 2 rfl dJ4_fixAfterDeletion_171 rfl ?_
                        refine z_callS C (As := [.ref x1]) (mJ4_parentOf (o := (some x1)) hW2013 (oM hlp_3)) (lw_S q706 q707 q64 q708) hd_J4_parentOf rfl (Nat.le_of_ble_eq_true rfl) (by decide) (by decide) (by decide) (by decide) rfl dJ4_fixAfterDeletion_172 (fun _ _ h => h.elim) (fun r2021 V2022 hP2023 => ?_)
                        rw [hP2023.1, hP2023.2]
                        refine z_st (st' := [va_rf (pa1951 x1), .ref t]) rfl ?_
                        refine z_top (v := .ref p) (congrArg va_rf (show (pa1951 x1) = (some p) from (by rw [k1964]))) ?_
                        refine z_callV C k_TM hW2013.1 (As := [.ref p]) (mJ4_rotateLeft hW2013 hI1943 hm21 k1966) (lw_V q718 q720 qs8 q64 q721) rfl hd_J4_rotateLeft rfl (Nat.le_of_ble_eq_true rfl) (by decide) (by decide) (by decide) (by decide) rfl dJ4_fixAfterDeletion_175 (fun _ _ h => h.elim) (fun r2024 V2025 hP2026 => ?_)
                        obtain ⟨hW2027, hU2028⟩ := hP2026
                        refine z_st (st' := []) rfl ?_
                        have hU2029 := zUnc.tr (S := tC t L) hU2015 hU2028 (fun _ h => Or.inl h)
                        have hI2030 := tI_rotL hI1943 hm21 k1966
                        obtain ⟨rg2037, eB2032⟩ : ∃ q, q = xR lf1950 rg1952 p y1743 := ⟨_, rfl⟩
                        rw [← eB2032] at hW2027 hI2030
                        obtain ⟨pa2038, eP2033⟩ : ∃ q, q = xP lf1950 pa1951 p y1743 := ⟨_, rfl⟩
                        rw [← eP2033] at hW2027 hI2030
                        obtain ⟨lf2039, eA2031⟩ : ∃ q, q = xL lf1950 p y1743 := ⟨_, rfl⟩
                        rw [← eA2031] at hW2027 hI2030
                        obtain ⟨rt2040, eT2034⟩ : ∃ q, q = xT rt1953 p y1743 := ⟨_, rfl⟩
                        rw [← eT2034] at hW2027 hI2030
                        obtain ⟨lo2041, elo2035⟩ : ∃ q, q = va_up lo1954 y1743 (lo1954 p) := ⟨_, rfl⟩
                        rw [← elo2035] at hI2030
                        obtain ⟨hi2042, ehi2036⟩ : ∃ q, q = va_up hi1955 p (ps y1743) := ⟨_, rfl⟩
                        rw [← ehi2036] at hI2030
                        have k2043 : lf2039 y1743 = (some p) := by rw [eA2031]; exact xL_r
                        have k2044 : pa2038 p = (some y1743) := by rw [eP2033]; exact xP_p
                        have k2045 : rg2037 y1743 = (some y1701) := by rw [eB2032, xR_o (Ne.symm nx1963) (so_ne k1956 nx1735)]; exact k1956
                        have k2046 : pa2038 y1701 = (some y1743) := by rw [eP2033, xP_o nx1735 (Ne.symm nx1895) (hI1943.rl hm1893 k1956)]; exact k1957
                        have k2047 : lf2039 x = none := by rw [eA2031, xL_o nx1961 (sn_ne k1960)]; exact k1960
                        have nx2048 : x ≠ p := (fn_ne k1960 k1965)
                        have k2049 : rg2037 x = none := by rw [eB2032, xR_o nx2048 (sn_ne k1962)]; exact k1962
                        have k2050 : pa2038 x1 = (some p) := by rw [eP2033, xP_o nx1694 nx1922 (fun z => nx1963 (Option.some.inj (k1964.symm.trans (hI1943.ml hm1893 z).2.1)))]; exact k1964
                        have k2051 : lf2039 p = (some x1) := by rw [eA2031, xL_o nx1963 (so_ne k1965 nx1694)]; exact k1965
                        have k2052 : rg2037 y1701 = none := by rw [eB2032, xR_o nx1735 (sn_ne k1967)]; exact k1967
                        have g2053 : lo2041 x1 ≤ ps x := by rw [elo2035, zvn nx1922]; exact g1968
                        have g2054 : ps x < hi2042 x1 := by rw [ehi2036, zvn nx1694]; exact g1969
                        refine z_aload_n C 1 rfl dJ4_fixAfterDeletion_178 rfl ?_
                        refine z_get C k_TM hW2027.1 3 (by decide) rfl q162 dJ4_fixAfterDeletion_179 ?_
                        refine z_astore_nQ C (r := rt2040) [(1, va_rf rt2040), (2, .ref y1743), (0, .ref t)] dJ4_fixAfterDeletion_182 rfl (by decide) rfl ?_
                        refine z_goto C 0 dJ4_fixAfterDeletion_183 (by decide) ?_
                        refine z_pick [(0, .ref t), (1, va_rf rt2040)] [2, 0] rfl ?_
                        obtain ⟨r02055, hr2056⟩ := hI2030.rtm hlp_3
                        obtain ⟨hm2057, hp2058, -, -⟩ := hI2030.2.1.1 r02055 hr2056
                        have e2059 : (va_rf rt2040 : Value) = .ref r02055 := (congrArg va_rf hr2056)
                        refine z_lv (lv' := [(0, .ref t), (1, .ref r02055)]) (by rw [e2059]) ?_
                        exact hexit V2025 rt2040 lf2039 rg2037 pa2038 cl2017 lo2041 hi2042 r02055 hW2027 hI2030 hU2029 hm2057 hr2056 k2047 k2049
                    · skip
                      obtain ⟨hm2060, hp2061, nx2062⟩ := hlp_1.mr hm1733 hy1904
                      refine z_callS C (As := [.ref y1903]) (mJ4_colorOf (o := (some y1903)) hlp_0 (oM hm2060)) (lw_S q703 q704 q64 q705) hd_J4_colorOf rfl (Nat.le_of_ble_eq_true rfl) (by decide) (by decide) (by decide) (by decide) rfl dJ4_fixAfterDeletion_110 (fun _ _ h => h.elim) (fun r2063 V2064 hP2065 => ?_)
                      rw [hP2065.1, hP2065.2]
                      refine z_st (st' := [.int (zb (cl1 y1903))]) rfl ?_
                      refine z_iconst C (v := (nI 1)) dJ4_fixAfterDeletion_113 rfl ?_
                      refine z_icmp_ne C 143 dJ4_fixAfterDeletion_114 (by decide) (fun c114 => ?_) (fun c114 => ?_)
                      · skip
                        have k2066 : (cl1 y1903) = false := zb1f c114
                        refine z_aload_n C 0 rfl dJ4_fixAfterDeletion_143 rfl ?_
                        refine z_aload_n C 2 rfl dJ4_fixAfterDeletion_144 rfl ?_
                        refine z_callS C (As := [.ref x1]) (mJ4_parentOf (o := (some x1)) hlp_0 (oM hlp_3)) (lw_S q706 q707 q64 q708) hd_J4_parentOf rfl (Nat.le_of_ble_eq_true rfl) (by decide) (by decide) (by decide) (by decide) rfl dJ4_fixAfterDeletion_145 (fun _ _ h => h.elim) (fun r2067 V2068 hP2069 => ?_)
                        rw [hP2069.1, hP2069.2]
                        refine z_st (st' := [va_rf (pa1 x1), .ref y1701]) rfl ?_
                        refine z_top (v := .ref p) (congrArg va_rf (show (pa1 x1) = (some p) from (by rw [hp]))) ?_
                        refine z_callS C (As := [.ref p]) (mJ4_colorOf (o := (some p)) hlp_0 (oM hm21)) (lw_S q703 q704 q64 q705) hd_J4_colorOf rfl (Nat.le_of_ble_eq_true rfl) (by decide) (by decide) (by decide) (by decide) rfl dJ4_fixAfterDeletion_148 (fun _ _ h => h.elim) (fun r2070 V2071 hP2072 => ?_)
                        rw [hP2072.1, hP2072.2]
                        refine z_st (st' := [.int (zb (cl1 p)), .ref y1701]) rfl ?_
                        refine z_callS C (As := [.ref y1701, .int (zb (cl1 p))]) (mJ4_setColor (o := (some y1701)) (c := (cl1 p)) hlp_0 (oM hm1733)) (lw_S q715 q716 q64 q717) hd_J4_setColor rfl (Nat.le_of_ble_eq_true rfl) (by decide) (by decide) (by decide) (by decide) rfl dJ4_fixAfterDeletion_151 (fun _ _ h => h.elim) (fun r2073 V2074 hP2075 => ?_)
                        obtain ⟨hW2076, hU2077⟩ := hP2075
                        refine z_st (st' := []) rfl ?_
                        have hU2078 := zUnc.tr (S := tC t L) hlp_2 hU2077 (fun _ h => Or.inl h)
                        change tW _ _ _ _ _ _ _ (va_up cl1 y1701 (cl1 p)) _ _ _ _ at hW2076
                        obtain ⟨cl2080, ec2079⟩ : ∃ q, q = va_up cl1 y1701 (cl1 p) := ⟨_, rfl⟩
                        rw [← ec2079] at hW2076
                        have k2081 : cl2080 y1701 = (cl1 p) := by rw [ec2079, zvs]
                        have nx2082 : x1 ≠ y1701 := (tI.sib hlp_1 hm21 k1691 hy1702)
                        have k2083 : cl2080 x1 = true := by rw [ec2079, zvn nx2082]; exact k37
                        have k2084 : cl2080 y1743 = false := by rw [ec2079, zvn nx1895]; exact k1899
                        have k2085 : cl2080 y1903 = false := by rw [ec2079, zvn nx2062]; exact k2066
                        refine z_aload_n C 2 rfl dJ4_fixAfterDeletion_154 rfl ?_
                        refine z_callS C (As := [.ref x1]) (mJ4_parentOf (o := (some x1)) hW2076 (oM hlp_3)) (lw_S q706 q707 q64 q708) hd_J4_parentOf rfl (Nat.le_of_ble_eq_true rfl) (by decide) (by decide) (by decide) (by decide) rfl dJ4_fixAfterDeletion_155 (fun _ _ h => h.elim) (fun r2086 V2087 hP2088 => ?_)
                        rw [hP2088.1, hP2088.2]
                        refine z_st (st' := [va_rf (pa1 x1)]) rfl ?_
                        refine z_top (v := .ref p) (congrArg va_rf (show (pa1 x1) = (some p) from (by rw [hp]))) ?_
                        refine z_iconst C (v := (nI 1)) dJ4_fixAfterDeletion_158 rfl ?_
                        refine z_st (st' := [.int (zb true), .ref p]) rfl ?_
                        refine z_callS C (As := [.ref p, .int (zb true)]) (mJ4_setColor (o := (some p)) (c := true) hW2076 (oM hm21)) (lw_S q715 q716 q64 q717) hd_J4_setColor rfl (Nat.le_of_ble_eq_true rfl) (by decide) (by decide) (by decide) (by decide) rfl dJ4_fixAfterDeletion_159 (fun _ _ h => h.elim) (fun r2089 V2090 hP2091 => ?_)
                        obtain ⟨hW2092, hU2093⟩ := hP2091
                        refine z_st (st' := []) rfl ?_
                        have hU2094 := zUnc.tr (S := tC t L) hU2078 hU2093 (fun _ h => Or.inl h)
                        change tW _ _ _ _ _ _ _ (va_up cl2080 p true) _ _ _ _ at hW2092
                        obtain ⟨cl2096, ec2095⟩ : ∃ q, q = va_up cl2080 p true := ⟨_, rfl⟩
                        rw [← ec2095] at hW2092
                        have k2097 : cl2096 p = true := by rw [ec2095, zvs]
                        have k2098 : cl2096 x1 = true := by rw [ec2095, zvn nx1694]; exact k2083
                        have nx2099 : y1743 ≠ p := (tI.gg hlp_1 hm1893 hp1894 hm1733 hp1734)
                        have k2100 : cl2096 y1743 = false := by rw [ec2095, zvn nx2099]; exact k2084
                        have nx2101 : y1903 ≠ p := (tI.gg hlp_1 hm2060 hp2061 hm1733 hp1734)
                        have k2102 : cl2096 y1903 = false := by rw [ec2095, zvn nx2101]; exact k2085
                        refine z_aload_n C 0 rfl dJ4_fixAfterDeletion_162 rfl ?_
                        refine z_callS C (As := [.ref y1701]) (mJ4_rightOf (o := (some y1701)) hW2092 (oM hm1733)) (lw_S q712 q713 q64 q714) hd_J4_rightOf rfl (Nat.le_of_ble_eq_true rfl) (by decide) (by decide) (by decide) (by decide) rfl dJ4_fixAfterDeletion_163 (fun _ _ h => h.elim) (fun r2103 V2104 hP2105 => ?_)
                        rw [hP2105.1, hP2105.2]
                        refine z_st (st' := [va_rf (rg1 y1701)]) rfl ?_
                        refine z_top (v := .ref y1903) (congrArg va_rf (show (rg1 y1701) = (some y1903) from (by rw [hy1904]))) ?_
                        refine z_iconst C (v := (nI 1)) dJ4_fixAfterDeletion_166 rfl ?_
                        refine z_st (st' := [.int (zb true), .ref y1903]) rfl ?_
                        refine z_callS C (As := [.ref y1903, .int (zb true)]) (mJ4_setColor (o := (some y1903)) (c := true) hW2092 (oM hm2060)) (lw_S q715 q716 q64 q717) hd_J4_setColor rfl (Nat.le_of_ble_eq_true rfl) (by decide) (by decide) (by decide) (by decide) rfl dJ4_fixAfterDeletion_167 (fun _ _ h => h.elim) (fun r2106 V2107 hP2108 => ?_)
                        obtain ⟨hW2109, hU2110⟩ := hP2108
                        refine z_st (st' := []) rfl ?_
                        have hU2111 := zUnc.tr (S := tC t L) hU2094 hU2110 (fun _ h => Or.inl h)
                        change tW _ _ _ _ _ _ _ (va_up cl2096 y1903 true) _ _ _ _ at hW2109
                        obtain ⟨cl2113, ec2112⟩ : ∃ q, q = va_up cl2096 y1903 true := ⟨_, rfl⟩
                        rw [← ec2112] at hW2109
                        have k2114 : cl2113 y1903 = true := by rw [ec2112, zvs]
                        have k2115 : cl2113 p = true := by rw [ec2112, zvn (Ne.symm nx2101)]; exact k2097
                        have nx2116 : x1 ≠ y1903 := (ne_pa hp hp2061 (Ne.symm nx1735))
                        have k2117 : cl2113 x1 = true := by rw [ec2112, zvn nx2116]; exact k2098
                        have nx2118 : y1743 ≠ y1903 := (tI.sib hlp_1 hm1733 hy1744 hy1904)
                        have k2119 : cl2113 y1743 = false := by rw [ec2112, zvn nx2118]; exact k2100
                        refine z_aload_n C 1 rfl dJ4_fixAfterDeletion_170 rfl ?_
                        refine z_aload_n C 2 rfl dJ4_fixAfterDeletion_171 rfl ?_
                        refine z_callS C (As := [.ref x1]) (mJ4_parentOf (o := (some x1)) hW2109 (oM hlp_3)) (lw_S q706 q707 q64 q708) hd_J4_parentOf rfl (Nat.le_of_ble_eq_true rfl) (by decide) (by decide) (by decide) (by decide) rfl dJ4_fixAfterDeletion_172 (fun _ _ h => h.elim) (fun r2120 V2121 hP2122 => ?_)
                        rw [hP2122.1, hP2122.2]
                        refine z_st (st' := [va_rf (pa1 x1), .ref t]) rfl ?_
                        refine z_top (v := .ref p) (congrArg va_rf (show (pa1 x1) = (some p) from (by rw [hp]))) ?_
                        refine z_callV C k_TM hW2109.1 (As := [.ref p]) (mJ4_rotateLeft hW2109 hlp_1 hm21 hy1702) (lw_V q718 q720 qs8 q64 q721) rfl hd_J4_rotateLeft rfl (Nat.le_of_ble_eq_true rfl) (by decide) (by decide) (by decide) (by decide) rfl dJ4_fixAfterDeletion_175 (fun _ _ h => h.elim) (fun r2123 V2124 hP2125 => ?_)
                        obtain ⟨hW2126, hU2127⟩ := hP2125
                        refine z_st (st' := []) rfl ?_
                        have hU2128 := zUnc.tr (S := tC t L) hU2111 hU2127 (fun _ h => Or.inl h)
                        have hI2129 := tI_rotL hlp_1 hm21 hy1702
                        obtain ⟨rg2136, eB2131⟩ : ∃ q, q = xR lf1 rg1 p y1701 := ⟨_, rfl⟩
                        rw [← eB2131] at hW2126 hI2129
                        obtain ⟨pa2137, eP2132⟩ : ∃ q, q = xP lf1 pa1 p y1701 := ⟨_, rfl⟩
                        rw [← eP2132] at hW2126 hI2129
                        obtain ⟨lf2138, eA2130⟩ : ∃ q, q = xL lf1 p y1701 := ⟨_, rfl⟩
                        rw [← eA2130] at hW2126 hI2129
                        obtain ⟨rt2139, eT2133⟩ : ∃ q, q = xT rt1 p y1701 := ⟨_, rfl⟩
                        rw [← eT2133] at hW2126 hI2129
                        obtain ⟨lo2140, elo2134⟩ : ∃ q, q = va_up lo1 y1701 (lo1 p) := ⟨_, rfl⟩
                        rw [← elo2134] at hI2129
                        obtain ⟨hi2141, ehi2135⟩ : ∃ q, q = va_up hi1 p (ps y1701) := ⟨_, rfl⟩
                        rw [← ehi2135] at hI2129
                        have k2142 : lf2138 y1701 = (some p) := by rw [eA2130]; exact xL_r
                        have k2143 : pa2137 p = (some y1701) := by rw [eP2132]; exact xP_p
                        have k2144 : rg2136 p = (some y1743) := by rw [eB2131, xR_p]; exact hy1744
                        have nx2145 : x ≠ y1701 := (fn_ne hlp_4 hy1744)
                        have k2146 : lf2138 x = none := by rw [eA2130, xL_o nx2145 (sn_ne hlp_4)]; exact hlp_4
                        have nx2147 : x ≠ p := (fn_ne hlp_4 k1691)
                        have k2148 : rg2136 x = none := by rw [eB2131, xR_o nx2147 (sn_ne hlp_5)]; exact hlp_5
                        have nx2149 : y1743 ≠ x1 := (ne_pa hp1894 hp nx1735)
                        have k2150 : pa2137 x1 = (some p) := by rw [eP2132, xP_o nx1694 nx2082 (so_ne hy1744 nx2149)]; exact hp
                        have k2151 : lf2138 p = (some x1) := by rw [eA2130, xL_o (Ne.symm nx1735) (so_ne k1691 nx1694)]; exact k1691
                        have k2152 : pa2137 y1743 = (some p) := by rw [eP2132]; exact xP_c nx2099 nx1895 hy1744
                        have k2153 : rg2136 y1701 = (some y1903) := by rw [eB2131, xR_o nx1735 (so_ne hy1904 nx2101)]; exact hy1904
                        have k2154 : pa2137 y1903 = (some y1701) := by rw [eP2132, xP_o nx2101 nx2062 (so_ne hy1744 nx2118)]; exact hp2061
                        have g2155 : lo2140 x1 ≤ ps x := by rw [elo2134, zvn nx2082]; exact hlp_6
                        have g2156 : ps x < hi2141 x1 := by rw [ehi2135, zvn nx1694]; exact hlp_7
                        refine z_aload_n C 1 rfl dJ4_fixAfterDeletion_178 rfl ?_
                        refine z_get C k_TM hW2126.1 3 (by decide) rfl q162 dJ4_fixAfterDeletion_179 ?_
                        refine z_astore_nQ C (r := rt2139) [(1, va_rf rt2139), (2, .ref y1701), (0, .ref t)] dJ4_fixAfterDeletion_182 rfl (by decide) rfl ?_
                        refine z_goto C 0 dJ4_fixAfterDeletion_183 (by decide) ?_
                        refine z_pick [(0, .ref t), (1, va_rf rt2139)] [2, 0] rfl ?_
                        obtain ⟨r02157, hr2158⟩ := hI2129.rtm hlp_3
                        obtain ⟨hm2159, hp2160, -, -⟩ := hI2129.2.1.1 r02157 hr2158
                        have e2161 : (va_rf rt2139 : Value) = .ref r02157 := (congrArg va_rf hr2158)
                        refine z_lv (lv' := [(0, .ref t), (1, .ref r02157)]) (by rw [e2161]) ?_
                        exact hexit V2124 rt2139 lf2138 rg2136 pa2137 cl2113 lo2140 hi2141 r02157 hW2126 hI2129 hU2128 hm2159 hr2158 k2146 k2148
                      · skip
                        have k2162 : (cl1 y1903) = true := zb1 c114
                        refine z_aload_n C 0 rfl dJ4_fixAfterDeletion_117 rfl ?_
                        refine z_callS C (As := [.ref y1701]) (mJ4_leftOf (o := (some y1701)) hlp_0 (oM hm1733)) (lw_S q709 q710 q64 q711) hd_J4_leftOf rfl (Nat.le_of_ble_eq_true rfl) (by decide) (by decide) (by decide) (by decide) rfl dJ4_fixAfterDeletion_118 (fun _ _ h => h.elim) (fun r2163 V2164 hP2165 => ?_)
                        rw [hP2165.1, hP2165.2]
                        refine z_st (st' := [va_rf (lf1 y1701)]) rfl ?_
                        refine z_top (v := .ref y1743) (congrArg va_rf (show (lf1 y1701) = (some y1743) from (by rw [hy1744]))) ?_
                        refine z_iconst C (v := (nI 1)) dJ4_fixAfterDeletion_121 rfl ?_
                        refine z_st (st' := [.int (zb true), .ref y1743]) rfl ?_
                        refine z_callS C (As := [.ref y1743, .int (zb true)]) (mJ4_setColor (o := (some y1743)) (c := true) hlp_0 (oM hm1893)) (lw_S q715 q716 q64 q717) hd_J4_setColor rfl (Nat.le_of_ble_eq_true rfl) (by decide) (by decide) (by decide) (by decide) rfl dJ4_fixAfterDeletion_122 (fun _ _ h => h.elim) (fun r2166 V2167 hP2168 => ?_)
                        obtain ⟨hW2169, hU2170⟩ := hP2168
                        refine z_st (st' := []) rfl ?_
                        have hU2171 := zUnc.tr (S := tC t L) hlp_2 hU2170 (fun _ h => Or.inl h)
                        change tW _ _ _ _ _ _ _ (va_up cl1 y1743 true) _ _ _ _ at hW2169
                        obtain ⟨cl2173, ec2172⟩ : ∃ q, q = va_up cl1 y1743 true := ⟨_, rfl⟩
                        rw [← ec2172] at hW2169
                        have k2174 : cl2173 y1743 = true := by rw [ec2172, zvs]
                        have nx2175 : x1 ≠ y1743 := (ne_pa hp hp1894 (Ne.symm nx1735))
                        have k2176 : cl2173 x1 = true := by rw [ec2172, zvn nx2175]; exact k37
                        have k2177 : cl2173 y1701 = true := by rw [ec2172, zvn (Ne.symm nx1895)]; exact k1739
                        have nx2178 : y1903 ≠ y1743 := (Ne.symm (tI.sib hlp_1 hm1733 hy1744 hy1904))
                        have k2179 : cl2173 y1903 = true := by rw [ec2172, zvn nx2178]; exact k2162
                        refine z_aload_n C 0 rfl dJ4_fixAfterDeletion_125 rfl ?_
                        refine z_iconst C (v := (nI 0)) dJ4_fixAfterDeletion_126 rfl ?_
                        refine z_st (st' := [.int (zb false), .ref y1701]) rfl ?_
                        refine z_callS C (As := [.ref y1701, .int (zb false)]) (mJ4_setColor (o := (some y1701)) (c := false) hW2169 (oM hm1733)) (lw_S q715 q716 q64 q717) hd_J4_setColor rfl (Nat.le_of_ble_eq_true rfl) (by decide) (by decide) (by decide) (by decide) rfl dJ4_fixAfterDeletion_127 (fun _ _ h => h.elim) (fun r2180 V2181 hP2182 => ?_)
                        obtain ⟨hW2183, hU2184⟩ := hP2182
                        refine z_st (st' := []) rfl ?_
                        have hU2185 := zUnc.tr (S := tC t L) hU2171 hU2184 (fun _ h => Or.inl h)
                        change tW _ _ _ _ _ _ _ (va_up cl2173 y1701 false) _ _ _ _ at hW2183
                        obtain ⟨cl2187, ec2186⟩ : ∃ q, q = va_up cl2173 y1701 false := ⟨_, rfl⟩
                        rw [← ec2186] at hW2183
                        have k2188 : cl2187 y1701 = false := by rw [ec2186, zvs]
                        have k2189 : cl2187 y1743 = true := by rw [ec2186, zvn nx1895]; exact k2174
                        have nx2190 : x1 ≠ y1701 := (tI.sib hlp_1 hm21 k1691 hy1702)
                        have k2191 : cl2187 x1 = true := by rw [ec2186, zvn nx2190]; exact k2176
                        have k2192 : cl2187 y1903 = true := by rw [ec2186, zvn nx2062]; exact k2179
                        refine z_aload_n C 1 rfl dJ4_fixAfterDeletion_130 rfl ?_
                        refine z_aload_n C 0 rfl dJ4_fixAfterDeletion_131 rfl ?_
                        refine z_callV C k_TM hW2183.1 (As := [.ref y1701]) (mJ4_rotateRight hW2183 hlp_1 hm1733 hy1744) (lw_V q722 q724 qs9 q64 q725) rfl hd_J4_rotateRight rfl (Nat.le_of_ble_eq_true rfl) (by decide) (by decide) (by decide) (by decide) rfl dJ4_fixAfterDeletion_132 (fun _ _ h => h.elim) (fun r2193 V2194 hP2195 => ?_)
                        obtain ⟨hW2196, hU2197⟩ := hP2195
                        refine z_st (st' := []) rfl ?_
                        have hU2198 := zUnc.tr (S := tC t L) hU2185 hU2197 (fun _ h => Or.inl h)
                        have hI2199 := tI_rotR hlp_1 hm1733 hy1744
                        obtain ⟨lf2206, eB2201⟩ : ∃ q, q = xR rg1 lf1 y1701 y1743 := ⟨_, rfl⟩
                        rw [← eB2201] at hW2196 hI2199
                        obtain ⟨pa2207, eP2202⟩ : ∃ q, q = xP rg1 pa1 y1701 y1743 := ⟨_, rfl⟩
                        rw [← eP2202] at hW2196 hI2199
                        obtain ⟨rg2208, eA2200⟩ : ∃ q, q = xL rg1 y1701 y1743 := ⟨_, rfl⟩
                        rw [← eA2200] at hW2196 hI2199
                        obtain ⟨rt2209, eT2203⟩ : ∃ q, q = xT rt1 y1701 y1743 := ⟨_, rfl⟩
                        rw [← eT2203] at hW2196 hI2199
                        obtain ⟨lo2210, elo2204⟩ : ∃ q, q = va_up lo1 y1701 (ps y1743 + 1) := ⟨_, rfl⟩
                        rw [← elo2204] at hI2199
                        obtain ⟨hi2211, ehi2205⟩ : ∃ q, q = va_up hi1 y1743 (hi1 y1701) := ⟨_, rfl⟩
                        rw [← ehi2205] at hI2199
                        have k2212 : rg2208 y1743 = (some y1701) := by rw [eA2200]; exact xL_r
                        have k2213 : pa2207 y1701 = (some y1743) := by rw [eP2202]; exact xP_p
                        have k2214 : pa2207 y1743 = (some p) := by rw [eP2202, xP_r nx1895]; exact hp1734
                        have nx2215 : x ≠ y1701 := (fn_ne hlp_4 hy1744)
                        have k2216 : lf2206 x = none := by rw [eB2201, xR_o nx2215 (sn_ne hlp_4)]; exact hlp_4
                        have nx2217 : x ≠ y1743 := (hlp_1.fL hm21 k1691 hy1702 hlp_7 hm1893 (hlp_1.le hm1893 hp1894).1)
                        have k2218 : rg2208 x = none := by rw [eA2200, xL_o nx2217 (sn_ne hlp_5)]; exact hlp_5
                        have nx2219 : p ≠ y1743 := (Ne.symm (tI.gg hlp_1 hm1893 hp1894 hm1733 hp1734))
                        have k2220 : pa2207 x1 = (some p) := by rw [eP2202, xP_o nx2190 nx2175 (fun z => nx2219 (Option.some.inj (hp.symm.trans (hlp_1.mr hm1893 z).2.1)))]; exact hp
                        have k2221 : lf2206 p = (some x1) := by rw [eB2201, xR_o (Ne.symm nx1735) (so_ne k1691 nx2190)]; exact k1691
                        have k2222 : rg2208 p = (some y1743) := by rw [eA2200]; exact xL_u nx2219 hy1702
                        have k2223 : rg2208 y1701 = (some y1903) := by rw [eA2200, xL_o (Ne.symm nx1895) (so_ne hy1904 nx2062)]; exact hy1904
                        have k2224 : pa2207 y1903 = (some y1701) := by rw [eP2202, xP_o nx2062 nx2178 (fun z => (Ne.symm nx1895) (Option.some.inj (hp2061.symm.trans (hlp_1.mr hm1893 z).2.1)))]; exact hp2061
                        have g2225 : lo2210 x1 ≤ ps x := by rw [elo2204, zvn nx2190]; exact hlp_6
                        have g2226 : ps x < hi2211 x1 := by rw [ehi2205, zvn nx2175]; exact hlp_7
                        refine z_aload_n C 2 rfl dJ4_fixAfterDeletion_135 rfl ?_
                        refine z_callS C (As := [.ref x1]) (mJ4_parentOf (o := (some x1)) hW2196 (oM hlp_3)) (lw_S q706 q707 q64 q708) hd_J4_parentOf rfl (Nat.le_of_ble_eq_true rfl) (by decide) (by decide) (by decide) (by decide) rfl dJ4_fixAfterDeletion_136 (fun _ _ h => h.elim) (fun r2227 V2228 hP2229 => ?_)
                        rw [hP2229.1, hP2229.2]
                        refine z_st (st' := [va_rf (pa2207 x1)]) rfl ?_
                        refine z_top (v := .ref p) (congrArg va_rf (show (pa2207 x1) = (some p) from (by rw [k2220]))) ?_
                        refine z_callS C (As := [.ref p]) (mJ4_rightOf (o := (some p)) hW2196 (oM hm21)) (lw_S q712 q713 q64 q714) hd_J4_rightOf rfl (Nat.le_of_ble_eq_true rfl) (by decide) (by decide) (by decide) (by decide) rfl dJ4_fixAfterDeletion_139 (fun _ _ h => h.elim) (fun r2230 V2231 hP2232 => ?_)
                        rw [hP2232.1, hP2232.2]
                        refine z_st (st' := [va_rf (rg2208 p)]) rfl ?_
                        refine z_top (v := .ref y1743) (congrArg va_rf (show (rg2208 p) = (some y1743) from (by rw [k2222]))) ?_
                        refine z_astore_n C [(2, .ref y1743), (0, .ref t), (1, .ref x1)] dJ4_fixAfterDeletion_142 rfl (by decide) rfl ?_
                        refine z_aload_n C 0 rfl dJ4_fixAfterDeletion_143 rfl ?_
                        refine z_aload_n C 2 rfl dJ4_fixAfterDeletion_144 rfl ?_
                        refine z_callS C (As := [.ref x1]) (mJ4_parentOf (o := (some x1)) hW2196 (oM hlp_3)) (lw_S q706 q707 q64 q708) hd_J4_parentOf rfl (Nat.le_of_ble_eq_true rfl) (by decide) (by decide) (by decide) (by decide) rfl dJ4_fixAfterDeletion_145 (fun _ _ h => h.elim) (fun r2233 V2234 hP2235 => ?_)
                        rw [hP2235.1, hP2235.2]
                        refine z_st (st' := [va_rf (pa2207 x1), .ref y1743]) rfl ?_
                        refine z_top (v := .ref p) (congrArg va_rf (show (pa2207 x1) = (some p) from (by rw [k2220]))) ?_
                        refine z_callS C (As := [.ref p]) (mJ4_colorOf (o := (some p)) hW2196 (oM hm21)) (lw_S q703 q704 q64 q705) hd_J4_colorOf rfl (Nat.le_of_ble_eq_true rfl) (by decide) (by decide) (by decide) (by decide) rfl dJ4_fixAfterDeletion_148 (fun _ _ h => h.elim) (fun r2236 V2237 hP2238 => ?_)
                        rw [hP2238.1, hP2238.2]
                        refine z_st (st' := [.int (zb (cl2187 p)), .ref y1743]) rfl ?_
                        refine z_callS C (As := [.ref y1743, .int (zb (cl2187 p))]) (mJ4_setColor (o := (some y1743)) (c := (cl2187 p)) hW2196 (oM hm1893)) (lw_S q715 q716 q64 q717) hd_J4_setColor rfl (Nat.le_of_ble_eq_true rfl) (by decide) (by decide) (by decide) (by decide) rfl dJ4_fixAfterDeletion_151 (fun _ _ h => h.elim) (fun r2239 V2240 hP2241 => ?_)
                        obtain ⟨hW2242, hU2243⟩ := hP2241
                        refine z_st (st' := []) rfl ?_
                        have hU2244 := zUnc.tr (S := tC t L) hU2198 hU2243 (fun _ h => Or.inl h)
                        change tW _ _ _ _ _ _ _ (va_up cl2187 y1743 (cl2187 p)) _ _ _ _ at hW2242
                        obtain ⟨cl2246, ec2245⟩ : ∃ q, q = va_up cl2187 y1743 (cl2187 p) := ⟨_, rfl⟩
                        rw [← ec2245] at hW2242
                        have k2247 : cl2246 y1743 = (cl2187 p) := by rw [ec2245, zvs]
                        have k2248 : cl2246 y1701 = false := by rw [ec2245, zvn (Ne.symm nx1895)]; exact k2188
                        have k2249 : cl2246 x1 = true := by rw [ec2245, zvn nx2175]; exact k2191
                        have k2250 : cl2246 y1903 = true := by rw [ec2245, zvn nx2178]; exact k2192
                        refine z_aload_n C 2 rfl dJ4_fixAfterDeletion_154 rfl ?_
                        refine z_callS C (As := [.ref x1]) (mJ4_parentOf (o := (some x1)) hW2242 (oM hlp_3)) (lw_S q706 q707 q64 q708) hd_J4_parentOf rfl (Nat.le_of_ble_eq_true rfl) (by decide) (by decide) (by decide) (by decide) rfl dJ4_fixAfterDeletion_155 (fun _ _ h => h.elim) (fun r2251 V2252 hP2253 => ?_)
                        rw [hP2253.1, hP2253.2]
                        refine z_st (st' := [va_rf (pa2207 x1)]) rfl ?_
                        refine z_top (v := .ref p) (congrArg va_rf (show (pa2207 x1) = (some p) from (by rw [k2220]))) ?_
                        refine z_iconst C (v := (nI 1)) dJ4_fixAfterDeletion_158 rfl ?_
                        refine z_st (st' := [.int (zb true), .ref p]) rfl ?_
                        refine z_callS C (As := [.ref p, .int (zb true)]) (mJ4_setColor (o := (some p)) (c := true) hW2242 (oM hm21)) (lw_S q715 q716 q64 q717) hd_J4_setColor rfl (Nat.le_of_ble_eq_true rfl) (by decide) (by decide) (by decide) (by decide) rfl dJ4_fixAfterDeletion_159 (fun _ _ h => h.elim) (fun r2254 V2255 hP2256 => ?_)
                        obtain ⟨hW2257, hU2258⟩ := hP2256
                        refine z_st (st' := []) rfl ?_
                        have hU2259 := zUnc.tr (S := tC t L) hU2244 hU2258 (fun _ h => Or.inl h)
                        change tW _ _ _ _ _ _ _ (va_up cl2246 p true) _ _ _ _ at hW2257
                        obtain ⟨cl2261, ec2260⟩ : ∃ q, q = va_up cl2246 p true := ⟨_, rfl⟩
                        rw [← ec2260] at hW2257
                        have k2262 : cl2261 p = true := by rw [ec2260, zvs]
                        have k2263 : cl2261 y1701 = false := by rw [ec2260, zvn nx1735]; exact k2248
                        have k2264 : cl2261 x1 = true := by rw [ec2260, zvn nx1694]; exact k2249
                        refine z_aload_n C 0 rfl dJ4_fixAfterDeletion_162 rfl ?_
                        refine z_callS C (As := [.ref y1743]) (mJ4_rightOf (o := (some y1743)) hW2257 (oM hm1893)) (lw_S q712 q713 q64 q714) hd_J4_rightOf rfl (Nat.le_of_ble_eq_true rfl) (by decide) (by decide) (by decide) (by decide) rfl dJ4_fixAfterDeletion_163 (fun _ _ h => h.elim) (fun r2265 V2266 hP2267 => ?_)
                        rw [hP2267.1, hP2267.2]
                        refine z_st (st' := [va_rf (rg2208 y1743)]) rfl ?_
                        refine z_top (v := .ref y1701) (congrArg va_rf (show (rg2208 y1743) = (some y1701) from (by rw [k2212]))) ?_
                        refine z_iconst C (v := (nI 1)) dJ4_fixAfterDeletion_166 rfl ?_
                        refine z_st (st' := [.int (zb true), .ref y1701]) rfl ?_
                        refine z_callS C (As := [.ref y1701, .int (zb true)]) (mJ4_setColor (o := (some y1701)) (c := true) hW2257 (oM hm1733)) (lw_S q715 q716 q64 q717) hd_J4_setColor rfl (Nat.le_of_ble_eq_true rfl) (by decide) (by decide) (by decide) (by decide) rfl dJ4_fixAfterDeletion_167 (fun _ _ h => h.elim) (fun r2268 V2269 hP2270 => ?_)
                        obtain ⟨hW2271, hU2272⟩ := hP2270
                        refine z_st (st' := []) rfl ?_
                        have hU2273 := zUnc.tr (S := tC t L) hU2259 hU2272 (fun _ h => Or.inl h)
                        change tW _ _ _ _ _ _ _ (va_up cl2261 y1701 true) _ _ _ _ at hW2271
                        obtain ⟨cl2275, ec2274⟩ : ∃ q, q = va_up cl2261 y1701 true := ⟨_, rfl⟩
                        rw [← ec2274] at hW2271
                        have k2276 : cl2275 y1701 = true := by rw [ec2274, zvs]
                        have k2277 : cl2275 p = true := by rw [ec2274, zvn (Ne.symm nx1735)]; exact k2262
                        have k2278 : cl2275 x1 = true := by rw [ec2274, zvn nx2190]; exact k2264
                        refine z_aload_n C 1 rfl dJ4_fixAfterDeletion_170 rfl ?_
                        refine z_aload_n C 2 rfl dJ4_fixAfterDeletion_171 rfl ?_
                        refine z_callS C (As := [.ref x1]) (mJ4_parentOf (o := (some x1)) hW2271 (oM hlp_3)) (lw_S q706 q707 q64 q708) hd_J4_parentOf rfl (Nat.le_of_ble_eq_true rfl) (by decide) (by decide) (by decide) (by decide) rfl dJ4_fixAfterDeletion_172 (fun _ _ h => h.elim) (fun r2279 V2280 hP2281 => ?_)
                        rw [hP2281.1, hP2281.2]
                        refine z_st (st' := [va_rf (pa2207 x1), .ref t]) rfl ?_
                        refine z_top (v := .ref p) (congrArg va_rf (show (pa2207 x1) = (some p) from (by rw [k2220]))) ?_
                        refine z_callV C k_TM hW2271.1 (As := [.ref p]) (mJ4_rotateLeft hW2271 hI2199 hm21 k2222) (lw_V q718 q720 qs8 q64 q721) rfl hd_J4_rotateLeft rfl (Nat.le_of_ble_eq_true rfl) (by decide) (by decide) (by decide) (by decide) rfl dJ4_fixAfterDeletion_175 (fun _ _ h => h.elim) (fun r2282 V2283 hP2284 => ?_)
                        obtain ⟨hW2285, hU2286⟩ := hP2284
                        refine z_st (st' := []) rfl ?_
                        have hU2287 := zUnc.tr (S := tC t L) hU2273 hU2286 (fun _ h => Or.inl h)
                        have hI2288 := tI_rotL hI2199 hm21 k2222
                        obtain ⟨rg2295, eB2290⟩ : ∃ q, q = xR lf2206 rg2208 p y1743 := ⟨_, rfl⟩
                        rw [← eB2290] at hW2285 hI2288
                        obtain ⟨pa2296, eP2291⟩ : ∃ q, q = xP lf2206 pa2207 p y1743 := ⟨_, rfl⟩
                        rw [← eP2291] at hW2285 hI2288
                        obtain ⟨lf2297, eA2289⟩ : ∃ q, q = xL lf2206 p y1743 := ⟨_, rfl⟩
                        rw [← eA2289] at hW2285 hI2288
                        obtain ⟨rt2298, eT2292⟩ : ∃ q, q = xT rt2209 p y1743 := ⟨_, rfl⟩
                        rw [← eT2292] at hW2285 hI2288
                        obtain ⟨lo2299, elo2293⟩ : ∃ q, q = va_up lo2210 y1743 (lo2210 p) := ⟨_, rfl⟩
                        rw [← elo2293] at hI2288
                        obtain ⟨hi2300, ehi2294⟩ : ∃ q, q = va_up hi2211 p (ps y1743) := ⟨_, rfl⟩
                        rw [← ehi2294] at hI2288
                        have k2301 : lf2297 y1743 = (some p) := by rw [eA2289]; exact xL_r
                        have k2302 : pa2296 p = (some y1743) := by rw [eP2291]; exact xP_p
                        have k2303 : rg2295 y1743 = (some y1701) := by rw [eB2290, xR_o (Ne.symm nx2219) (so_ne k2212 nx1735)]; exact k2212
                        have k2304 : pa2296 y1701 = (some y1743) := by rw [eP2291, xP_o nx1735 (Ne.symm nx1895) (hI2199.rl hm1893 k2212)]; exact k2213
                        have k2305 : lf2297 x = none := by rw [eA2289, xL_o nx2217 (sn_ne k2216)]; exact k2216
                        have nx2306 : x ≠ p := (fn_ne k2216 k2221)
                        have k2307 : rg2295 x = none := by rw [eB2290, xR_o nx2306 (sn_ne k2218)]; exact k2218
                        have k2308 : pa2296 x1 = (some p) := by rw [eP2291, xP_o nx1694 nx2175 (fun z => nx2219 (Option.some.inj (k2220.symm.trans (hI2199.ml hm1893 z).2.1)))]; exact k2220
                        have k2309 : lf2297 p = (some x1) := by rw [eA2289, xL_o nx2219 (so_ne k2221 nx1694)]; exact k2221
                        have g2310 : lo2299 x1 ≤ ps x := by rw [elo2293, zvn nx2175]; exact g2225
                        have g2311 : ps x < hi2300 x1 := by rw [ehi2294, zvn nx1694]; exact g2226
                        refine z_aload_n C 1 rfl dJ4_fixAfterDeletion_178 rfl ?_
                        refine z_get C k_TM hW2285.1 3 (by decide) rfl q162 dJ4_fixAfterDeletion_179 ?_
                        refine z_astore_nQ C (r := rt2298) [(1, va_rf rt2298), (2, .ref y1743), (0, .ref t)] dJ4_fixAfterDeletion_182 rfl (by decide) rfl ?_
                        refine z_goto C 0 dJ4_fixAfterDeletion_183 (by decide) ?_
                        refine z_pick [(0, .ref t), (1, va_rf rt2298)] [2, 0] rfl ?_
                        obtain ⟨r02312, hr2313⟩ := hI2288.rtm hlp_3
                        obtain ⟨hm2314, hp2315, -, -⟩ := hI2288.2.1.1 r02312 hr2313
                        have e2316 : (va_rf rt2298 : Value) = .ref r02312 := (congrArg va_rf hr2313)
                        refine z_lv (lv' := [(0, .ref t), (1, .ref r02312)]) (by rw [e2316]) ?_
                        exact hexit V2283 rt2298 lf2297 rg2295 pa2296 cl2275 lo2299 hi2300 r02312 hW2285 hI2288 hU2287 hm2314 hr2313 k2305 k2307
                  · skip
                    have k2317 : (cl1 y1743) = true := zb1 c79
                    refine z_aload_n C 0 rfl dJ4_fixAfterDeletion_82 rfl ?_
                    refine z_callS C (As := [.ref y1701]) (mJ4_rightOf (o := (some y1701)) hlp_0 (oM hm1733)) (lw_S q712 q713 q64 q714) hd_J4_rightOf rfl (Nat.le_of_ble_eq_true rfl) (by decide) (by decide) (by decide) (by decide) rfl dJ4_fixAfterDeletion_83 (fun _ _ h => h.elim) (fun r2318 V2319 hP2320 => ?_)
                    rw [hP2320.1, hP2320.2]
                    refine z_st (st' := [va_rf (rg1 y1701)]) rfl ?_
                    rcases hy2322 : rg1 y1701 with _ | y2321
                    · skip
                      refine z_callS C (As := [.null]) (mJ4_colorOf (o := none) hlp_0 oN) (lw_S q703 q704 q64 q705) hd_J4_colorOf rfl (Nat.le_of_ble_eq_true rfl) (by decide) (by decide) (by decide) (by decide) rfl dJ4_fixAfterDeletion_86 (fun _ _ h => h.elim) (fun r2323 V2324 hP2325 => ?_)
                      rw [hP2325.1, hP2325.2]
                      refine z_st (st' := [.int (zb true)]) rfl ?_
                      refine z_iconst C (v := (nI 1)) dJ4_fixAfterDeletion_89 rfl ?_
                      refine z_icmp_ne C 106 dJ4_fixAfterDeletion_90 (by decide) (fun c90 => ?_) (fun c90 => ?_)
                      · skip
                        have k2326 : true = false := zb1f c90
                        cases k2326
                      · skip
                        have k2327 : true = true := zb1 c90
                        refine z_aload_n C 0 rfl dJ4_fixAfterDeletion_93 rfl ?_
                        refine z_iconst C (v := (nI 0)) dJ4_fixAfterDeletion_94 rfl ?_
                        refine z_st (st' := [.int (zb false), .ref y1701]) rfl ?_
                        refine z_callS C (As := [.ref y1701, .int (zb false)]) (mJ4_setColor (o := (some y1701)) (c := false) hlp_0 (oM hm1733)) (lw_S q715 q716 q64 q717) hd_J4_setColor rfl (Nat.le_of_ble_eq_true rfl) (by decide) (by decide) (by decide) (by decide) rfl dJ4_fixAfterDeletion_95 (fun _ _ h => h.elim) (fun r2328 V2329 hP2330 => ?_)
                        obtain ⟨hW2331, hU2332⟩ := hP2330
                        refine z_st (st' := []) rfl ?_
                        have hU2333 := zUnc.tr (S := tC t L) hlp_2 hU2332 (fun _ h => Or.inl h)
                        change tW _ _ _ _ _ _ _ (va_up cl1 y1701 false) _ _ _ _ at hW2331
                        obtain ⟨cl2335, ec2334⟩ : ∃ q, q = va_up cl1 y1701 false := ⟨_, rfl⟩
                        rw [← ec2334] at hW2331
                        have k2336 : cl2335 y1701 = false := by rw [ec2334, zvs]
                        have nx2337 : x1 ≠ y1701 := (tI.sib hlp_1 hm21 k1691 hy1702)
                        have k2338 : cl2335 x1 = true := by rw [ec2334, zvn nx2337]; exact k37
                        have k2339 : cl2335 y1743 = true := by rw [ec2334, zvn nx1895]; exact k2317
                        refine z_aload_n C 2 rfl dJ4_fixAfterDeletion_98 rfl ?_
                        refine z_callS C (As := [.ref x1]) (mJ4_parentOf (o := (some x1)) hW2331 (oM hlp_3)) (lw_S q706 q707 q64 q708) hd_J4_parentOf rfl (Nat.le_of_ble_eq_true rfl) (by decide) (by decide) (by decide) (by decide) rfl dJ4_fixAfterDeletion_99 (fun _ _ h => h.elim) (fun r2340 V2341 hP2342 => ?_)
                        rw [hP2342.1, hP2342.2]
                        refine z_st (st' := [va_rf (pa1 x1)]) rfl ?_
                        refine z_top (v := .ref p) (congrArg va_rf (show (pa1 x1) = (some p) from (by rw [hp]))) ?_
                        refine z_astore_n C [(1, .ref p), (2, .ref y1701), (0, .ref t)] dJ4_fixAfterDeletion_102 rfl (by decide) rfl ?_
                        refine z_goto C 183 dJ4_fixAfterDeletion_103 (by decide) ?_
                        refine z_goto C 0 dJ4_fixAfterDeletion_183 (by decide) ?_
                        refine z_pick [(0, .ref t), (1, .ref p)] [2, 0] rfl ?_
                        have q1 := (hlp_1.mp hlp_3 hp).2
                        exact ih_lp V2329 rt1 lf1 rg1 pa1 cl2335 lo1 hi1 p hW2331 hlp_1 hU2333 hm21 hlp_4 hlp_5 (Nat.le_trans (hlp_1.le hlp_3 hp).1 hlp_6) (Nat.lt_of_lt_of_le hlp_7 (hlp_1.le hlp_3 hp).2) (by omega)
                    · skip
                      obtain ⟨hm2343, hp2344, nx2345⟩ := hlp_1.mr hm1733 hy2322
                      refine z_callS C (As := [.ref y2321]) (mJ4_colorOf (o := (some y2321)) hlp_0 (oM hm2343)) (lw_S q703 q704 q64 q705) hd_J4_colorOf rfl (Nat.le_of_ble_eq_true rfl) (by decide) (by decide) (by decide) (by decide) rfl dJ4_fixAfterDeletion_86 (fun _ _ h => h.elim) (fun r2346 V2347 hP2348 => ?_)
                      rw [hP2348.1, hP2348.2]
                      refine z_st (st' := [.int (zb (cl1 y2321))]) rfl ?_
                      refine z_iconst C (v := (nI 1)) dJ4_fixAfterDeletion_89 rfl ?_
                      refine z_icmp_ne C 106 dJ4_fixAfterDeletion_90 (by decide) (fun c90 => ?_) (fun c90 => ?_)
                      · skip
                        have k2349 : (cl1 y2321) = false := zb1f c90
                        refine z_aload_n C 0 rfl dJ4_fixAfterDeletion_106 rfl ?_
                        refine z_callS C (As := [.ref y1701]) (mJ4_rightOf (o := (some y1701)) hlp_0 (oM hm1733)) (lw_S q712 q713 q64 q714) hd_J4_rightOf rfl (Nat.le_of_ble_eq_true rfl) (by decide) (by decide) (by decide) (by decide) rfl dJ4_fixAfterDeletion_107 (fun _ _ h => h.elim) (fun r2350 V2351 hP2352 => ?_)
                        rw [hP2352.1, hP2352.2]
                        refine z_st (st' := [va_rf (rg1 y1701)]) rfl ?_
                        refine z_top (v := .ref y2321) (congrArg va_rf (show (rg1 y1701) = (some y2321) from (by rw [hy2322]))) ?_
                        refine z_callS C (As := [.ref y2321]) (mJ4_colorOf (o := (some y2321)) hlp_0 (oM hm2343)) (lw_S q703 q704 q64 q705) hd_J4_colorOf rfl (Nat.le_of_ble_eq_true rfl) (by decide) (by decide) (by decide) (by decide) rfl dJ4_fixAfterDeletion_110 (fun _ _ h => h.elim) (fun r2353 V2354 hP2355 => ?_)
                        rw [hP2355.1, hP2355.2]
                        refine z_st (st' := [.int (zb (cl1 y2321))]) rfl ?_
                        refine z_top (v := .int (zb false)) (congrArg (fun c => Value.int (zb c)) (show (cl1 y2321) = false from (by rw [k2349]))) ?_
                        refine z_iconst C (v := (nI 1)) dJ4_fixAfterDeletion_113 rfl ?_
                        refine z_icmp_ne C 143 dJ4_fixAfterDeletion_114 (by decide) (fun c114 => ?_) (fun c114 => ?_)
                        · skip
                          have k2356 : false = false := zb1f c114
                          refine z_aload_n C 0 rfl dJ4_fixAfterDeletion_143 rfl ?_
                          refine z_aload_n C 2 rfl dJ4_fixAfterDeletion_144 rfl ?_
                          refine z_callS C (As := [.ref x1]) (mJ4_parentOf (o := (some x1)) hlp_0 (oM hlp_3)) (lw_S q706 q707 q64 q708) hd_J4_parentOf rfl (Nat.le_of_ble_eq_true rfl) (by decide) (by decide) (by decide) (by decide) rfl dJ4_fixAfterDeletion_145 (fun _ _ h => h.elim) (fun r2357 V2358 hP2359 => ?_)
                          rw [hP2359.1, hP2359.2]
                          refine z_st (st' := [va_rf (pa1 x1), .ref y1701]) rfl ?_
                          refine z_top (v := .ref p) (congrArg va_rf (show (pa1 x1) = (some p) from (by rw [hp]))) ?_
                          refine z_callS C (As := [.ref p]) (mJ4_colorOf (o := (some p)) hlp_0 (oM hm21)) (lw_S q703 q704 q64 q705) hd_J4_colorOf rfl (Nat.le_of_ble_eq_true rfl) (by decide) (by decide) (by decide) (by decide) rfl dJ4_fixAfterDeletion_148 (fun _ _ h => h.elim) (fun r2360 V2361 hP2362 => ?_)
                          rw [hP2362.1, hP2362.2]
                          refine z_st (st' := [.int (zb (cl1 p)), .ref y1701]) rfl ?_
                          refine z_callS C (As := [.ref y1701, .int (zb (cl1 p))]) (mJ4_setColor (o := (some y1701)) (c := (cl1 p)) hlp_0 (oM hm1733)) (lw_S q715 q716 q64 q717) hd_J4_setColor rfl (Nat.le_of_ble_eq_true rfl) (by decide) (by decide) (by decide) (by decide) rfl dJ4_fixAfterDeletion_151 (fun _ _ h => h.elim) (fun r2363 V2364 hP2365 => ?_)
                          obtain ⟨hW2366, hU2367⟩ := hP2365
                          refine z_st (st' := []) rfl ?_
                          have hU2368 := zUnc.tr (S := tC t L) hlp_2 hU2367 (fun _ h => Or.inl h)
                          change tW _ _ _ _ _ _ _ (va_up cl1 y1701 (cl1 p)) _ _ _ _ at hW2366
                          obtain ⟨cl2370, ec2369⟩ : ∃ q, q = va_up cl1 y1701 (cl1 p) := ⟨_, rfl⟩
                          rw [← ec2369] at hW2366
                          have k2371 : cl2370 y1701 = (cl1 p) := by rw [ec2369, zvs]
                          have nx2372 : x1 ≠ y1701 := (tI.sib hlp_1 hm21 k1691 hy1702)
                          have k2373 : cl2370 x1 = true := by rw [ec2369, zvn nx2372]; exact k37
                          have k2374 : cl2370 y1743 = true := by rw [ec2369, zvn nx1895]; exact k2317
                          have k2375 : cl2370 y2321 = false := by rw [ec2369, zvn nx2345]; exact k2349
                          refine z_aload_n C 2 rfl dJ4_fixAfterDeletion_154 rfl ?_
                          refine z_callS C (As := [.ref x1]) (mJ4_parentOf (o := (some x1)) hW2366 (oM hlp_3)) (lw_S q706 q707 q64 q708) hd_J4_parentOf rfl (Nat.le_of_ble_eq_true rfl) (by decide) (by decide) (by decide) (by decide) rfl dJ4_fixAfterDeletion_155 (fun _ _ h => h.elim) (fun r2376 V2377 hP2378 => ?_)
                          rw [hP2378.1, hP2378.2]
                          refine z_st (st' := [va_rf (pa1 x1)]) rfl ?_
                          refine z_top (v := .ref p) (congrArg va_rf (show (pa1 x1) = (some p) from (by rw [hp]))) ?_
                          refine z_iconst C (v := (nI 1)) dJ4_fixAfterDeletion_158 rfl ?_
                          refine z_st (st' := [.int (zb true), .ref p]) rfl ?_
                          refine z_callS C (As := [.ref p, .int (zb true)]) (mJ4_setColor (o := (some p)) (c := true) hW2366 (oM hm21)) (lw_S q715 q716 q64 q717) hd_J4_setColor rfl (Nat.le_of_ble_eq_true rfl) (by decide) (by decide) (by decide) (by decide) rfl dJ4_fixAfterDeletion_159 (fun _ _ h => h.elim) (fun r2379 V2380 hP2381 => ?_)
                          obtain ⟨hW2382, hU2383⟩ := hP2381
                          refine z_st (st' := []) rfl ?_
                          have hU2384 := zUnc.tr (S := tC t L) hU2368 hU2383 (fun _ h => Or.inl h)
                          change tW _ _ _ _ _ _ _ (va_up cl2370 p true) _ _ _ _ at hW2382
                          obtain ⟨cl2386, ec2385⟩ : ∃ q, q = va_up cl2370 p true := ⟨_, rfl⟩
                          rw [← ec2385] at hW2382
                          have k2387 : cl2386 p = true := by rw [ec2385, zvs]
                          have k2388 : cl2386 x1 = true := by rw [ec2385, zvn nx1694]; exact k2373
                          have nx2389 : y1743 ≠ p := (tI.gg hlp_1 hm1893 hp1894 hm1733 hp1734)
                          have k2390 : cl2386 y1743 = true := by rw [ec2385, zvn nx2389]; exact k2374
                          have nx2391 : y2321 ≠ p := (tI.gg hlp_1 hm2343 hp2344 hm1733 hp1734)
                          have k2392 : cl2386 y2321 = false := by rw [ec2385, zvn nx2391]; exact k2375
                          refine z_aload_n C 0 rfl dJ4_fixAfterDeletion_162 rfl ?_
                          refine z_callS C (As := [.ref y1701]) (mJ4_rightOf (o := (some y1701)) hW2382 (oM hm1733)) (lw_S q712 q713 q64 q714) hd_J4_rightOf rfl (Nat.le_of_ble_eq_true rfl) (by decide) (by decide) (by decide) (by decide) rfl dJ4_fixAfterDeletion_163 (fun _ _ h => h.elim) (fun r2393 V2394 hP2395 => ?_)
                          rw [hP2395.1, hP2395.2]
                          refine z_st (st' := [va_rf (rg1 y1701)]) rfl ?_
                          refine z_top (v := .ref y2321) (congrArg va_rf (show (rg1 y1701) = (some y2321) from (by rw [hy2322]))) ?_
                          refine z_iconst C (v := (nI 1)) dJ4_fixAfterDeletion_166 rfl ?_
                          refine z_st (st' := [.int (zb true), .ref y2321]) rfl ?_
                          refine z_callS C (As := [.ref y2321, .int (zb true)]) (mJ4_setColor (o := (some y2321)) (c := true) hW2382 (oM hm2343)) (lw_S q715 q716 q64 q717) hd_J4_setColor rfl (Nat.le_of_ble_eq_true rfl) (by decide) (by decide) (by decide) (by decide) rfl dJ4_fixAfterDeletion_167 (fun _ _ h => h.elim) (fun r2396 V2397 hP2398 => ?_)
                          obtain ⟨hW2399, hU2400⟩ := hP2398
                          refine z_st (st' := []) rfl ?_
                          have hU2401 := zUnc.tr (S := tC t L) hU2384 hU2400 (fun _ h => Or.inl h)
                          change tW _ _ _ _ _ _ _ (va_up cl2386 y2321 true) _ _ _ _ at hW2399
                          obtain ⟨cl2403, ec2402⟩ : ∃ q, q = va_up cl2386 y2321 true := ⟨_, rfl⟩
                          rw [← ec2402] at hW2399
                          have k2404 : cl2403 y2321 = true := by rw [ec2402, zvs]
                          have k2405 : cl2403 p = true := by rw [ec2402, zvn (Ne.symm nx2391)]; exact k2387
                          have nx2406 : x1 ≠ y2321 := (ne_pa hp hp2344 (Ne.symm nx1735))
                          have k2407 : cl2403 x1 = true := by rw [ec2402, zvn nx2406]; exact k2388
                          have nx2408 : y1743 ≠ y2321 := (tI.sib hlp_1 hm1733 hy1744 hy2322)
                          have k2409 : cl2403 y1743 = true := by rw [ec2402, zvn nx2408]; exact k2390
                          refine z_aload_n C 1 rfl dJ4_fixAfterDeletion_170 rfl ?_
                          refine z_aload_n C 2 rfl dJ4_fixAfterDeletion_171 rfl ?_
                          refine z_callS C (As := [.ref x1]) (mJ4_parentOf (o := (some x1)) hW2399 (oM hlp_3)) (lw_S q706 q707 q64 q708) hd_J4_parentOf rfl (Nat.le_of_ble_eq_true rfl) (by decide) (by decide) (by decide) (by decide) rfl dJ4_fixAfterDeletion_172 (fun _ _ h => h.elim) (fun r2410 V2411 hP2412 => ?_)
                          rw [hP2412.1, hP2412.2]
                          refine z_st (st' := [va_rf (pa1 x1), .ref t]) rfl ?_
                          refine z_top (v := .ref p) (congrArg va_rf (show (pa1 x1) = (some p) from (by rw [hp]))) ?_
                          refine z_callV C k_TM hW2399.1 (As := [.ref p]) (mJ4_rotateLeft hW2399 hlp_1 hm21 hy1702) (lw_V q718 q720 qs8 q64 q721) rfl hd_J4_rotateLeft rfl (Nat.le_of_ble_eq_true rfl) (by decide) (by decide) (by decide) (by decide) rfl dJ4_fixAfterDeletion_175 (fun _ _ h => h.elim) (fun r2413 V2414 hP2415 => ?_)
                          obtain ⟨hW2416, hU2417⟩ := hP2415
                          refine z_st (st' := []) rfl ?_
                          have hU2418 := zUnc.tr (S := tC t L) hU2401 hU2417 (fun _ h => Or.inl h)
                          have hI2419 := tI_rotL hlp_1 hm21 hy1702
                          obtain ⟨rg2426, eB2421⟩ : ∃ q, q = xR lf1 rg1 p y1701 := ⟨_, rfl⟩
                          rw [← eB2421] at hW2416 hI2419
                          obtain ⟨pa2427, eP2422⟩ : ∃ q, q = xP lf1 pa1 p y1701 := ⟨_, rfl⟩
                          rw [← eP2422] at hW2416 hI2419
                          obtain ⟨lf2428, eA2420⟩ : ∃ q, q = xL lf1 p y1701 := ⟨_, rfl⟩
                          rw [← eA2420] at hW2416 hI2419
                          obtain ⟨rt2429, eT2423⟩ : ∃ q, q = xT rt1 p y1701 := ⟨_, rfl⟩
                          rw [← eT2423] at hW2416 hI2419
                          obtain ⟨lo2430, elo2424⟩ : ∃ q, q = va_up lo1 y1701 (lo1 p) := ⟨_, rfl⟩
                          rw [← elo2424] at hI2419
                          obtain ⟨hi2431, ehi2425⟩ : ∃ q, q = va_up hi1 p (ps y1701) := ⟨_, rfl⟩
                          rw [← ehi2425] at hI2419
                          have k2432 : lf2428 y1701 = (some p) := by rw [eA2420]; exact xL_r
                          have k2433 : pa2427 p = (some y1701) := by rw [eP2422]; exact xP_p
                          have k2434 : rg2426 p = (some y1743) := by rw [eB2421, xR_p]; exact hy1744
                          have nx2435 : x ≠ y1701 := (fn_ne hlp_4 hy1744)
                          have k2436 : lf2428 x = none := by rw [eA2420, xL_o nx2435 (sn_ne hlp_4)]; exact hlp_4
                          have nx2437 : x ≠ p := (fn_ne hlp_4 k1691)
                          have k2438 : rg2426 x = none := by rw [eB2421, xR_o nx2437 (sn_ne hlp_5)]; exact hlp_5
                          have nx2439 : y1743 ≠ x1 := (ne_pa hp1894 hp nx1735)
                          have k2440 : pa2427 x1 = (some p) := by rw [eP2422, xP_o nx1694 nx2372 (so_ne hy1744 nx2439)]; exact hp
                          have k2441 : lf2428 p = (some x1) := by rw [eA2420, xL_o (Ne.symm nx1735) (so_ne k1691 nx1694)]; exact k1691
                          have k2442 : pa2427 y1743 = (some p) := by rw [eP2422]; exact xP_c nx2389 nx1895 hy1744
                          have k2443 : rg2426 y1701 = (some y2321) := by rw [eB2421, xR_o nx1735 (so_ne hy2322 nx2391)]; exact hy2322
                          have k2444 : pa2427 y2321 = (some y1701) := by rw [eP2422, xP_o nx2391 nx2345 (so_ne hy1744 nx2408)]; exact hp2344
                          have g2445 : lo2430 x1 ≤ ps x := by rw [elo2424, zvn nx2372]; exact hlp_6
                          have g2446 : ps x < hi2431 x1 := by rw [ehi2425, zvn nx1694]; exact hlp_7
                          refine z_aload_n C 1 rfl dJ4_fixAfterDeletion_178 rfl ?_
                          refine z_get C k_TM hW2416.1 3 (by decide) rfl q162 dJ4_fixAfterDeletion_179 ?_
                          refine z_astore_nQ C (r := rt2429) [(1, va_rf rt2429), (2, .ref y1701), (0, .ref t)] dJ4_fixAfterDeletion_182 rfl (by decide) rfl ?_
                          refine z_goto C 0 dJ4_fixAfterDeletion_183 (by decide) ?_
                          refine z_pick [(0, .ref t), (1, va_rf rt2429)] [2, 0] rfl ?_
                          obtain ⟨r02447, hr2448⟩ := hI2419.rtm hlp_3
                          obtain ⟨hm2449, hp2450, -, -⟩ := hI2419.2.1.1 r02447 hr2448
                          have e2451 : (va_rf rt2429 : Value) = .ref r02447 := (congrArg va_rf hr2448)
                          refine z_lv (lv' := [(0, .ref t), (1, .ref r02447)]) (by rw [e2451]) ?_
                          exact hexit V2414 rt2429 lf2428 rg2426 pa2427 cl2403 lo2430 hi2431 r02447 hW2416 hI2419 hU2418 hm2449 hr2448 k2436 k2438
                        · skip
                          have k2452 : false = true := zb1 c114
                          cases k2452
                      · skip
                        have k2453 : (cl1 y2321) = true := zb1 c90
                        refine z_aload_n C 0 rfl dJ4_fixAfterDeletion_93 rfl ?_
                        refine z_iconst C (v := (nI 0)) dJ4_fixAfterDeletion_94 rfl ?_
                        refine z_st (st' := [.int (zb false), .ref y1701]) rfl ?_
                        refine z_callS C (As := [.ref y1701, .int (zb false)]) (mJ4_setColor (o := (some y1701)) (c := false) hlp_0 (oM hm1733)) (lw_S q715 q716 q64 q717) hd_J4_setColor rfl (Nat.le_of_ble_eq_true rfl) (by decide) (by decide) (by decide) (by decide) rfl dJ4_fixAfterDeletion_95 (fun _ _ h => h.elim) (fun r2454 V2455 hP2456 => ?_)
                        obtain ⟨hW2457, hU2458⟩ := hP2456
                        refine z_st (st' := []) rfl ?_
                        have hU2459 := zUnc.tr (S := tC t L) hlp_2 hU2458 (fun _ h => Or.inl h)
                        change tW _ _ _ _ _ _ _ (va_up cl1 y1701 false) _ _ _ _ at hW2457
                        obtain ⟨cl2461, ec2460⟩ : ∃ q, q = va_up cl1 y1701 false := ⟨_, rfl⟩
                        rw [← ec2460] at hW2457
                        have k2462 : cl2461 y1701 = false := by rw [ec2460, zvs]
                        have nx2463 : x1 ≠ y1701 := (tI.sib hlp_1 hm21 k1691 hy1702)
                        have k2464 : cl2461 x1 = true := by rw [ec2460, zvn nx2463]; exact k37
                        have k2465 : cl2461 y1743 = true := by rw [ec2460, zvn nx1895]; exact k2317
                        have k2466 : cl2461 y2321 = true := by rw [ec2460, zvn nx2345]; exact k2453
                        refine z_aload_n C 2 rfl dJ4_fixAfterDeletion_98 rfl ?_
                        refine z_callS C (As := [.ref x1]) (mJ4_parentOf (o := (some x1)) hW2457 (oM hlp_3)) (lw_S q706 q707 q64 q708) hd_J4_parentOf rfl (Nat.le_of_ble_eq_true rfl) (by decide) (by decide) (by decide) (by decide) rfl dJ4_fixAfterDeletion_99 (fun _ _ h => h.elim) (fun r2467 V2468 hP2469 => ?_)
                        rw [hP2469.1, hP2469.2]
                        refine z_st (st' := [va_rf (pa1 x1)]) rfl ?_
                        refine z_top (v := .ref p) (congrArg va_rf (show (pa1 x1) = (some p) from (by rw [hp]))) ?_
                        refine z_astore_n C [(1, .ref p), (2, .ref y1701), (0, .ref t)] dJ4_fixAfterDeletion_102 rfl (by decide) rfl ?_
                        refine z_goto C 183 dJ4_fixAfterDeletion_103 (by decide) ?_
                        refine z_goto C 0 dJ4_fixAfterDeletion_183 (by decide) ?_
                        refine z_pick [(0, .ref t), (1, .ref p)] [2, 0] rfl ?_
                        have q1 := (hlp_1.mp hlp_3 hp).2
                        exact ih_lp V2455 rt1 lf1 rg1 pa1 cl2461 lo1 hi1 p hW2457 hlp_1 hU2459 hm21 hlp_4 hlp_5 (Nat.le_trans (hlp_1.le hlp_3 hp).1 hlp_6) (Nat.lt_of_lt_of_le hlp_7 (hlp_1.le hlp_3 hp).2) (by omega)
              · skip
                have k2470 : (cl1 y1701) = false := c39
                refine z_aload_n C 0 rfl dJ4_fixAfterDeletion_42 rfl ?_
                refine z_iconst C (v := (nI 1)) dJ4_fixAfterDeletion_43 rfl ?_
                refine z_st (st' := [.int (zb true), .ref y1701]) rfl ?_
                refine z_callS C (As := [.ref y1701, .int (zb true)]) (mJ4_setColor (o := (some y1701)) (c := true) hlp_0 (oM hm1733)) (lw_S q715 q716 q64 q717) hd_J4_setColor rfl (Nat.le_of_ble_eq_true rfl) (by decide) (by decide) (by decide) (by decide) rfl dJ4_fixAfterDeletion_44 (fun _ _ h => h.elim) (fun r2471 V2472 hP2473 => ?_)
                obtain ⟨hW2474, hU2475⟩ := hP2473
                refine z_st (st' := []) rfl ?_
                have hU2476 := zUnc.tr (S := tC t L) hlp_2 hU2475 (fun _ h => Or.inl h)
                change tW _ _ _ _ _ _ _ (va_up cl1 y1701 true) _ _ _ _ at hW2474
                obtain ⟨cl2478, ec2477⟩ : ∃ q, q = va_up cl1 y1701 true := ⟨_, rfl⟩
                rw [← ec2477] at hW2474
                have k2479 : cl2478 y1701 = true := by rw [ec2477, zvs]
                have nx2480 : x1 ≠ y1701 := (tI.sib hlp_1 hm21 k1691 hy1702)
                have k2481 : cl2478 x1 = true := by rw [ec2477, zvn nx2480]; exact k37
                refine z_aload_n C 2 rfl dJ4_fixAfterDeletion_47 rfl ?_
                refine z_callS C (As := [.ref x1]) (mJ4_parentOf (o := (some x1)) hW2474 (oM hlp_3)) (lw_S q706 q707 q64 q708) hd_J4_parentOf rfl (Nat.le_of_ble_eq_true rfl) (by decide) (by decide) (by decide) (by decide) rfl dJ4_fixAfterDeletion_48 (fun _ _ h => h.elim) (fun r2482 V2483 hP2484 => ?_)
                rw [hP2484.1, hP2484.2]
                refine z_st (st' := [va_rf (pa1 x1)]) rfl ?_
                refine z_top (v := .ref p) (congrArg va_rf (show (pa1 x1) = (some p) from (by rw [hp]))) ?_
                refine z_iconst C (v := (nI 0)) dJ4_fixAfterDeletion_51 rfl ?_
                refine z_st (st' := [.int (zb false), .ref p]) rfl ?_
                refine z_callS C (As := [.ref p, .int (zb false)]) (mJ4_setColor (o := (some p)) (c := false) hW2474 (oM hm21)) (lw_S q715 q716 q64 q717) hd_J4_setColor rfl (Nat.le_of_ble_eq_true rfl) (by decide) (by decide) (by decide) (by decide) rfl dJ4_fixAfterDeletion_52 (fun _ _ h => h.elim) (fun r2485 V2486 hP2487 => ?_)
                obtain ⟨hW2488, hU2489⟩ := hP2487
                refine z_st (st' := []) rfl ?_
                have hU2490 := zUnc.tr (S := tC t L) hU2476 hU2489 (fun _ h => Or.inl h)
                change tW _ _ _ _ _ _ _ (va_up cl2478 p false) _ _ _ _ at hW2488
                obtain ⟨cl2492, ec2491⟩ : ∃ q, q = va_up cl2478 p false := ⟨_, rfl⟩
                rw [← ec2491] at hW2488
                have k2493 : cl2492 p = false := by rw [ec2491, zvs]
                have k2494 : cl2492 y1701 = true := by rw [ec2491, zvn nx1735]; exact k2479
                have k2495 : cl2492 x1 = true := by rw [ec2491, zvn nx1694]; exact k2481
                refine z_aload_n C 1 rfl dJ4_fixAfterDeletion_55 rfl ?_
                refine z_aload_n C 2 rfl dJ4_fixAfterDeletion_56 rfl ?_
                refine z_callS C (As := [.ref x1]) (mJ4_parentOf (o := (some x1)) hW2488 (oM hlp_3)) (lw_S q706 q707 q64 q708) hd_J4_parentOf rfl (Nat.le_of_ble_eq_true rfl) (by decide) (by decide) (by decide) (by decide) rfl dJ4_fixAfterDeletion_57 (fun _ _ h => h.elim) (fun r2496 V2497 hP2498 => ?_)
                rw [hP2498.1, hP2498.2]
                refine z_st (st' := [va_rf (pa1 x1), .ref t]) rfl ?_
                refine z_top (v := .ref p) (congrArg va_rf (show (pa1 x1) = (some p) from (by rw [hp]))) ?_
                refine z_callV C k_TM hW2488.1 (As := [.ref p]) (mJ4_rotateLeft hW2488 hlp_1 hm21 hy1702) (lw_V q718 q720 qs8 q64 q721) rfl hd_J4_rotateLeft rfl (Nat.le_of_ble_eq_true rfl) (by decide) (by decide) (by decide) (by decide) rfl dJ4_fixAfterDeletion_60 (fun _ _ h => h.elim) (fun r2499 V2500 hP2501 => ?_)
                obtain ⟨hW2502, hU2503⟩ := hP2501
                refine z_st (st' := []) rfl ?_
                have hU2504 := zUnc.tr (S := tC t L) hU2490 hU2503 (fun _ h => Or.inl h)
                have hI2505 := tI_rotL hlp_1 hm21 hy1702
                obtain ⟨rg2512, eB2507⟩ : ∃ q, q = xR lf1 rg1 p y1701 := ⟨_, rfl⟩
                rw [← eB2507] at hW2502 hI2505
                obtain ⟨pa2513, eP2508⟩ : ∃ q, q = xP lf1 pa1 p y1701 := ⟨_, rfl⟩
                rw [← eP2508] at hW2502 hI2505
                obtain ⟨lf2514, eA2506⟩ : ∃ q, q = xL lf1 p y1701 := ⟨_, rfl⟩
                rw [← eA2506] at hW2502 hI2505
                obtain ⟨rt2515, eT2509⟩ : ∃ q, q = xT rt1 p y1701 := ⟨_, rfl⟩
                rw [← eT2509] at hW2502 hI2505
                obtain ⟨lo2516, elo2510⟩ : ∃ q, q = va_up lo1 y1701 (lo1 p) := ⟨_, rfl⟩
                rw [← elo2510] at hI2505
                obtain ⟨hi2517, ehi2511⟩ : ∃ q, q = va_up hi1 p (ps y1701) := ⟨_, rfl⟩
                rw [← ehi2511] at hI2505
                have k2518 : lf2514 y1701 = (some p) := by rw [eA2506]; exact xL_r
                have k2519 : pa2513 p = (some y1701) := by rw [eP2508]; exact xP_p
                have nx2520 : x ≠ y1701 := (hlp_1.fL hm21 k1691 hy1702 hlp_7 hm1733 (Nat.le_refl _))
                have k2521 : lf2514 x = none := by rw [eA2506, xL_o nx2520 (sn_ne hlp_4)]; exact hlp_4
                have nx2522 : x ≠ p := (fn_ne hlp_4 k1691)
                have k2523 : rg2512 x = none := by rw [eB2507, xR_o nx2522 (sn_ne hlp_5)]; exact hlp_5
                have k2524 : pa2513 x1 = (some p) := by rw [eP2508, xP_o nx1694 nx2480 (fun z => (Ne.symm nx1735) (Option.some.inj (hp.symm.trans (hlp_1.ml hm1733 z).2.1)))]; exact hp
                have k2525 : lf2514 p = (some x1) := by rw [eA2506, xL_o (Ne.symm nx1735) (so_ne k1691 nx1694)]; exact k1691
                have g2526 : lo2516 x1 ≤ ps x := by rw [elo2510, zvn nx2480]; exact hlp_6
                have g2527 : ps x < hi2517 x1 := by rw [ehi2511, zvn nx1694]; exact hlp_7
                refine z_aload_n C 2 rfl dJ4_fixAfterDeletion_63 rfl ?_
                refine z_callS C (As := [.ref x1]) (mJ4_parentOf (o := (some x1)) hW2502 (oM hlp_3)) (lw_S q706 q707 q64 q708) hd_J4_parentOf rfl (Nat.le_of_ble_eq_true rfl) (by decide) (by decide) (by decide) (by decide) rfl dJ4_fixAfterDeletion_64 (fun _ _ h => h.elim) (fun r2528 V2529 hP2530 => ?_)
                rw [hP2530.1, hP2530.2]
                refine z_st (st' := [va_rf (pa2513 x1)]) rfl ?_
                refine z_top (v := .ref p) (congrArg va_rf (show (pa2513 x1) = (some p) from (by rw [k2524]))) ?_
                refine z_callS C (As := [.ref p]) (mJ4_rightOf (o := (some p)) hW2502 (oM hm21)) (lw_S q712 q713 q64 q714) hd_J4_rightOf rfl (Nat.le_of_ble_eq_true rfl) (by decide) (by decide) (by decide) (by decide) rfl dJ4_fixAfterDeletion_67 (fun _ _ h => h.elim) (fun r2531 V2532 hP2533 => ?_)
                rw [hP2533.1, hP2533.2]
                refine z_st (st' := [va_rf (rg2512 p)]) rfl ?_
                refine z_astore_nQ C (r := (rg2512 p)) [(2, va_rf (rg2512 p)), (0, .ref t), (1, .ref x1)] dJ4_fixAfterDeletion_70 rfl (by decide) rfl ?_
                refine z_aload_nQ C 0 (r := (rg2512 p)) rfl dJ4_fixAfterDeletion_71 rfl ?_
                rcases hy2535 : rg2512 p with _ | y2534
                · skip
                  refine z_callS C (As := [.null]) (mJ4_leftOf (o := none) hW2502 oN) (lw_S q709 q710 q64 q711) hd_J4_leftOf rfl (Nat.le_of_ble_eq_true rfl) (by decide) (by decide) (by decide) (by decide) rfl dJ4_fixAfterDeletion_72 (fun _ _ h => h.elim) (fun r2536 V2537 hP2538 => ?_)
                  rw [hP2538.1, hP2538.2]
                  refine z_st (st' := [.null]) rfl ?_
                  refine z_callS C (As := [.null]) (mJ4_colorOf (o := none) hW2502 oN) (lw_S q703 q704 q64 q705) hd_J4_colorOf rfl (Nat.le_of_ble_eq_true rfl) (by decide) (by decide) (by decide) (by decide) rfl dJ4_fixAfterDeletion_75 (fun _ _ h => h.elim) (fun r2539 V2540 hP2541 => ?_)
                  rw [hP2541.1, hP2541.2]
                  refine z_st (st' := [.int (zb true)]) rfl ?_
                  refine z_iconst C (v := (nI 1)) dJ4_fixAfterDeletion_78 rfl ?_
                  refine z_icmp_ne C 106 dJ4_fixAfterDeletion_79 (by decide) (fun c79 => ?_) (fun c79 => ?_)
                  · skip
                    have k2542 : true = false := zb1f c79
                    cases k2542
                  · skip
                    have k2543 : true = true := zb1 c79
                    refine z_aload_nQ C 0 (r := none) rfl dJ4_fixAfterDeletion_82 rfl ?_
                    refine z_callS C (As := [.null]) (mJ4_rightOf (o := none) hW2502 oN) (lw_S q712 q713 q64 q714) hd_J4_rightOf rfl (Nat.le_of_ble_eq_true rfl) (by decide) (by decide) (by decide) (by decide) rfl dJ4_fixAfterDeletion_83 (fun _ _ h => h.elim) (fun r2544 V2545 hP2546 => ?_)
                    rw [hP2546.1, hP2546.2]
                    refine z_st (st' := [.null]) rfl ?_
                    refine z_callS C (As := [.null]) (mJ4_colorOf (o := none) hW2502 oN) (lw_S q703 q704 q64 q705) hd_J4_colorOf rfl (Nat.le_of_ble_eq_true rfl) (by decide) (by decide) (by decide) (by decide) rfl dJ4_fixAfterDeletion_86 (fun _ _ h => h.elim) (fun r2547 V2548 hP2549 => ?_)
                    rw [hP2549.1, hP2549.2]
                    refine z_st (st' := [.int (zb true)]) rfl ?_
                    refine z_iconst C (v := (nI 1)) dJ4_fixAfterDeletion_89 rfl ?_
                    refine z_icmp_ne C 106 dJ4_fixAfterDeletion_90 (by decide) (fun c90 => ?_) (fun c90 => ?_)
                    · skip
                      have k2550 : true = false := zb1f c90
                      cases k2550
                    · skip
                      have k2551 : true = true := zb1 c90
                      refine z_aload_nQ C 0 (r := none) rfl dJ4_fixAfterDeletion_93 rfl ?_
                      refine z_iconst C (v := (nI 0)) dJ4_fixAfterDeletion_94 rfl ?_
                      refine z_st (st' := [.int (zb false), .null]) rfl ?_
                      refine z_callS C (As := [.null, .int (zb false)]) (mJ4_setColor (o := none) (c := false) hW2502 oN) (lw_S q715 q716 q64 q717) hd_J4_setColor rfl (Nat.le_of_ble_eq_true rfl) (by decide) (by decide) (by decide) (by decide) rfl dJ4_fixAfterDeletion_95 (fun _ _ h => h.elim) (fun r2552 V2553 hP2554 => ?_)
                      obtain ⟨hW2555, hU2556⟩ := hP2554
                      refine z_st (st' := []) rfl ?_
                      have hU2557 := zUnc.tr (S := tC t L) hU2504 hU2556 (fun _ h => Or.inl h)
                      change tW _ _ _ _ _ _ _ cl2492 _ _ _ _ at hW2555
                      refine z_aload_n C 2 rfl dJ4_fixAfterDeletion_98 rfl ?_
                      refine z_callS C (As := [.ref x1]) (mJ4_parentOf (o := (some x1)) hW2555 (oM hlp_3)) (lw_S q706 q707 q64 q708) hd_J4_parentOf rfl (Nat.le_of_ble_eq_true rfl) (by decide) (by decide) (by decide) (by decide) rfl dJ4_fixAfterDeletion_99 (fun _ _ h => h.elim) (fun r2558 V2559 hP2560 => ?_)
                      rw [hP2560.1, hP2560.2]
                      refine z_st (st' := [va_rf (pa2513 x1)]) rfl ?_
                      refine z_top (v := .ref p) (congrArg va_rf (show (pa2513 x1) = (some p) from (by rw [k2524]))) ?_
                      refine z_astore_n C [(1, .ref p), (2, .null), (0, .ref t)] dJ4_fixAfterDeletion_102 rfl (by decide) rfl ?_
                      refine z_goto C 183 dJ4_fixAfterDeletion_103 (by decide) ?_
                      refine z_goto C 0 dJ4_fixAfterDeletion_183 (by decide) ?_
                      refine z_pick [(0, .ref t), (1, .ref p)] [2, 0] rfl ?_
                      have q1 := (hI2505.mp hlp_3 k2524).2
                      have qa := congrFun elo2510 x1
                      rw [zvn nx2480] at qa
                      have qb := congrFun ehi2511 x1
                      rw [zvn nx1694] at qb
                      exact ih_lp V2553 rt2515 lf2514 rg2512 pa2513 cl2492 lo2516 hi2517 p hW2555 hI2505 hU2557 hm21 k2521 k2523 (Nat.le_trans (hI2505.le hlp_3 k2524).1 g2526) (Nat.lt_of_lt_of_le g2527 (hI2505.le hlp_3 k2524).2) (by omega)
                · skip
                  obtain ⟨hm2561, hp2562, nx2563⟩ := hI2505.mr hm21 hy2535
                  refine z_callS C (As := [.ref y2534]) (mJ4_leftOf (o := (some y2534)) hW2502 (oM hm2561)) (lw_S q709 q710 q64 q711) hd_J4_leftOf rfl (Nat.le_of_ble_eq_true rfl) (by decide) (by decide) (by decide) (by decide) rfl dJ4_fixAfterDeletion_72 (fun _ _ h => h.elim) (fun r2564 V2565 hP2566 => ?_)
                  rw [hP2566.1, hP2566.2]
                  refine z_st (st' := [va_rf (lf2514 y2534)]) rfl ?_
                  rcases hy2568 : lf2514 y2534 with _ | y2567
                  · skip
                    refine z_callS C (As := [.null]) (mJ4_colorOf (o := none) hW2502 oN) (lw_S q703 q704 q64 q705) hd_J4_colorOf rfl (Nat.le_of_ble_eq_true rfl) (by decide) (by decide) (by decide) (by decide) rfl dJ4_fixAfterDeletion_75 (fun _ _ h => h.elim) (fun r2569 V2570 hP2571 => ?_)
                    rw [hP2571.1, hP2571.2]
                    refine z_st (st' := [.int (zb true)]) rfl ?_
                    refine z_iconst C (v := (nI 1)) dJ4_fixAfterDeletion_78 rfl ?_
                    refine z_icmp_ne C 106 dJ4_fixAfterDeletion_79 (by decide) (fun c79 => ?_) (fun c79 => ?_)
                    · skip
                      have k2572 : true = false := zb1f c79
                      cases k2572
                    · skip
                      have k2573 : true = true := zb1 c79
                      refine z_aload_n C 0 rfl dJ4_fixAfterDeletion_82 rfl ?_
                      refine z_callS C (As := [.ref y2534]) (mJ4_rightOf (o := (some y2534)) hW2502 (oM hm2561)) (lw_S q712 q713 q64 q714) hd_J4_rightOf rfl (Nat.le_of_ble_eq_true rfl) (by decide) (by decide) (by decide) (by decide) rfl dJ4_fixAfterDeletion_83 (fun _ _ h => h.elim) (fun r2574 V2575 hP2576 => ?_)
                      rw [hP2576.1, hP2576.2]
                      refine z_st (st' := [va_rf (rg2512 y2534)]) rfl ?_
                      rcases hy2578 : rg2512 y2534 with _ | y2577
                      · skip
                        refine z_callS C (As := [.null]) (mJ4_colorOf (o := none) hW2502 oN) (lw_S q703 q704 q64 q705) hd_J4_colorOf rfl (Nat.le_of_ble_eq_true rfl) (by decide) (by decide) (by decide) (by decide) rfl dJ4_fixAfterDeletion_86 (fun _ _ h => h.elim) (fun r2579 V2580 hP2581 => ?_)
                        rw [hP2581.1, hP2581.2]
                        refine z_st (st' := [.int (zb true)]) rfl ?_
                        refine z_iconst C (v := (nI 1)) dJ4_fixAfterDeletion_89 rfl ?_
                        refine z_icmp_ne C 106 dJ4_fixAfterDeletion_90 (by decide) (fun c90 => ?_) (fun c90 => ?_)
                        · skip
                          have k2582 : true = false := zb1f c90
                          cases k2582
                        · skip
                          have k2583 : true = true := zb1 c90
                          refine z_aload_n C 0 rfl dJ4_fixAfterDeletion_93 rfl ?_
                          refine z_iconst C (v := (nI 0)) dJ4_fixAfterDeletion_94 rfl ?_
                          refine z_st (st' := [.int (zb false), .ref y2534]) rfl ?_
                          refine z_callS C (As := [.ref y2534, .int (zb false)]) (mJ4_setColor (o := (some y2534)) (c := false) hW2502 (oM hm2561)) (lw_S q715 q716 q64 q717) hd_J4_setColor rfl (Nat.le_of_ble_eq_true rfl) (by decide) (by decide) (by decide) (by decide) rfl dJ4_fixAfterDeletion_95 (fun _ _ h => h.elim) (fun r2584 V2585 hP2586 => ?_)
                          obtain ⟨hW2587, hU2588⟩ := hP2586
                          refine z_st (st' := []) rfl ?_
                          have hU2589 := zUnc.tr (S := tC t L) hU2504 hU2588 (fun _ h => Or.inl h)
                          change tW _ _ _ _ _ _ _ (va_up cl2492 y2534 false) _ _ _ _ at hW2587
                          obtain ⟨cl2591, ec2590⟩ : ∃ q, q = va_up cl2492 y2534 false := ⟨_, rfl⟩
                          rw [← ec2590] at hW2587
                          have k2592 : cl2591 y2534 = false := by rw [ec2590, zvs]
                          have k2593 : cl2591 p = false := by rw [ec2590, zvn (Ne.symm nx2563)]; exact k2493
                          have nx2594 : y1701 ≠ y2534 := (Ne.symm (tI.gg hI2505 hm2561 hp2562 hm21 k2519))
                          have k2595 : cl2591 y1701 = true := by rw [ec2590, zvn nx2594]; exact k2494
                          have nx2596 : x1 ≠ y2534 := (tI.sib hI2505 hm21 k2525 hy2535)
                          have k2597 : cl2591 x1 = true := by rw [ec2590, zvn nx2596]; exact k2495
                          refine z_aload_n C 2 rfl dJ4_fixAfterDeletion_98 rfl ?_
                          refine z_callS C (As := [.ref x1]) (mJ4_parentOf (o := (some x1)) hW2587 (oM hlp_3)) (lw_S q706 q707 q64 q708) hd_J4_parentOf rfl (Nat.le_of_ble_eq_true rfl) (by decide) (by decide) (by decide) (by decide) rfl dJ4_fixAfterDeletion_99 (fun _ _ h => h.elim) (fun r2598 V2599 hP2600 => ?_)
                          rw [hP2600.1, hP2600.2]
                          refine z_st (st' := [va_rf (pa2513 x1)]) rfl ?_
                          refine z_top (v := .ref p) (congrArg va_rf (show (pa2513 x1) = (some p) from (by rw [k2524]))) ?_
                          refine z_astore_n C [(1, .ref p), (2, .ref y2534), (0, .ref t)] dJ4_fixAfterDeletion_102 rfl (by decide) rfl ?_
                          refine z_goto C 183 dJ4_fixAfterDeletion_103 (by decide) ?_
                          refine z_goto C 0 dJ4_fixAfterDeletion_183 (by decide) ?_
                          refine z_pick [(0, .ref t), (1, .ref p)] [2, 0] rfl ?_
                          have q1 := (hI2505.mp hlp_3 k2524).2
                          have qa := congrFun elo2510 x1
                          rw [zvn nx2480] at qa
                          have qb := congrFun ehi2511 x1
                          rw [zvn nx1694] at qb
                          exact ih_lp V2585 rt2515 lf2514 rg2512 pa2513 cl2591 lo2516 hi2517 p hW2587 hI2505 hU2589 hm21 k2521 k2523 (Nat.le_trans (hI2505.le hlp_3 k2524).1 g2526) (Nat.lt_of_lt_of_le g2527 (hI2505.le hlp_3 k2524).2) (by omega)
                      · skip
                        obtain ⟨hm2601, hp2602, nx2603⟩ := hI2505.mr hm2561 hy2578
                        refine z_callS C (As := [.ref y2577]) (mJ4_colorOf (o := (some y2577)) hW2502 (oM hm2601)) (lw_S q703 q704 q64 q705) hd_J4_colorOf rfl (Nat.le_of_ble_eq_true rfl) (by decide) (by decide) (by decide) (by decide) rfl dJ4_fixAfterDeletion_86 (fun _ _ h => h.elim) (fun r2604 V2605 hP2606 => ?_)
                        rw [hP2606.1, hP2606.2]
                        refine z_st (st' := [.int (zb (cl2492 y2577))]) rfl ?_
                        refine z_iconst C (v := (nI 1)) dJ4_fixAfterDeletion_89 rfl ?_
                        refine z_icmp_ne C 106 dJ4_fixAfterDeletion_90 (by decide) (fun c90 => ?_) (fun c90 => ?_)
                        · skip
                          have k2607 : (cl2492 y2577) = false := zb1f c90
                          refine z_aload_n C 0 rfl dJ4_fixAfterDeletion_106 rfl ?_
                          refine z_callS C (As := [.ref y2534]) (mJ4_rightOf (o := (some y2534)) hW2502 (oM hm2561)) (lw_S q712 q713 q64 q714) hd_J4_rightOf rfl (Nat.le_of_ble_eq_true rfl) (by decide) (by decide) (by decide) (by decide) rfl dJ4_fixAfterDeletion_107 (fun _ _ h => h.elim) (fun r2608 V2609 hP2610 => ?_)
                          rw [hP2610.1, hP2610.2]
                          refine z_st (st' := [va_rf (rg2512 y2534)]) rfl ?_
                          refine z_top (v := .ref y2577) (congrArg va_rf (show (rg2512 y2534) = (some y2577) from (by rw [hy2578]))) ?_
                          refine z_callS C (As := [.ref y2577]) (mJ4_colorOf (o := (some y2577)) hW2502 (oM hm2601)) (lw_S q703 q704 q64 q705) hd_J4_colorOf rfl (Nat.le_of_ble_eq_true rfl) (by decide) (by decide) (by decide) (by decide) rfl dJ4_fixAfterDeletion_110 (fun _ _ h => h.elim) (fun r2611 V2612 hP2613 => ?_)
                          rw [hP2613.1, hP2613.2]
                          refine z_st (st' := [.int (zb (cl2492 y2577))]) rfl ?_
                          refine z_top (v := .int (zb false)) (congrArg (fun c => Value.int (zb c)) (show (cl2492 y2577) = false from (by rw [k2607]))) ?_
                          refine z_iconst C (v := (nI 1)) dJ4_fixAfterDeletion_113 rfl ?_
                          refine z_icmp_ne C 143 dJ4_fixAfterDeletion_114 (by decide) (fun c114 => ?_) (fun c114 => ?_)
                          · skip
                            have k2614 : false = false := zb1f c114
                            refine z_aload_n C 0 rfl dJ4_fixAfterDeletion_143 rfl ?_
                            refine z_aload_n C 2 rfl dJ4_fixAfterDeletion_144 rfl ?_
                            refine z_callS C (As := [.ref x1]) (mJ4_parentOf (o := (some x1)) hW2502 (oM hlp_3)) (lw_S q706 q707 q64 q708) hd_J4_parentOf rfl (Nat.le_of_ble_eq_true rfl) (by decide) (by decide) (by decide) (by decide) rfl dJ4_fixAfterDeletion_145 (fun _ _ h => h.elim) (fun r2615 V2616 hP2617 => ?_)
                            rw [hP2617.1, hP2617.2]
                            refine z_st (st' := [va_rf (pa2513 x1), .ref y2534]) rfl ?_
                            refine z_top (v := .ref p) (congrArg va_rf (show (pa2513 x1) = (some p) from (by rw [k2524]))) ?_
                            refine z_callS C (As := [.ref p]) (mJ4_colorOf (o := (some p)) hW2502 (oM hm21)) (lw_S q703 q704 q64 q705) hd_J4_colorOf rfl (Nat.le_of_ble_eq_true rfl) (by decide) (by decide) (by decide) (by decide) rfl dJ4_fixAfterDeletion_148 (fun _ _ h => h.elim) (fun r2618 V2619 hP2620 => ?_)
                            rw [hP2620.1, hP2620.2]
                            refine z_st (st' := [.int (zb (cl2492 p)), .ref y2534]) rfl ?_
                            refine z_top (v := .int (zb false)) (congrArg (fun c => Value.int (zb c)) (show (cl2492 p) = false from (by rw [k2493]))) ?_
                            refine z_callS C (As := [.ref y2534, .int (zb false)]) (mJ4_setColor (o := (some y2534)) (c := false) hW2502 (oM hm2561)) (lw_S q715 q716 q64 q717) hd_J4_setColor rfl (Nat.le_of_ble_eq_true rfl) (by decide) (by decide) (by decide) (by decide) rfl dJ4_fixAfterDeletion_151 (fun _ _ h => h.elim) (fun r2621 V2622 hP2623 => ?_)
                            obtain ⟨hW2624, hU2625⟩ := hP2623
                            refine z_st (st' := []) rfl ?_
                            have hU2626 := zUnc.tr (S := tC t L) hU2504 hU2625 (fun _ h => Or.inl h)
                            change tW _ _ _ _ _ _ _ (va_up cl2492 y2534 false) _ _ _ _ at hW2624
                            obtain ⟨cl2628, ec2627⟩ : ∃ q, q = va_up cl2492 y2534 false := ⟨_, rfl⟩
                            rw [← ec2627] at hW2624
                            have k2629 : cl2628 y2534 = false := by rw [ec2627, zvs]
                            have k2630 : cl2628 p = false := by rw [ec2627, zvn (Ne.symm nx2563)]; exact k2493
                            have nx2631 : y1701 ≠ y2534 := (Ne.symm (tI.gg hI2505 hm2561 hp2562 hm21 k2519))
                            have k2632 : cl2628 y1701 = true := by rw [ec2627, zvn nx2631]; exact k2494
                            have nx2633 : x1 ≠ y2534 := (tI.sib hI2505 hm21 k2525 hy2535)
                            have k2634 : cl2628 x1 = true := by rw [ec2627, zvn nx2633]; exact k2495
                            have k2635 : cl2628 y2577 = false := by rw [ec2627, zvn nx2603]; exact k2607
                            refine z_aload_n C 2 rfl dJ4_fixAfterDeletion_154 rfl ?_
                            refine z_callS C (As := [.ref x1]) (mJ4_parentOf (o := (some x1)) hW2624 (oM hlp_3)) (lw_S q706 q707 q64 q708) hd_J4_parentOf rfl (Nat.le_of_ble_eq_true rfl) (by decide) (by decide) (by decide) (by decide) rfl dJ4_fixAfterDeletion_155 (fun _ _ h => h.elim) (fun r2636 V2637 hP2638 => ?_)
                            rw [hP2638.1, hP2638.2]
                            refine z_st (st' := [va_rf (pa2513 x1)]) rfl ?_
                            refine z_top (v := .ref p) (congrArg va_rf (show (pa2513 x1) = (some p) from (by rw [k2524]))) ?_
                            refine z_iconst C (v := (nI 1)) dJ4_fixAfterDeletion_158 rfl ?_
                            refine z_st (st' := [.int (zb true), .ref p]) rfl ?_
                            refine z_callS C (As := [.ref p, .int (zb true)]) (mJ4_setColor (o := (some p)) (c := true) hW2624 (oM hm21)) (lw_S q715 q716 q64 q717) hd_J4_setColor rfl (Nat.le_of_ble_eq_true rfl) (by decide) (by decide) (by decide) (by decide) rfl dJ4_fixAfterDeletion_159 (fun _ _ h => h.elim) (fun r2639 V2640 hP2641 => ?_)
                            obtain ⟨hW2642, hU2643⟩ := hP2641
                            refine z_st (st' := []) rfl ?_
                            have hU2644 := zUnc.tr (S := tC t L) hU2626 hU2643 (fun _ h => Or.inl h)
                            change tW _ _ _ _ _ _ _ (va_up cl2628 p true) _ _ _ _ at hW2642
                            obtain ⟨cl2646, ec2645⟩ : ∃ q, q = va_up cl2628 p true := ⟨_, rfl⟩
                            rw [← ec2645] at hW2642
                            have k2647 : cl2646 p = true := by rw [ec2645, zvs]
                            have k2648 : cl2646 y2534 = false := by rw [ec2645, zvn nx2563]; exact k2629
                            have k2649 : cl2646 y1701 = true := by rw [ec2645, zvn nx1735]; exact k2632
                            have k2650 : cl2646 x1 = true := by rw [ec2645, zvn nx1694]; exact k2634
                            have nx2651 : y2577 ≠ p := (tI.gg hI2505 hm2601 hp2602 hm2561 hp2562)
                            have k2652 : cl2646 y2577 = false := by rw [ec2645, zvn nx2651]; exact k2635
                            refine z_aload_n C 0 rfl dJ4_fixAfterDeletion_162 rfl ?_
                            refine z_callS C (As := [.ref y2534]) (mJ4_rightOf (o := (some y2534)) hW2642 (oM hm2561)) (lw_S q712 q713 q64 q714) hd_J4_rightOf rfl (Nat.le_of_ble_eq_true rfl) (by decide) (by decide) (by decide) (by decide) rfl dJ4_fixAfterDeletion_163 (fun _ _ h => h.elim) (fun r2653 V2654 hP2655 => ?_)
                            rw [hP2655.1, hP2655.2]
                            refine z_st (st' := [va_rf (rg2512 y2534)]) rfl ?_
                            refine z_top (v := .ref y2577) (congrArg va_rf (show (rg2512 y2534) = (some y2577) from (by rw [hy2578]))) ?_
                            refine z_iconst C (v := (nI 1)) dJ4_fixAfterDeletion_166 rfl ?_
                            refine z_st (st' := [.int (zb true), .ref y2577]) rfl ?_
                            refine z_callS C (As := [.ref y2577, .int (zb true)]) (mJ4_setColor (o := (some y2577)) (c := true) hW2642 (oM hm2601)) (lw_S q715 q716 q64 q717) hd_J4_setColor rfl (Nat.le_of_ble_eq_true rfl) (by decide) (by decide) (by decide) (by decide) rfl dJ4_fixAfterDeletion_167 (fun _ _ h => h.elim) (fun r2656 V2657 hP2658 => ?_)
                            obtain ⟨hW2659, hU2660⟩ := hP2658
                            refine z_st (st' := []) rfl ?_
                            have hU2661 := zUnc.tr (S := tC t L) hU2644 hU2660 (fun _ h => Or.inl h)
                            change tW _ _ _ _ _ _ _ (va_up cl2646 y2577 true) _ _ _ _ at hW2659
                            obtain ⟨cl2663, ec2662⟩ : ∃ q, q = va_up cl2646 y2577 true := ⟨_, rfl⟩
                            rw [← ec2662] at hW2659
                            have k2664 : cl2663 y2577 = true := by rw [ec2662, zvs]
                            have k2665 : cl2663 p = true := by rw [ec2662, zvn (Ne.symm nx2651)]; exact k2647
                            have k2666 : cl2663 y2534 = false := by rw [ec2662, zvn (Ne.symm nx2603)]; exact k2648
                            have nx2667 : x1 ≠ y2577 := (ne_pa k2524 hp2602 (Ne.symm nx2563))
                            have k2668 : cl2663 x1 = true := by rw [ec2662, zvn nx2667]; exact k2650
                            refine z_aload_n C 1 rfl dJ4_fixAfterDeletion_170 rfl ?_
                            refine z_aload_n C 2 rfl dJ4_fixAfterDeletion_171 rfl ?_
                            refine z_callS C (As := [.ref x1]) (mJ4_parentOf (o := (some x1)) hW2659 (oM hlp_3)) (lw_S q706 q707 q64 q708) hd_J4_parentOf rfl (Nat.le_of_ble_eq_true rfl) (by decide) (by decide) (by decide) (by decide) rfl dJ4_fixAfterDeletion_172 (fun _ _ h => h.elim) (fun r2669 V2670 hP2671 => ?_)
                            rw [hP2671.1, hP2671.2]
                            refine z_st (st' := [va_rf (pa2513 x1), .ref t]) rfl ?_
                            refine z_top (v := .ref p) (congrArg va_rf (show (pa2513 x1) = (some p) from (by rw [k2524]))) ?_
                            refine z_callV C k_TM hW2659.1 (As := [.ref p]) (mJ4_rotateLeft hW2659 hI2505 hm21 hy2535) (lw_V q718 q720 qs8 q64 q721) rfl hd_J4_rotateLeft rfl (Nat.le_of_ble_eq_true rfl) (by decide) (by decide) (by decide) (by decide) rfl dJ4_fixAfterDeletion_175 (fun _ _ h => h.elim) (fun r2672 V2673 hP2674 => ?_)
                            obtain ⟨hW2675, hU2676⟩ := hP2674
                            refine z_st (st' := []) rfl ?_
                            have hU2677 := zUnc.tr (S := tC t L) hU2661 hU2676 (fun _ h => Or.inl h)
                            have hI2678 := tI_rotL hI2505 hm21 hy2535
                            obtain ⟨rg2685, eB2680⟩ : ∃ q, q = xR lf2514 rg2512 p y2534 := ⟨_, rfl⟩
                            rw [← eB2680] at hW2675 hI2678
                            obtain ⟨pa2686, eP2681⟩ : ∃ q, q = xP lf2514 pa2513 p y2534 := ⟨_, rfl⟩
                            rw [← eP2681] at hW2675 hI2678
                            obtain ⟨lf2687, eA2679⟩ : ∃ q, q = xL lf2514 p y2534 := ⟨_, rfl⟩
                            rw [← eA2679] at hW2675 hI2678
                            obtain ⟨rt2688, eT2682⟩ : ∃ q, q = xT rt2515 p y2534 := ⟨_, rfl⟩
                            rw [← eT2682] at hW2675 hI2678
                            obtain ⟨lo2689, elo2683⟩ : ∃ q, q = va_up lo2516 y2534 (lo2516 p) := ⟨_, rfl⟩
                            rw [← elo2683] at hI2678
                            obtain ⟨hi2690, ehi2684⟩ : ∃ q, q = va_up hi2517 p (ps y2534) := ⟨_, rfl⟩
                            rw [← ehi2684] at hI2678
                            have k2691 : lf2687 y2534 = (some p) := by rw [eA2679]; exact xL_r
                            have k2692 : pa2686 p = (some y2534) := by rw [eP2681]; exact xP_p
                            have k2693 : rg2685 p = none := by rw [eB2680, xR_p]; exact hy2568
                            have k2694 : pa2686 y2534 = (some y1701) := by rw [eP2681, xP_r nx2563]; exact k2519
                            have k2695 : lf2687 y1701 = (some y2534) := by rw [eA2679]; exact xL_u nx2631 k2518
                            have nx2696 : x ≠ y2534 := (fn_ne k2523 hy2578)
                            have k2697 : lf2687 x = none := by rw [eA2679, xL_o nx2696 (sn_ne k2521)]; exact k2521
                            have k2698 : rg2685 x = none := by rw [eB2680, xR_o nx2522 (sn_ne k2523)]; exact k2523
                            have k2699 : pa2686 x1 = (some p) := by rw [eP2681, xP_o nx1694 nx2633 (sn_ne hy2568)]; exact k2524
                            have k2700 : lf2687 p = (some x1) := by rw [eA2679, xL_o (Ne.symm nx2563) (so_ne k2525 nx1694)]; exact k2525
                            have k2701 : rg2685 y2534 = (some y2577) := by rw [eB2680, xR_o nx2563 (so_ne hy2578 nx2651)]; exact hy2578
                            have k2702 : pa2686 y2577 = (some y2534) := by rw [eP2681, xP_o nx2651 nx2603 (sn_ne hy2568)]; exact hp2602
                            have g2703 : lo2689 x1 ≤ ps x := by rw [elo2683, zvn nx2633]; exact g2526
                            have g2704 : ps x < hi2690 x1 := by rw [ehi2684, zvn nx1694]; exact g2527
                            refine z_aload_n C 1 rfl dJ4_fixAfterDeletion_178 rfl ?_
                            refine z_get C k_TM hW2675.1 3 (by decide) rfl q162 dJ4_fixAfterDeletion_179 ?_
                            refine z_astore_nQ C (r := rt2688) [(1, va_rf rt2688), (2, .ref y2534), (0, .ref t)] dJ4_fixAfterDeletion_182 rfl (by decide) rfl ?_
                            refine z_goto C 0 dJ4_fixAfterDeletion_183 (by decide) ?_
                            refine z_pick [(0, .ref t), (1, va_rf rt2688)] [2, 0] rfl ?_
                            obtain ⟨r02705, hr2706⟩ := hI2678.rtm hlp_3
                            obtain ⟨hm2707, hp2708, -, -⟩ := hI2678.2.1.1 r02705 hr2706
                            have e2709 : (va_rf rt2688 : Value) = .ref r02705 := (congrArg va_rf hr2706)
                            refine z_lv (lv' := [(0, .ref t), (1, .ref r02705)]) (by rw [e2709]) ?_
                            exact hexit V2673 rt2688 lf2687 rg2685 pa2686 cl2663 lo2689 hi2690 r02705 hW2675 hI2678 hU2677 hm2707 hr2706 k2697 k2698
                          · skip
                            have k2710 : false = true := zb1 c114
                            cases k2710
                        · skip
                          have k2711 : (cl2492 y2577) = true := zb1 c90
                          refine z_aload_n C 0 rfl dJ4_fixAfterDeletion_93 rfl ?_
                          refine z_iconst C (v := (nI 0)) dJ4_fixAfterDeletion_94 rfl ?_
                          refine z_st (st' := [.int (zb false), .ref y2534]) rfl ?_
                          refine z_callS C (As := [.ref y2534, .int (zb false)]) (mJ4_setColor (o := (some y2534)) (c := false) hW2502 (oM hm2561)) (lw_S q715 q716 q64 q717) hd_J4_setColor rfl (Nat.le_of_ble_eq_true rfl) (by decide) (by decide) (by decide) (by decide) rfl dJ4_fixAfterDeletion_95 (fun _ _ h => h.elim) (fun r2712 V2713 hP2714 => ?_)
                          obtain ⟨hW2715, hU2716⟩ := hP2714
                          refine z_st (st' := []) rfl ?_
                          have hU2717 := zUnc.tr (S := tC t L) hU2504 hU2716 (fun _ h => Or.inl h)
                          change tW _ _ _ _ _ _ _ (va_up cl2492 y2534 false) _ _ _ _ at hW2715
                          obtain ⟨cl2719, ec2718⟩ : ∃ q, q = va_up cl2492 y2534 false := ⟨_, rfl⟩
                          rw [← ec2718] at hW2715
                          have k2720 : cl2719 y2534 = false := by rw [ec2718, zvs]
                          have k2721 : cl2719 p = false := by rw [ec2718, zvn (Ne.symm nx2563)]; exact k2493
                          have nx2722 : y1701 ≠ y2534 := (Ne.symm (tI.gg hI2505 hm2561 hp2562 hm21 k2519))
                          have k2723 : cl2719 y1701 = true := by rw [ec2718, zvn nx2722]; exact k2494
                          have nx2724 : x1 ≠ y2534 := (tI.sib hI2505 hm21 k2525 hy2535)
                          have k2725 : cl2719 x1 = true := by rw [ec2718, zvn nx2724]; exact k2495
                          have k2726 : cl2719 y2577 = true := by rw [ec2718, zvn nx2603]; exact k2711
                          refine z_aload_n C 2 rfl dJ4_fixAfterDeletion_98 rfl ?_
                          refine z_callS C (As := [.ref x1]) (mJ4_parentOf (o := (some x1)) hW2715 (oM hlp_3)) (lw_S q706 q707 q64 q708) hd_J4_parentOf rfl (Nat.le_of_ble_eq_true rfl) (by decide) (by decide) (by decide) (by decide) rfl dJ4_fixAfterDeletion_99 (fun _ _ h => h.elim) (fun r2727 V2728 hP2729 => ?_)
                          rw [hP2729.1, hP2729.2]
                          refine z_st (st' := [va_rf (pa2513 x1)]) rfl ?_
                          refine z_top (v := .ref p) (congrArg va_rf (show (pa2513 x1) = (some p) from (by rw [k2524]))) ?_
                          refine z_astore_n C [(1, .ref p), (2, .ref y2534), (0, .ref t)] dJ4_fixAfterDeletion_102 rfl (by decide) rfl ?_
                          refine z_goto C 183 dJ4_fixAfterDeletion_103 (by decide) ?_
                          refine z_goto C 0 dJ4_fixAfterDeletion_183 (by decide) ?_
                          refine z_pick [(0, .ref t), (1, .ref p)] [2, 0] rfl ?_
                          have q1 := (hI2505.mp hlp_3 k2524).2
                          have qa := congrFun elo2510 x1
                          rw [zvn nx2480] at qa
                          have qb := congrFun ehi2511 x1
                          rw [zvn nx1694] at qb
                          exact ih_lp V2713 rt2515 lf2514 rg2512 pa2513 cl2719 lo2516 hi2517 p hW2715 hI2505 hU2717 hm21 k2521 k2523 (Nat.le_trans (hI2505.le hlp_3 k2524).1 g2526) (Nat.lt_of_lt_of_le g2527 (hI2505.le hlp_3 k2524).2) (by omega)
                  · skip
                    obtain ⟨hm2730, hp2731, nx2732⟩ := hI2505.ml hm2561 hy2568
                    refine z_callS C (As := [.ref y2567]) (mJ4_colorOf (o := (some y2567)) hW2502 (oM hm2730)) (lw_S q703 q704 q64 q705) hd_J4_colorOf rfl (Nat.le_of_ble_eq_true rfl) (by decide) (by decide) (by decide) (by decide) rfl dJ4_fixAfterDeletion_75 (fun _ _ h => h.elim) (fun r2733 V2734 hP2735 => ?_)
                    rw [hP2735.1, hP2735.2]
                    refine z_st (st' := [.int (zb (cl2492 y2567))]) rfl ?_
                    refine z_iconst C (v := (nI 1)) dJ4_fixAfterDeletion_78 rfl ?_
                    refine z_icmp_ne C 106 dJ4_fixAfterDeletion_79 (by decide) (fun c79 => ?_) (fun c79 => ?_)
                    · skip
                      have k2736 : (cl2492 y2567) = false := zb1f c79
                      refine z_aload_n C 0 rfl dJ4_fixAfterDeletion_106 rfl ?_
                      refine z_callS C (As := [.ref y2534]) (mJ4_rightOf (o := (some y2534)) hW2502 (oM hm2561)) (lw_S q712 q713 q64 q714) hd_J4_rightOf rfl (Nat.le_of_ble_eq_true rfl) (by decide) (by decide) (by decide) (by decide) rfl dJ4_fixAfterDeletion_107 (fun _ _ h => h.elim) (fun r2737 V2738 hP2739 => ?_)
                      rw [hP2739.1, hP2739.2]
                      refine z_st (st' := [va_rf (rg2512 y2534)]) rfl ?_
                      rcases hy2741 : rg2512 y2534 with _ | y2740
                      · skip
                        refine z_callS C (As := [.null]) (mJ4_colorOf (o := none) hW2502 oN) (lw_S q703 q704 q64 q705) hd_J4_colorOf rfl (Nat.le_of_ble_eq_true rfl) (by decide) (by decide) (by decide) (by decide) rfl dJ4_fixAfterDeletion_110 (fun _ _ h => h.elim) (fun r2742 V2743 hP2744 => ?_)
                        rw [hP2744.1, hP2744.2]
                        refine z_st (st' := [.int (zb true)]) rfl ?_
                        refine z_iconst C (v := (nI 1)) dJ4_fixAfterDeletion_113 rfl ?_
                        refine z_icmp_ne C 143 dJ4_fixAfterDeletion_114 (by decide) (fun c114 => ?_) (fun c114 => ?_)
                        · skip
                          have k2745 : true = false := zb1f c114
                          cases k2745
                        · skip
                          have k2746 : true = true := zb1 c114
                          refine z_aload_n C 0 rfl dJ4_fixAfterDeletion_117 rfl ?_
                          refine z_callS C (As := [.ref y2534]) (mJ4_leftOf (o := (some y2534)) hW2502 (oM hm2561)) (lw_S q709 q710 q64 q711) hd_J4_leftOf rfl (Nat.le_of_ble_eq_true rfl) (by decide) (by decide) (by decide) (by decide) rfl dJ4_fixAfterDeletion_118 (fun _ _ h => h.elim) (fun r2747 V2748 hP2749 => ?_)
                          rw [hP2749.1, hP2749.2]
                          refine z_st (st' := [va_rf (lf2514 y2534)]) rfl ?_
                          refine z_top (v := .ref y2567) (congrArg va_rf (show (lf2514 y2534) = (some y2567) from (by rw [hy2568]))) ?_
                          refine z_iconst C (v := (nI 1)) dJ4_fixAfterDeletion_121 rfl ?_
                          refine z_st (st' := [.int (zb true), .ref y2567]) rfl ?_
                          refine z_callS C (As := [.ref y2567, .int (zb true)]) (mJ4_setColor (o := (some y2567)) (c := true) hW2502 (oM hm2730)) (lw_S q715 q716 q64 q717) hd_J4_setColor rfl (Nat.le_of_ble_eq_true rfl) (by decide) (by decide) (by decide) (by decide) rfl dJ4_fixAfterDeletion_122 (fun _ _ h => h.elim) (fun r2750 V2751 hP2752 => ?_)
                          obtain ⟨hW2753, hU2754⟩ := hP2752
                          refine z_st (st' := []) rfl ?_
                          have hU2755 := zUnc.tr (S := tC t L) hU2504 hU2754 (fun _ h => Or.inl h)
                          change tW _ _ _ _ _ _ _ (va_up cl2492 y2567 true) _ _ _ _ at hW2753
                          obtain ⟨cl2757, ec2756⟩ : ∃ q, q = va_up cl2492 y2567 true := ⟨_, rfl⟩
                          rw [← ec2756] at hW2753
                          have k2758 : cl2757 y2567 = true := by rw [ec2756, zvs]
                          have nx2759 : y1701 ≠ y2534 := (Ne.symm (tI.gg hI2505 hm2561 hp2562 hm21 k2519))
                          have nx2760 : p ≠ y2567 := (ne_pa k2519 hp2731 nx2759)
                          have k2761 : cl2757 p = false := by rw [ec2756, zvn nx2760]; exact k2493
                          have nx2762 : x1 ≠ y2567 := (ne_pa k2524 hp2731 (Ne.symm nx2563))
                          have k2763 : cl2757 x1 = true := by rw [ec2756, zvn nx2762]; exact k2495
                          refine z_aload_n C 0 rfl dJ4_fixAfterDeletion_125 rfl ?_
                          refine z_iconst C (v := (nI 0)) dJ4_fixAfterDeletion_126 rfl ?_
                          refine z_st (st' := [.int (zb false), .ref y2534]) rfl ?_
                          refine z_callS C (As := [.ref y2534, .int (zb false)]) (mJ4_setColor (o := (some y2534)) (c := false) hW2753 (oM hm2561)) (lw_S q715 q716 q64 q717) hd_J4_setColor rfl (Nat.le_of_ble_eq_true rfl) (by decide) (by decide) (by decide) (by decide) rfl dJ4_fixAfterDeletion_127 (fun _ _ h => h.elim) (fun r2764 V2765 hP2766 => ?_)
                          obtain ⟨hW2767, hU2768⟩ := hP2766
                          refine z_st (st' := []) rfl ?_
                          have hU2769 := zUnc.tr (S := tC t L) hU2755 hU2768 (fun _ h => Or.inl h)
                          change tW _ _ _ _ _ _ _ (va_up cl2757 y2534 false) _ _ _ _ at hW2767
                          obtain ⟨cl2771, ec2770⟩ : ∃ q, q = va_up cl2757 y2534 false := ⟨_, rfl⟩
                          rw [← ec2770] at hW2767
                          have k2772 : cl2771 y2534 = false := by rw [ec2770, zvs]
                          have k2773 : cl2771 y2567 = true := by rw [ec2770, zvn nx2732]; exact k2758
                          have k2774 : cl2771 p = false := by rw [ec2770, zvn (Ne.symm nx2563)]; exact k2761
                          have nx2775 : x1 ≠ y2534 := (tI.sib hI2505 hm21 k2525 hy2535)
                          have k2776 : cl2771 x1 = true := by rw [ec2770, zvn nx2775]; exact k2763
                          refine z_aload_n C 1 rfl dJ4_fixAfterDeletion_130 rfl ?_
                          refine z_aload_n C 0 rfl dJ4_fixAfterDeletion_131 rfl ?_
                          refine z_callV C k_TM hW2767.1 (As := [.ref y2534]) (mJ4_rotateRight hW2767 hI2505 hm2561 hy2568) (lw_V q722 q724 qs9 q64 q725) rfl hd_J4_rotateRight rfl (Nat.le_of_ble_eq_true rfl) (by decide) (by decide) (by decide) (by decide) rfl dJ4_fixAfterDeletion_132 (fun _ _ h => h.elim) (fun r2777 V2778 hP2779 => ?_)
                          obtain ⟨hW2780, hU2781⟩ := hP2779
                          refine z_st (st' := []) rfl ?_
                          have hU2782 := zUnc.tr (S := tC t L) hU2769 hU2781 (fun _ h => Or.inl h)
                          have hI2783 := tI_rotR hI2505 hm2561 hy2568
                          obtain ⟨lf2790, eB2785⟩ : ∃ q, q = xR rg2512 lf2514 y2534 y2567 := ⟨_, rfl⟩
                          rw [← eB2785] at hW2780 hI2783
                          obtain ⟨pa2791, eP2786⟩ : ∃ q, q = xP rg2512 pa2513 y2534 y2567 := ⟨_, rfl⟩
                          rw [← eP2786] at hW2780 hI2783
                          obtain ⟨rg2792, eA2784⟩ : ∃ q, q = xL rg2512 y2534 y2567 := ⟨_, rfl⟩
                          rw [← eA2784] at hW2780 hI2783
                          obtain ⟨rt2793, eT2787⟩ : ∃ q, q = xT rt2515 y2534 y2567 := ⟨_, rfl⟩
                          rw [← eT2787] at hW2780 hI2783
                          obtain ⟨lo2794, elo2788⟩ : ∃ q, q = va_up lo2516 y2534 (ps y2567 + 1) := ⟨_, rfl⟩
                          rw [← elo2788] at hI2783
                          obtain ⟨hi2795, ehi2789⟩ : ∃ q, q = va_up hi2517 y2567 (hi2517 y2534) := ⟨_, rfl⟩
                          rw [← ehi2789] at hI2783
                          have k2796 : rg2792 y2567 = (some y2534) := by rw [eA2784]; exact xL_r
                          have k2797 : pa2791 y2534 = (some y2567) := by rw [eP2786]; exact xP_p
                          have k2798 : pa2791 y2567 = (some p) := by rw [eP2786, xP_r nx2732]; exact hp2562
                          have k2799 : lf2790 y1701 = (some p) := by rw [eB2785, xR_o nx2759 (so_ne k2518 (Ne.symm nx2563))]; exact k2518
                          have nx2800 : x ≠ y2534 := (fn_ne k2521 hy2568)
                          have k2801 : lf2790 x = none := by rw [eB2785, xR_o nx2800 (sn_ne k2521)]; exact k2521
                          have nx2802 : x ≠ y2567 := (hI2505.fL hm21 k2525 hy2535 g2527 hm2730 (hI2505.le hm2730 hp2731).1)
                          have k2803 : rg2792 x = none := by rw [eA2784, xL_o nx2802 (sn_ne k2523)]; exact k2523
                          have k2804 : pa2791 x1 = (some p) := by rw [eP2786, xP_o nx2775 nx2762 (fun z => nx2760 (Option.some.inj (k2524.symm.trans (hI2505.mr hm2730 z).2.1)))]; exact k2524
                          have k2805 : lf2790 p = (some x1) := by rw [eB2785, xR_o (Ne.symm nx2563) (so_ne k2525 nx2775)]; exact k2525
                          have k2806 : rg2792 p = (some y2567) := by rw [eA2784]; exact xL_u nx2760 hy2535
                          have k2807 : rg2792 y2534 = none := by rw [eA2784, xL_o (Ne.symm nx2732) (sn_ne hy2741)]; exact hy2741
                          have g2808 : lo2794 x1 ≤ ps x := by rw [elo2788, zvn nx2775]; exact g2526
                          have g2809 : ps x < hi2795 x1 := by rw [ehi2789, zvn nx2762]; exact g2527
                          refine z_aload_n C 2 rfl dJ4_fixAfterDeletion_135 rfl ?_
                          refine z_callS C (As := [.ref x1]) (mJ4_parentOf (o := (some x1)) hW2780 (oM hlp_3)) (lw_S q706 q707 q64 q708) hd_J4_parentOf rfl (Nat.le_of_ble_eq_true rfl) (by decide) (by decide) (by decide) (by decide) rfl dJ4_fixAfterDeletion_136 (fun _ _ h => h.elim) (fun r2810 V2811 hP2812 => ?_)
                          rw [hP2812.1, hP2812.2]
                          refine z_st (st' := [va_rf (pa2791 x1)]) rfl ?_
                          refine z_top (v := .ref p) (congrArg va_rf (show (pa2791 x1) = (some p) from (by rw [k2804]))) ?_
                          refine z_callS C (As := [.ref p]) (mJ4_rightOf (o := (some p)) hW2780 (oM hm21)) (lw_S q712 q713 q64 q714) hd_J4_rightOf rfl (Nat.le_of_ble_eq_true rfl) (by decide) (by decide) (by decide) (by decide) rfl dJ4_fixAfterDeletion_139 (fun _ _ h => h.elim) (fun r2813 V2814 hP2815 => ?_)
                          rw [hP2815.1, hP2815.2]
                          refine z_st (st' := [va_rf (rg2792 p)]) rfl ?_
                          refine z_top (v := .ref y2567) (congrArg va_rf (show (rg2792 p) = (some y2567) from (by rw [k2806]))) ?_
                          refine z_astore_n C [(2, .ref y2567), (0, .ref t), (1, .ref x1)] dJ4_fixAfterDeletion_142 rfl (by decide) rfl ?_
                          refine z_aload_n C 0 rfl dJ4_fixAfterDeletion_143 rfl ?_
                          refine z_aload_n C 2 rfl dJ4_fixAfterDeletion_144 rfl ?_
                          refine z_callS C (As := [.ref x1]) (mJ4_parentOf (o := (some x1)) hW2780 (oM hlp_3)) (lw_S q706 q707 q64 q708) hd_J4_parentOf rfl (Nat.le_of_ble_eq_true rfl) (by decide) (by decide) (by decide) (by decide) rfl dJ4_fixAfterDeletion_145 (fun _ _ h => h.elim) (fun r2816 V2817 hP2818 => ?_)
                          rw [hP2818.1, hP2818.2]
                          refine z_st (st' := [va_rf (pa2791 x1), .ref y2567]) rfl ?_
                          refine z_top (v := .ref p) (congrArg va_rf (show (pa2791 x1) = (some p) from (by rw [k2804]))) ?_
                          refine z_callS C (As := [.ref p]) (mJ4_colorOf (o := (some p)) hW2780 (oM hm21)) (lw_S q703 q704 q64 q705) hd_J4_colorOf rfl (Nat.le_of_ble_eq_true rfl) (by decide) (by decide) (by decide) (by decide) rfl dJ4_fixAfterDeletion_148 (fun _ _ h => h.elim) (fun r2819 V2820 hP2821 => ?_)
                          rw [hP2821.1, hP2821.2]
                          refine z_st (st' := [.int (zb (cl2771 p)), .ref y2567]) rfl ?_
                          refine z_top (v := .int (zb false)) (congrArg (fun c => Value.int (zb c)) (show (cl2771 p) = false from (by rw [k2774]))) ?_
                          refine z_callS C (As := [.ref y2567, .int (zb false)]) (mJ4_setColor (o := (some y2567)) (c := false) hW2780 (oM hm2730)) (lw_S q715 q716 q64 q717) hd_J4_setColor rfl (Nat.le_of_ble_eq_true rfl) (by decide) (by decide) (by decide) (by decide) rfl dJ4_fixAfterDeletion_151 (fun _ _ h => h.elim) (fun r2822 V2823 hP2824 => ?_)
                          obtain ⟨hW2825, hU2826⟩ := hP2824
                          refine z_st (st' := []) rfl ?_
                          have hU2827 := zUnc.tr (S := tC t L) hU2782 hU2826 (fun _ h => Or.inl h)
                          change tW _ _ _ _ _ _ _ (va_up cl2771 y2567 false) _ _ _ _ at hW2825
                          obtain ⟨cl2829, ec2828⟩ : ∃ q, q = va_up cl2771 y2567 false := ⟨_, rfl⟩
                          rw [← ec2828] at hW2825
                          have k2830 : cl2829 y2567 = false := by rw [ec2828, zvs]
                          have k2831 : cl2829 y2534 = false := by rw [ec2828, zvn (Ne.symm nx2732)]; exact k2772
                          have k2832 : cl2829 p = false := by rw [ec2828, zvn nx2760]; exact k2774
                          have k2833 : cl2829 x1 = true := by rw [ec2828, zvn nx2762]; exact k2776
                          refine z_aload_n C 2 rfl dJ4_fixAfterDeletion_154 rfl ?_
                          refine z_callS C (As := [.ref x1]) (mJ4_parentOf (o := (some x1)) hW2825 (oM hlp_3)) (lw_S q706 q707 q64 q708) hd_J4_parentOf rfl (Nat.le_of_ble_eq_true rfl) (by decide) (by decide) (by decide) (by decide) rfl dJ4_fixAfterDeletion_155 (fun _ _ h => h.elim) (fun r2834 V2835 hP2836 => ?_)
                          rw [hP2836.1, hP2836.2]
                          refine z_st (st' := [va_rf (pa2791 x1)]) rfl ?_
                          refine z_top (v := .ref p) (congrArg va_rf (show (pa2791 x1) = (some p) from (by rw [k2804]))) ?_
                          refine z_iconst C (v := (nI 1)) dJ4_fixAfterDeletion_158 rfl ?_
                          refine z_st (st' := [.int (zb true), .ref p]) rfl ?_
                          refine z_callS C (As := [.ref p, .int (zb true)]) (mJ4_setColor (o := (some p)) (c := true) hW2825 (oM hm21)) (lw_S q715 q716 q64 q717) hd_J4_setColor rfl (Nat.le_of_ble_eq_true rfl) (by decide) (by decide) (by decide) (by decide) rfl dJ4_fixAfterDeletion_159 (fun _ _ h => h.elim) (fun r2837 V2838 hP2839 => ?_)
                          obtain ⟨hW2840, hU2841⟩ := hP2839
                          refine z_st (st' := []) rfl ?_
                          have hU2842 := zUnc.tr (S := tC t L) hU2827 hU2841 (fun _ h => Or.inl h)
                          change tW _ _ _ _ _ _ _ (va_up cl2829 p true) _ _ _ _ at hW2840
                          obtain ⟨cl2844, ec2843⟩ : ∃ q, q = va_up cl2829 p true := ⟨_, rfl⟩
                          rw [← ec2843] at hW2840
                          have k2845 : cl2844 p = true := by rw [ec2843, zvs]
                          have k2846 : cl2844 y2567 = false := by rw [ec2843, zvn (Ne.symm nx2760)]; exact k2830
                          have k2847 : cl2844 y2534 = false := by rw [ec2843, zvn nx2563]; exact k2831
                          have k2848 : cl2844 x1 = true := by rw [ec2843, zvn nx1694]; exact k2833
                          refine z_aload_n C 0 rfl dJ4_fixAfterDeletion_162 rfl ?_
                          refine z_callS C (As := [.ref y2567]) (mJ4_rightOf (o := (some y2567)) hW2840 (oM hm2730)) (lw_S q712 q713 q64 q714) hd_J4_rightOf rfl (Nat.le_of_ble_eq_true rfl) (by decide) (by decide) (by decide) (by decide) rfl dJ4_fixAfterDeletion_163 (fun _ _ h => h.elim) (fun r2849 V2850 hP2851 => ?_)
                          rw [hP2851.1, hP2851.2]
                          refine z_st (st' := [va_rf (rg2792 y2567)]) rfl ?_
                          refine z_top (v := .ref y2534) (congrArg va_rf (show (rg2792 y2567) = (some y2534) from (by rw [k2796]))) ?_
                          refine z_iconst C (v := (nI 1)) dJ4_fixAfterDeletion_166 rfl ?_
                          refine z_st (st' := [.int (zb true), .ref y2534]) rfl ?_
                          refine z_callS C (As := [.ref y2534, .int (zb true)]) (mJ4_setColor (o := (some y2534)) (c := true) hW2840 (oM hm2561)) (lw_S q715 q716 q64 q717) hd_J4_setColor rfl (Nat.le_of_ble_eq_true rfl) (by decide) (by decide) (by decide) (by decide) rfl dJ4_fixAfterDeletion_167 (fun _ _ h => h.elim) (fun r2852 V2853 hP2854 => ?_)
                          obtain ⟨hW2855, hU2856⟩ := hP2854
                          refine z_st (st' := []) rfl ?_
                          have hU2857 := zUnc.tr (S := tC t L) hU2842 hU2856 (fun _ h => Or.inl h)
                          change tW _ _ _ _ _ _ _ (va_up cl2844 y2534 true) _ _ _ _ at hW2855
                          obtain ⟨cl2859, ec2858⟩ : ∃ q, q = va_up cl2844 y2534 true := ⟨_, rfl⟩
                          rw [← ec2858] at hW2855
                          have k2860 : cl2859 y2534 = true := by rw [ec2858, zvs]
                          have k2861 : cl2859 p = true := by rw [ec2858, zvn (Ne.symm nx2563)]; exact k2845
                          have k2862 : cl2859 y2567 = false := by rw [ec2858, zvn nx2732]; exact k2846
                          have k2863 : cl2859 x1 = true := by rw [ec2858, zvn nx2775]; exact k2848
                          refine z_aload_n C 1 rfl dJ4_fixAfterDeletion_170 rfl ?_
                          refine z_aload_n C 2 rfl dJ4_fixAfterDeletion_171 rfl ?_
                          refine z_callS C (As := [.ref x1]) (mJ4_parentOf (o := (some x1)) hW2855 (oM hlp_3)) (lw_S q706 q707 q64 q708) hd_J4_parentOf rfl (Nat.le_of_ble_eq_true rfl) (by decide) (by decide) (by decide) (by decide) rfl dJ4_fixAfterDeletion_172 (fun _ _ h => h.elim) (fun r2864 V2865 hP2866 => ?_)
                          rw [hP2866.1, hP2866.2]
                          refine z_st (st' := [va_rf (pa2791 x1), .ref t]) rfl ?_
                          refine z_top (v := .ref p) (congrArg va_rf (show (pa2791 x1) = (some p) from (by rw [k2804]))) ?_
                          refine z_callV C k_TM hW2855.1 (As := [.ref p]) (mJ4_rotateLeft hW2855 hI2783 hm21 k2806) (lw_V q718 q720 qs8 q64 q721) rfl hd_J4_rotateLeft rfl (Nat.le_of_ble_eq_true rfl) (by decide) (by decide) (by decide) (by decide) rfl dJ4_fixAfterDeletion_175 (fun _ _ h => h.elim) (fun r2867 V2868 hP2869 => ?_)
                          obtain ⟨hW2870, hU2871⟩ := hP2869
                          refine z_st (st' := []) rfl ?_
                          have hU2872 := zUnc.tr (S := tC t L) hU2857 hU2871 (fun _ h => Or.inl h)
                          have hI2873 := tI_rotL hI2783 hm21 k2806
                          obtain ⟨rg2880, eB2875⟩ : ∃ q, q = xR lf2790 rg2792 p y2567 := ⟨_, rfl⟩
                          rw [← eB2875] at hW2870 hI2873
                          obtain ⟨pa2881, eP2876⟩ : ∃ q, q = xP lf2790 pa2791 p y2567 := ⟨_, rfl⟩
                          rw [← eP2876] at hW2870 hI2873
                          obtain ⟨lf2882, eA2874⟩ : ∃ q, q = xL lf2790 p y2567 := ⟨_, rfl⟩
                          rw [← eA2874] at hW2870 hI2873
                          obtain ⟨rt2883, eT2877⟩ : ∃ q, q = xT rt2793 p y2567 := ⟨_, rfl⟩
                          rw [← eT2877] at hW2870 hI2873
                          obtain ⟨lo2884, elo2878⟩ : ∃ q, q = va_up lo2794 y2567 (lo2794 p) := ⟨_, rfl⟩
                          rw [← elo2878] at hI2873
                          obtain ⟨hi2885, ehi2879⟩ : ∃ q, q = va_up hi2795 p (ps y2567) := ⟨_, rfl⟩
                          rw [← ehi2879] at hI2873
                          have k2886 : lf2882 y2567 = (some p) := by rw [eA2874]; exact xL_r
                          have k2887 : pa2881 p = (some y2567) := by rw [eP2876]; exact xP_p
                          have k2888 : rg2880 y2567 = (some y2534) := by rw [eB2875, xR_o (Ne.symm nx2760) (so_ne k2796 nx2563)]; exact k2796
                          have k2889 : pa2881 y2534 = (some y2567) := by rw [eP2876, xP_o nx2563 (Ne.symm nx2732) (hI2783.rl hm2730 k2796)]; exact k2797
                          have k2890 : lf2882 x = none := by rw [eA2874, xL_o nx2802 (sn_ne k2801)]; exact k2801
                          have k2891 : rg2880 x = none := by rw [eB2875, xR_o nx2522 (sn_ne k2803)]; exact k2803
                          have k2892 : pa2881 x1 = (some p) := by rw [eP2876, xP_o nx1694 nx2762 (fun z => nx2760 (Option.some.inj (k2804.symm.trans (hI2783.ml hm2730 z).2.1)))]; exact k2804
                          have k2893 : lf2882 p = (some x1) := by rw [eA2874, xL_o nx2760 (so_ne k2805 nx1694)]; exact k2805
                          have k2894 : rg2880 y2534 = none := by rw [eB2875, xR_o nx2563 (sn_ne k2807)]; exact k2807
                          have g2895 : lo2884 x1 ≤ ps x := by rw [elo2878, zvn nx2762]; exact g2808
                          have g2896 : ps x < hi2885 x1 := by rw [ehi2879, zvn nx1694]; exact g2809
                          refine z_aload_n C 1 rfl dJ4_fixAfterDeletion_178 rfl ?_
                          refine z_get C k_TM hW2870.1 3 (by decide) rfl q162 dJ4_fixAfterDeletion_179 ?_
                          refine z_astore_nQ C (r := rt2883) [(1, va_rf rt2883), (2, .ref y2567), (0, .ref t)] dJ4_fixAfterDeletion_182 rfl (by decide) rfl ?_
                          refine z_goto C 0 dJ4_fixAfterDeletion_183 (by decide) ?_
                          refine z_pick [(0, .ref t), (1, va_rf rt2883)] [2, 0] rfl ?_
                          obtain ⟨r02897, hr2898⟩ := hI2873.rtm hlp_3
                          obtain ⟨hm2899, hp2900, -, -⟩ := hI2873.2.1.1 r02897 hr2898
                          have e2901 : (va_rf rt2883 : Value) = .ref r02897 := (congrArg va_rf hr2898)
                          refine z_lv (lv' := [(0, .ref t), (1, .ref r02897)]) (by rw [e2901]) ?_
                          exact hexit V2868 rt2883 lf2882 rg2880 pa2881 cl2859 lo2884 hi2885 r02897 hW2870 hI2873 hU2872 hm2899 hr2898 k2890 k2891
                      · skip
                        obtain ⟨hm2902, hp2903, nx2904⟩ := hI2505.mr hm2561 hy2741
                        refine z_callS C (As := [.ref y2740]) (mJ4_colorOf (o := (some y2740)) hW2502 (oM hm2902)) (lw_S q703 q704 q64 q705) hd_J4_colorOf rfl (Nat.le_of_ble_eq_true rfl) (by decide) (by decide) (by decide) (by decide) rfl dJ4_fixAfterDeletion_110 (fun _ _ h => h.elim) (fun r2905 V2906 hP2907 => ?_)
                        rw [hP2907.1, hP2907.2]
                        refine z_st (st' := [.int (zb (cl2492 y2740))]) rfl ?_
                        refine z_iconst C (v := (nI 1)) dJ4_fixAfterDeletion_113 rfl ?_
                        refine z_icmp_ne C 143 dJ4_fixAfterDeletion_114 (by decide) (fun c114 => ?_) (fun c114 => ?_)
                        · skip
                          have k2908 : (cl2492 y2740) = false := zb1f c114
                          refine z_aload_n C 0 rfl dJ4_fixAfterDeletion_143 rfl ?_
                          refine z_aload_n C 2 rfl dJ4_fixAfterDeletion_144 rfl ?_
                          refine z_callS C (As := [.ref x1]) (mJ4_parentOf (o := (some x1)) hW2502 (oM hlp_3)) (lw_S q706 q707 q64 q708) hd_J4_parentOf rfl (Nat.le_of_ble_eq_true rfl) (by decide) (by decide) (by decide) (by decide) rfl dJ4_fixAfterDeletion_145 (fun _ _ h => h.elim) (fun r2909 V2910 hP2911 => ?_)
                          rw [hP2911.1, hP2911.2]
                          refine z_st (st' := [va_rf (pa2513 x1), .ref y2534]) rfl ?_
                          refine z_top (v := .ref p) (congrArg va_rf (show (pa2513 x1) = (some p) from (by rw [k2524]))) ?_
                          refine z_callS C (As := [.ref p]) (mJ4_colorOf (o := (some p)) hW2502 (oM hm21)) (lw_S q703 q704 q64 q705) hd_J4_colorOf rfl (Nat.le_of_ble_eq_true rfl) (by decide) (by decide) (by decide) (by decide) rfl dJ4_fixAfterDeletion_148 (fun _ _ h => h.elim) (fun r2912 V2913 hP2914 => ?_)
                          rw [hP2914.1, hP2914.2]
                          refine z_st (st' := [.int (zb (cl2492 p)), .ref y2534]) rfl ?_
                          refine z_top (v := .int (zb false)) (congrArg (fun c => Value.int (zb c)) (show (cl2492 p) = false from (by rw [k2493]))) ?_
                          refine z_callS C (As := [.ref y2534, .int (zb false)]) (mJ4_setColor (o := (some y2534)) (c := false) hW2502 (oM hm2561)) (lw_S q715 q716 q64 q717) hd_J4_setColor rfl (Nat.le_of_ble_eq_true rfl) (by decide) (by decide) (by decide) (by decide) rfl dJ4_fixAfterDeletion_151 (fun _ _ h => h.elim) (fun r2915 V2916 hP2917 => ?_)
                          obtain ⟨hW2918, hU2919⟩ := hP2917
                          refine z_st (st' := []) rfl ?_
                          have hU2920 := zUnc.tr (S := tC t L) hU2504 hU2919 (fun _ h => Or.inl h)
                          change tW _ _ _ _ _ _ _ (va_up cl2492 y2534 false) _ _ _ _ at hW2918
                          obtain ⟨cl2922, ec2921⟩ : ∃ q, q = va_up cl2492 y2534 false := ⟨_, rfl⟩
                          rw [← ec2921] at hW2918
                          have k2923 : cl2922 y2534 = false := by rw [ec2921, zvs]
                          have k2924 : cl2922 p = false := by rw [ec2921, zvn (Ne.symm nx2563)]; exact k2493
                          have nx2925 : y1701 ≠ y2534 := (Ne.symm (tI.gg hI2505 hm2561 hp2562 hm21 k2519))
                          have k2926 : cl2922 y1701 = true := by rw [ec2921, zvn nx2925]; exact k2494
                          have nx2927 : x1 ≠ y2534 := (tI.sib hI2505 hm21 k2525 hy2535)
                          have k2928 : cl2922 x1 = true := by rw [ec2921, zvn nx2927]; exact k2495
                          have k2929 : cl2922 y2567 = false := by rw [ec2921, zvn nx2732]; exact k2736
                          have k2930 : cl2922 y2740 = false := by rw [ec2921, zvn nx2904]; exact k2908
                          refine z_aload_n C 2 rfl dJ4_fixAfterDeletion_154 rfl ?_
                          refine z_callS C (As := [.ref x1]) (mJ4_parentOf (o := (some x1)) hW2918 (oM hlp_3)) (lw_S q706 q707 q64 q708) hd_J4_parentOf rfl (Nat.le_of_ble_eq_true rfl) (by decide) (by decide) (by decide) (by decide) rfl dJ4_fixAfterDeletion_155 (fun _ _ h => h.elim) (fun r2931 V2932 hP2933 => ?_)
                          rw [hP2933.1, hP2933.2]
                          refine z_st (st' := [va_rf (pa2513 x1)]) rfl ?_
                          refine z_top (v := .ref p) (congrArg va_rf (show (pa2513 x1) = (some p) from (by rw [k2524]))) ?_
                          refine z_iconst C (v := (nI 1)) dJ4_fixAfterDeletion_158 rfl ?_
                          refine z_st (st' := [.int (zb true), .ref p]) rfl ?_
                          refine z_callS C (As := [.ref p, .int (zb true)]) (mJ4_setColor (o := (some p)) (c := true) hW2918 (oM hm21)) (lw_S q715 q716 q64 q717) hd_J4_setColor rfl (Nat.le_of_ble_eq_true rfl) (by decide) (by decide) (by decide) (by decide) rfl dJ4_fixAfterDeletion_159 (fun _ _ h => h.elim) (fun r2934 V2935 hP2936 => ?_)
                          obtain ⟨hW2937, hU2938⟩ := hP2936
                          refine z_st (st' := []) rfl ?_
                          have hU2939 := zUnc.tr (S := tC t L) hU2920 hU2938 (fun _ h => Or.inl h)
                          change tW _ _ _ _ _ _ _ (va_up cl2922 p true) _ _ _ _ at hW2937
                          obtain ⟨cl2941, ec2940⟩ : ∃ q, q = va_up cl2922 p true := ⟨_, rfl⟩
                          rw [← ec2940] at hW2937
                          have k2942 : cl2941 p = true := by rw [ec2940, zvs]
                          have k2943 : cl2941 y2534 = false := by rw [ec2940, zvn nx2563]; exact k2923
                          have k2944 : cl2941 y1701 = true := by rw [ec2940, zvn nx1735]; exact k2926
                          have k2945 : cl2941 x1 = true := by rw [ec2940, zvn nx1694]; exact k2928
                          have nx2946 : y2567 ≠ p := (tI.gg hI2505 hm2730 hp2731 hm2561 hp2562)
                          have k2947 : cl2941 y2567 = false := by rw [ec2940, zvn nx2946]; exact k2929
                          have nx2948 : y2740 ≠ p := (tI.gg hI2505 hm2902 hp2903 hm2561 hp2562)
                          have k2949 : cl2941 y2740 = false := by rw [ec2940, zvn nx2948]; exact k2930
                          refine z_aload_n C 0 rfl dJ4_fixAfterDeletion_162 rfl ?_
                          refine z_callS C (As := [.ref y2534]) (mJ4_rightOf (o := (some y2534)) hW2937 (oM hm2561)) (lw_S q712 q713 q64 q714) hd_J4_rightOf rfl (Nat.le_of_ble_eq_true rfl) (by decide) (by decide) (by decide) (by decide) rfl dJ4_fixAfterDeletion_163 (fun _ _ h => h.elim) (fun r2950 V2951 hP2952 => ?_)
                          rw [hP2952.1, hP2952.2]
                          refine z_st (st' := [va_rf (rg2512 y2534)]) rfl ?_
                          refine z_top (v := .ref y2740) (congrArg va_rf (show (rg2512 y2534) = (some y2740) from (by rw [hy2741]))) ?_
                          refine z_iconst C (v := (nI 1)) dJ4_fixAfterDeletion_166 rfl ?_
                          refine z_st (st' := [.int (zb true), .ref y2740]) rfl ?_
                          refine z_callS C (As := [.ref y2740, .int (zb true)]) (mJ4_setColor (o := (some y2740)) (c := true) hW2937 (oM hm2902)) (lw_S q715 q716 q64 q717) hd_J4_setColor rfl (Nat.le_of_ble_eq_true rfl) (by decide) (by decide) (by decide) (by decide) rfl dJ4_fixAfterDeletion_167 (fun _ _ h => h.elim) (fun r2953 V2954 hP2955 => ?_)
                          obtain ⟨hW2956, hU2957⟩ := hP2955
                          refine z_st (st' := []) rfl ?_
                          have hU2958 := zUnc.tr (S := tC t L) hU2939 hU2957 (fun _ h => Or.inl h)
                          change tW _ _ _ _ _ _ _ (va_up cl2941 y2740 true) _ _ _ _ at hW2956
                          obtain ⟨cl2960, ec2959⟩ : ∃ q, q = va_up cl2941 y2740 true := ⟨_, rfl⟩
                          rw [← ec2959] at hW2956
                          have k2961 : cl2960 y2740 = true := by rw [ec2959, zvs]
                          have k2962 : cl2960 p = true := by rw [ec2959, zvn (Ne.symm nx2948)]; exact k2942
                          have k2963 : cl2960 y2534 = false := by rw [ec2959, zvn (Ne.symm nx2904)]; exact k2943
                          have nx2964 : x1 ≠ y2740 := (ne_pa k2524 hp2903 (Ne.symm nx2563))
                          have k2965 : cl2960 x1 = true := by rw [ec2959, zvn nx2964]; exact k2945
                          have nx2966 : y2567 ≠ y2740 := (tI.sib hI2505 hm2561 hy2568 hy2741)
                          have k2967 : cl2960 y2567 = false := by rw [ec2959, zvn nx2966]; exact k2947
                          refine z_aload_n C 1 rfl dJ4_fixAfterDeletion_170 rfl ?_
                          refine z_aload_n C 2 rfl dJ4_fixAfterDeletion_171 rfl ?_
                          refine z_callS C (As := [.ref x1]) (mJ4_parentOf (o := (some x1)) hW2956 (oM hlp_3)) (lw_S q706 q707 q64 q708) hd_J4_parentOf rfl (Nat.le_of_ble_eq_true rfl) (by decide) (by decide) (by decide) (by decide) rfl dJ4_fixAfterDeletion_172 (fun _ _ h => h.elim) (fun r2968 V2969 hP2970 => ?_)
                          rw [hP2970.1, hP2970.2]
                          refine z_st (st' := [va_rf (pa2513 x1), .ref t]) rfl ?_
                          refine z_top (v := .ref p) (congrArg va_rf (show (pa2513 x1) = (some p) from (by rw [k2524]))) ?_
                          refine z_callV C k_TM hW2956.1 (As := [.ref p]) (mJ4_rotateLeft hW2956 hI2505 hm21 hy2535) (lw_V q718 q720 qs8 q64 q721) rfl hd_J4_rotateLeft rfl (Nat.le_of_ble_eq_true rfl) (by decide) (by decide) (by decide) (by decide) rfl dJ4_fixAfterDeletion_175 (fun _ _ h => h.elim) (fun r2971 V2972 hP2973 => ?_)
                          obtain ⟨hW2974, hU2975⟩ := hP2973
                          refine z_st (st' := []) rfl ?_
                          have hU2976 := zUnc.tr (S := tC t L) hU2958 hU2975 (fun _ h => Or.inl h)
                          have hI2977 := tI_rotL hI2505 hm21 hy2535
                          obtain ⟨rg2984, eB2979⟩ : ∃ q, q = xR lf2514 rg2512 p y2534 := ⟨_, rfl⟩
                          rw [← eB2979] at hW2974 hI2977
                          obtain ⟨pa2985, eP2980⟩ : ∃ q, q = xP lf2514 pa2513 p y2534 := ⟨_, rfl⟩
                          rw [← eP2980] at hW2974 hI2977
                          obtain ⟨lf2986, eA2978⟩ : ∃ q, q = xL lf2514 p y2534 := ⟨_, rfl⟩
                          rw [← eA2978] at hW2974 hI2977
                          obtain ⟨rt2987, eT2981⟩ : ∃ q, q = xT rt2515 p y2534 := ⟨_, rfl⟩
                          rw [← eT2981] at hW2974 hI2977
                          obtain ⟨lo2988, elo2982⟩ : ∃ q, q = va_up lo2516 y2534 (lo2516 p) := ⟨_, rfl⟩
                          rw [← elo2982] at hI2977
                          obtain ⟨hi2989, ehi2983⟩ : ∃ q, q = va_up hi2517 p (ps y2534) := ⟨_, rfl⟩
                          rw [← ehi2983] at hI2977
                          have k2990 : lf2986 y2534 = (some p) := by rw [eA2978]; exact xL_r
                          have k2991 : pa2985 p = (some y2534) := by rw [eP2980]; exact xP_p
                          have k2992 : rg2984 p = (some y2567) := by rw [eB2979, xR_p]; exact hy2568
                          have k2993 : pa2985 y2534 = (some y1701) := by rw [eP2980, xP_r nx2563]; exact k2519
                          have k2994 : lf2986 y1701 = (some y2534) := by rw [eA2978]; exact xL_u nx2925 k2518
                          have nx2995 : x ≠ y2534 := (fn_ne k2521 hy2568)
                          have k2996 : lf2986 x = none := by rw [eA2978, xL_o nx2995 (sn_ne k2521)]; exact k2521
                          have k2997 : rg2984 x = none := by rw [eB2979, xR_o nx2522 (sn_ne k2523)]; exact k2523
                          have nx2998 : y2567 ≠ x1 := (ne_pa hp2731 k2524 nx2563)
                          have k2999 : pa2985 x1 = (some p) := by rw [eP2980, xP_o nx1694 nx2927 (so_ne hy2568 nx2998)]; exact k2524
                          have k3000 : lf2986 p = (some x1) := by rw [eA2978, xL_o (Ne.symm nx2563) (so_ne k2525 nx1694)]; exact k2525
                          have k3001 : pa2985 y2567 = (some p) := by rw [eP2980]; exact xP_c nx2946 nx2732 hy2568
                          have k3002 : rg2984 y2534 = (some y2740) := by rw [eB2979, xR_o nx2563 (so_ne hy2741 nx2948)]; exact hy2741
                          have k3003 : pa2985 y2740 = (some y2534) := by rw [eP2980, xP_o nx2948 nx2904 (so_ne hy2568 nx2966)]; exact hp2903
                          have g3004 : lo2988 x1 ≤ ps x := by rw [elo2982, zvn nx2927]; exact g2526
                          have g3005 : ps x < hi2989 x1 := by rw [ehi2983, zvn nx1694]; exact g2527
                          refine z_aload_n C 1 rfl dJ4_fixAfterDeletion_178 rfl ?_
                          refine z_get C k_TM hW2974.1 3 (by decide) rfl q162 dJ4_fixAfterDeletion_179 ?_
                          refine z_astore_nQ C (r := rt2987) [(1, va_rf rt2987), (2, .ref y2534), (0, .ref t)] dJ4_fixAfterDeletion_182 rfl (by decide) rfl ?_
                          refine z_goto C 0 dJ4_fixAfterDeletion_183 (by decide) ?_
                          refine z_pick [(0, .ref t), (1, va_rf rt2987)] [2, 0] rfl ?_
                          obtain ⟨r03006, hr3007⟩ := hI2977.rtm hlp_3
                          obtain ⟨hm3008, hp3009, -, -⟩ := hI2977.2.1.1 r03006 hr3007
                          have e3010 : (va_rf rt2987 : Value) = .ref r03006 := (congrArg va_rf hr3007)
                          refine z_lv (lv' := [(0, .ref t), (1, .ref r03006)]) (by rw [e3010]) ?_
                          exact hexit V2972 rt2987 lf2986 rg2984 pa2985 cl2960 lo2988 hi2989 r03006 hW2974 hI2977 hU2976 hm3008 hr3007 k2996 k2997
                        · skip
                          have k3011 : (cl2492 y2740) = true := zb1 c114
                          refine z_aload_n C 0 rfl dJ4_fixAfterDeletion_117 rfl ?_
                          refine z_callS C (As := [.ref y2534]) (mJ4_leftOf (o := (some y2534)) hW2502 (oM hm2561)) (lw_S q709 q710 q64 q711) hd_J4_leftOf rfl (Nat.le_of_ble_eq_true rfl) (by decide) (by decide) (by decide) (by decide) rfl dJ4_fixAfterDeletion_118 (fun _ _ h => h.elim) (fun r3012 V3013 hP3014 => ?_)
                          rw [hP3014.1, hP3014.2]
                          refine z_st (st' := [va_rf (lf2514 y2534)]) rfl ?_
                          refine z_top (v := .ref y2567) (congrArg va_rf (show (lf2514 y2534) = (some y2567) from (by rw [hy2568]))) ?_
                          refine z_iconst C (v := (nI 1)) dJ4_fixAfterDeletion_121 rfl ?_
                          refine z_st (st' := [.int (zb true), .ref y2567]) rfl ?_
                          refine z_callS C (As := [.ref y2567, .int (zb true)]) (mJ4_setColor (o := (some y2567)) (c := true) hW2502 (oM hm2730)) (lw_S q715 q716 q64 q717) hd_J4_setColor rfl (Nat.le_of_ble_eq_true rfl) (by decide) (by decide) (by decide) (by decide) rfl dJ4_fixAfterDeletion_122 (fun _ _ h => h.elim) (fun r3015 V3016 hP3017 => ?_)
                          obtain ⟨hW3018, hU3019⟩ := hP3017
                          refine z_st (st' := []) rfl ?_
                          have hU3020 := zUnc.tr (S := tC t L) hU2504 hU3019 (fun _ h => Or.inl h)
                          change tW _ _ _ _ _ _ _ (va_up cl2492 y2567 true) _ _ _ _ at hW3018
                          obtain ⟨cl3022, ec3021⟩ : ∃ q, q = va_up cl2492 y2567 true := ⟨_, rfl⟩
                          rw [← ec3021] at hW3018
                          have k3023 : cl3022 y2567 = true := by rw [ec3021, zvs]
                          have nx3024 : y1701 ≠ y2534 := (Ne.symm (tI.gg hI2505 hm2561 hp2562 hm21 k2519))
                          have nx3025 : p ≠ y2567 := (ne_pa k2519 hp2731 nx3024)
                          have k3026 : cl3022 p = false := by rw [ec3021, zvn nx3025]; exact k2493
                          have nx3027 : x1 ≠ y2567 := (ne_pa k2524 hp2731 (Ne.symm nx2563))
                          have k3028 : cl3022 x1 = true := by rw [ec3021, zvn nx3027]; exact k2495
                          have nx3029 : y2740 ≠ y2567 := (Ne.symm (tI.sib hI2505 hm2561 hy2568 hy2741))
                          have k3030 : cl3022 y2740 = true := by rw [ec3021, zvn nx3029]; exact k3011
                          refine z_aload_n C 0 rfl dJ4_fixAfterDeletion_125 rfl ?_
                          refine z_iconst C (v := (nI 0)) dJ4_fixAfterDeletion_126 rfl ?_
                          refine z_st (st' := [.int (zb false), .ref y2534]) rfl ?_
                          refine z_callS C (As := [.ref y2534, .int (zb false)]) (mJ4_setColor (o := (some y2534)) (c := false) hW3018 (oM hm2561)) (lw_S q715 q716 q64 q717) hd_J4_setColor rfl (Nat.le_of_ble_eq_true rfl) (by decide) (by decide) (by decide) (by decide) rfl dJ4_fixAfterDeletion_127 (fun _ _ h => h.elim) (fun r3031 V3032 hP3033 => ?_)
                          obtain ⟨hW3034, hU3035⟩ := hP3033
                          refine z_st (st' := []) rfl ?_
                          have hU3036 := zUnc.tr (S := tC t L) hU3020 hU3035 (fun _ h => Or.inl h)
                          change tW _ _ _ _ _ _ _ (va_up cl3022 y2534 false) _ _ _ _ at hW3034
                          obtain ⟨cl3038, ec3037⟩ : ∃ q, q = va_up cl3022 y2534 false := ⟨_, rfl⟩
                          rw [← ec3037] at hW3034
                          have k3039 : cl3038 y2534 = false := by rw [ec3037, zvs]
                          have k3040 : cl3038 y2567 = true := by rw [ec3037, zvn nx2732]; exact k3023
                          have k3041 : cl3038 p = false := by rw [ec3037, zvn (Ne.symm nx2563)]; exact k3026
                          have nx3042 : x1 ≠ y2534 := (tI.sib hI2505 hm21 k2525 hy2535)
                          have k3043 : cl3038 x1 = true := by rw [ec3037, zvn nx3042]; exact k3028
                          have k3044 : cl3038 y2740 = true := by rw [ec3037, zvn nx2904]; exact k3030
                          refine z_aload_n C 1 rfl dJ4_fixAfterDeletion_130 rfl ?_
                          refine z_aload_n C 0 rfl dJ4_fixAfterDeletion_131 rfl ?_
                          refine z_callV C k_TM hW3034.1 (As := [.ref y2534]) (mJ4_rotateRight hW3034 hI2505 hm2561 hy2568) (lw_V q722 q724 qs9 q64 q725) rfl hd_J4_rotateRight rfl (Nat.le_of_ble_eq_true rfl) (by decide) (by decide) (by decide) (by decide) rfl dJ4_fixAfterDeletion_132 (fun _ _ h => h.elim) (fun r3045 V3046 hP3047 => ?_)
                          obtain ⟨hW3048, hU3049⟩ := hP3047
                          refine z_st (st' := []) rfl ?_
                          have hU3050 := zUnc.tr (S := tC t L) hU3036 hU3049 (fun _ h => Or.inl h)
                          have hI3051 := tI_rotR hI2505 hm2561 hy2568
                          obtain ⟨lf3058, eB3053⟩ : ∃ q, q = xR rg2512 lf2514 y2534 y2567 := ⟨_, rfl⟩
                          rw [← eB3053] at hW3048 hI3051
                          obtain ⟨pa3059, eP3054⟩ : ∃ q, q = xP rg2512 pa2513 y2534 y2567 := ⟨_, rfl⟩
                          rw [← eP3054] at hW3048 hI3051
                          obtain ⟨rg3060, eA3052⟩ : ∃ q, q = xL rg2512 y2534 y2567 := ⟨_, rfl⟩
                          rw [← eA3052] at hW3048 hI3051
                          obtain ⟨rt3061, eT3055⟩ : ∃ q, q = xT rt2515 y2534 y2567 := ⟨_, rfl⟩
                          rw [← eT3055] at hW3048 hI3051
                          obtain ⟨lo3062, elo3056⟩ : ∃ q, q = va_up lo2516 y2534 (ps y2567 + 1) := ⟨_, rfl⟩
                          rw [← elo3056] at hI3051
                          obtain ⟨hi3063, ehi3057⟩ : ∃ q, q = va_up hi2517 y2567 (hi2517 y2534) := ⟨_, rfl⟩
                          rw [← ehi3057] at hI3051
                          have k3064 : rg3060 y2567 = (some y2534) := by rw [eA3052]; exact xL_r
                          have k3065 : pa3059 y2534 = (some y2567) := by rw [eP3054]; exact xP_p
                          have k3066 : pa3059 y2567 = (some p) := by rw [eP3054, xP_r nx2732]; exact hp2562
                          have k3067 : lf3058 y1701 = (some p) := by rw [eB3053, xR_o nx3024 (so_ne k2518 (Ne.symm nx2563))]; exact k2518
                          have nx3068 : x ≠ y2534 := (fn_ne k2521 hy2568)
                          have k3069 : lf3058 x = none := by rw [eB3053, xR_o nx3068 (sn_ne k2521)]; exact k2521
                          have nx3070 : x ≠ y2567 := (hI2505.fL hm21 k2525 hy2535 g2527 hm2730 (hI2505.le hm2730 hp2731).1)
                          have k3071 : rg3060 x = none := by rw [eA3052, xL_o nx3070 (sn_ne k2523)]; exact k2523
                          have k3072 : pa3059 x1 = (some p) := by rw [eP3054, xP_o nx3042 nx3027 (fun z => nx3025 (Option.some.inj (k2524.symm.trans (hI2505.mr hm2730 z).2.1)))]; exact k2524
                          have k3073 : lf3058 p = (some x1) := by rw [eB3053, xR_o (Ne.symm nx2563) (so_ne k2525 nx3042)]; exact k2525
                          have k3074 : rg3060 p = (some y2567) := by rw [eA3052]; exact xL_u nx3025 hy2535
                          have k3075 : rg3060 y2534 = (some y2740) := by rw [eA3052, xL_o (Ne.symm nx2732) (so_ne hy2741 nx2904)]; exact hy2741
                          have k3076 : pa3059 y2740 = (some y2534) := by rw [eP3054, xP_o nx2904 nx3029 (fun z => (Ne.symm nx2732) (Option.some.inj (hp2903.symm.trans (hI2505.mr hm2730 z).2.1)))]; exact hp2903
                          have g3077 : lo3062 x1 ≤ ps x := by rw [elo3056, zvn nx3042]; exact g2526
                          have g3078 : ps x < hi3063 x1 := by rw [ehi3057, zvn nx3027]; exact g2527
                          refine z_aload_n C 2 rfl dJ4_fixAfterDeletion_135 rfl ?_
                          refine z_callS C (As := [.ref x1]) (mJ4_parentOf (o := (some x1)) hW3048 (oM hlp_3)) (lw_S q706 q707 q64 q708) hd_J4_parentOf rfl (Nat.le_of_ble_eq_true rfl) (by decide) (by decide) (by decide) (by decide) rfl dJ4_fixAfterDeletion_136 (fun _ _ h => h.elim) (fun r3079 V3080 hP3081 => ?_)
                          rw [hP3081.1, hP3081.2]
                          refine z_st (st' := [va_rf (pa3059 x1)]) rfl ?_
                          refine z_top (v := .ref p) (congrArg va_rf (show (pa3059 x1) = (some p) from (by rw [k3072]))) ?_
                          refine z_callS C (As := [.ref p]) (mJ4_rightOf (o := (some p)) hW3048 (oM hm21)) (lw_S q712 q713 q64 q714) hd_J4_rightOf rfl (Nat.le_of_ble_eq_true rfl) (by decide) (by decide) (by decide) (by decide) rfl dJ4_fixAfterDeletion_139 (fun _ _ h => h.elim) (fun r3082 V3083 hP3084 => ?_)
                          rw [hP3084.1, hP3084.2]
                          refine z_st (st' := [va_rf (rg3060 p)]) rfl ?_
                          refine z_top (v := .ref y2567) (congrArg va_rf (show (rg3060 p) = (some y2567) from (by rw [k3074]))) ?_
                          refine z_astore_n C [(2, .ref y2567), (0, .ref t), (1, .ref x1)] dJ4_fixAfterDeletion_142 rfl (by decide) rfl ?_
                          refine z_aload_n C 0 rfl dJ4_fixAfterDeletion_143 rfl ?_
                          refine z_aload_n C 2 rfl dJ4_fixAfterDeletion_144 rfl ?_
                          refine z_callS C (As := [.ref x1]) (mJ4_parentOf (o := (some x1)) hW3048 (oM hlp_3)) (lw_S q706 q707 q64 q708) hd_J4_parentOf rfl (Nat.le_of_ble_eq_true rfl) (by decide) (by decide) (by decide) (by decide) rfl dJ4_fixAfterDeletion_145 (fun _ _ h => h.elim) (fun r3085 V3086 hP3087 => ?_)
                          rw [hP3087.1, hP3087.2]
                          refine z_st (st' := [va_rf (pa3059 x1), .ref y2567]) rfl ?_
                          refine z_top (v := .ref p) (congrArg va_rf (show (pa3059 x1) = (some p) from (by rw [k3072]))) ?_
                          refine z_callS C (As := [.ref p]) (mJ4_colorOf (o := (some p)) hW3048 (oM hm21)) (lw_S q703 q704 q64 q705) hd_J4_colorOf rfl (Nat.le_of_ble_eq_true rfl) (by decide) (by decide) (by decide) (by decide) rfl dJ4_fixAfterDeletion_148 (fun _ _ h => h.elim) (fun r3088 V3089 hP3090 => ?_)
                          rw [hP3090.1, hP3090.2]
                          refine z_st (st' := [.int (zb (cl3038 p)), .ref y2567]) rfl ?_
                          refine z_top (v := .int (zb false)) (congrArg (fun c => Value.int (zb c)) (show (cl3038 p) = false from (by rw [k3041]))) ?_
                          refine z_callS C (As := [.ref y2567, .int (zb false)]) (mJ4_setColor (o := (some y2567)) (c := false) hW3048 (oM hm2730)) (lw_S q715 q716 q64 q717) hd_J4_setColor rfl (Nat.le_of_ble_eq_true rfl) (by decide) (by decide) (by decide) (by decide) rfl dJ4_fixAfterDeletion_151 (fun _ _ h => h.elim) (fun r3091 V3092 hP3093 => ?_)
                          obtain ⟨hW3094, hU3095⟩ := hP3093
                          refine z_st (st' := []) rfl ?_
                          have hU3096 := zUnc.tr (S := tC t L) hU3050 hU3095 (fun _ h => Or.inl h)
                          change tW _ _ _ _ _ _ _ (va_up cl3038 y2567 false) _ _ _ _ at hW3094
                          obtain ⟨cl3098, ec3097⟩ : ∃ q, q = va_up cl3038 y2567 false := ⟨_, rfl⟩
                          rw [← ec3097] at hW3094
                          have k3099 : cl3098 y2567 = false := by rw [ec3097, zvs]
                          have k3100 : cl3098 y2534 = false := by rw [ec3097, zvn (Ne.symm nx2732)]; exact k3039
                          have k3101 : cl3098 p = false := by rw [ec3097, zvn nx3025]; exact k3041
                          have k3102 : cl3098 x1 = true := by rw [ec3097, zvn nx3027]; exact k3043
                          have k3103 : cl3098 y2740 = true := by rw [ec3097, zvn nx3029]; exact k3044
                          refine z_aload_n C 2 rfl dJ4_fixAfterDeletion_154 rfl ?_
                          refine z_callS C (As := [.ref x1]) (mJ4_parentOf (o := (some x1)) hW3094 (oM hlp_3)) (lw_S q706 q707 q64 q708) hd_J4_parentOf rfl (Nat.le_of_ble_eq_true rfl) (by decide) (by decide) (by decide) (by decide) rfl dJ4_fixAfterDeletion_155 (fun _ _ h => h.elim) (fun r3104 V3105 hP3106 => ?_)
                          rw [hP3106.1, hP3106.2]
                          refine z_st (st' := [va_rf (pa3059 x1)]) rfl ?_
                          refine z_top (v := .ref p) (congrArg va_rf (show (pa3059 x1) = (some p) from (by rw [k3072]))) ?_
                          refine z_iconst C (v := (nI 1)) dJ4_fixAfterDeletion_158 rfl ?_
                          refine z_st (st' := [.int (zb true), .ref p]) rfl ?_
                          refine z_callS C (As := [.ref p, .int (zb true)]) (mJ4_setColor (o := (some p)) (c := true) hW3094 (oM hm21)) (lw_S q715 q716 q64 q717) hd_J4_setColor rfl (Nat.le_of_ble_eq_true rfl) (by decide) (by decide) (by decide) (by decide) rfl dJ4_fixAfterDeletion_159 (fun _ _ h => h.elim) (fun r3107 V3108 hP3109 => ?_)
                          obtain ⟨hW3110, hU3111⟩ := hP3109
                          refine z_st (st' := []) rfl ?_
                          have hU3112 := zUnc.tr (S := tC t L) hU3096 hU3111 (fun _ h => Or.inl h)
                          change tW _ _ _ _ _ _ _ (va_up cl3098 p true) _ _ _ _ at hW3110
                          obtain ⟨cl3114, ec3113⟩ : ∃ q, q = va_up cl3098 p true := ⟨_, rfl⟩
                          rw [← ec3113] at hW3110
                          have k3115 : cl3114 p = true := by rw [ec3113, zvs]
                          have k3116 : cl3114 y2567 = false := by rw [ec3113, zvn (Ne.symm nx3025)]; exact k3099
                          have k3117 : cl3114 y2534 = false := by rw [ec3113, zvn nx2563]; exact k3100
                          have k3118 : cl3114 x1 = true := by rw [ec3113, zvn nx1694]; exact k3102
                          refine z_aload_n C 0 rfl dJ4_fixAfterDeletion_162 rfl ?_
                          refine z_callS C (As := [.ref y2567]) (mJ4_rightOf (o := (some y2567)) hW3110 (oM hm2730)) (lw_S q712 q713 q64 q714) hd_J4_rightOf rfl (Nat.le_of_ble_eq_true rfl) (by decide) (by decide) (by decide) (by decide) rfl dJ4_fixAfterDeletion_163 (fun _ _ h => h.elim) (fun r3119 V3120 hP3121 => ?_)
                          rw [hP3121.1, hP3121.2]
                          refine z_st (st' := [va_rf (rg3060 y2567)]) rfl ?_
                          refine z_top (v := .ref y2534) (congrArg va_rf (show (rg3060 y2567) = (some y2534) from (by rw [k3064]))) ?_
                          refine z_iconst C (v := (nI 1)) dJ4_fixAfterDeletion_166 rfl ?_
                          refine z_st (st' := [.int (zb true), .ref y2534]) rfl ?_
                          refine z_callS C (As := [.ref y2534, .int (zb true)]) (mJ4_setColor (o := (some y2534)) (c := true) hW3110 (oM hm2561)) (lw_S q715 q716 q64 q717) hd_J4_setColor rfl (Nat.le_of_ble_eq_true rfl) (by decide) (by decide) (by decide) (by decide) rfl dJ4_fixAfterDeletion_167 (fun _ _ h => h.elim) (fun r3122 V3123 hP3124 => ?_)
                          obtain ⟨hW3125, hU3126⟩ := hP3124
                          refine z_st (st' := []) rfl ?_
                          have hU3127 := zUnc.tr (S := tC t L) hU3112 hU3126 (fun _ h => Or.inl h)
                          change tW _ _ _ _ _ _ _ (va_up cl3114 y2534 true) _ _ _ _ at hW3125
                          obtain ⟨cl3129, ec3128⟩ : ∃ q, q = va_up cl3114 y2534 true := ⟨_, rfl⟩
                          rw [← ec3128] at hW3125
                          have k3130 : cl3129 y2534 = true := by rw [ec3128, zvs]
                          have k3131 : cl3129 p = true := by rw [ec3128, zvn (Ne.symm nx2563)]; exact k3115
                          have k3132 : cl3129 y2567 = false := by rw [ec3128, zvn nx2732]; exact k3116
                          have k3133 : cl3129 x1 = true := by rw [ec3128, zvn nx3042]; exact k3118
                          refine z_aload_n C 1 rfl dJ4_fixAfterDeletion_170 rfl ?_
                          refine z_aload_n C 2 rfl dJ4_fixAfterDeletion_171 rfl ?_
                          refine z_callS C (As := [.ref x1]) (mJ4_parentOf (o := (some x1)) hW3125 (oM hlp_3)) (lw_S q706 q707 q64 q708) hd_J4_parentOf rfl (Nat.le_of_ble_eq_true rfl) (by decide) (by decide) (by decide) (by decide) rfl dJ4_fixAfterDeletion_172 (fun _ _ h => h.elim) (fun r3134 V3135 hP3136 => ?_)
                          rw [hP3136.1, hP3136.2]
                          refine z_st (st' := [va_rf (pa3059 x1), .ref t]) rfl ?_
                          refine z_top (v := .ref p) (congrArg va_rf (show (pa3059 x1) = (some p) from (by rw [k3072]))) ?_
                          refine z_callV C k_TM hW3125.1 (As := [.ref p]) (mJ4_rotateLeft hW3125 hI3051 hm21 k3074) (lw_V q718 q720 qs8 q64 q721) rfl hd_J4_rotateLeft rfl (Nat.le_of_ble_eq_true rfl) (by decide) (by decide) (by decide) (by decide) rfl dJ4_fixAfterDeletion_175 (fun _ _ h => h.elim) (fun r3137 V3138 hP3139 => ?_)
                          obtain ⟨hW3140, hU3141⟩ := hP3139
                          refine z_st (st' := []) rfl ?_
                          have hU3142 := zUnc.tr (S := tC t L) hU3127 hU3141 (fun _ h => Or.inl h)
                          have hI3143 := tI_rotL hI3051 hm21 k3074
                          obtain ⟨rg3150, eB3145⟩ : ∃ q, q = xR lf3058 rg3060 p y2567 := ⟨_, rfl⟩
                          rw [← eB3145] at hW3140 hI3143
                          obtain ⟨pa3151, eP3146⟩ : ∃ q, q = xP lf3058 pa3059 p y2567 := ⟨_, rfl⟩
                          rw [← eP3146] at hW3140 hI3143
                          obtain ⟨lf3152, eA3144⟩ : ∃ q, q = xL lf3058 p y2567 := ⟨_, rfl⟩
                          rw [← eA3144] at hW3140 hI3143
                          obtain ⟨rt3153, eT3147⟩ : ∃ q, q = xT rt3061 p y2567 := ⟨_, rfl⟩
                          rw [← eT3147] at hW3140 hI3143
                          obtain ⟨lo3154, elo3148⟩ : ∃ q, q = va_up lo3062 y2567 (lo3062 p) := ⟨_, rfl⟩
                          rw [← elo3148] at hI3143
                          obtain ⟨hi3155, ehi3149⟩ : ∃ q, q = va_up hi3063 p (ps y2567) := ⟨_, rfl⟩
                          rw [← ehi3149] at hI3143
                          have k3156 : lf3152 y2567 = (some p) := by rw [eA3144]; exact xL_r
                          have k3157 : pa3151 p = (some y2567) := by rw [eP3146]; exact xP_p
                          have k3158 : rg3150 y2567 = (some y2534) := by rw [eB3145, xR_o (Ne.symm nx3025) (so_ne k3064 nx2563)]; exact k3064
                          have k3159 : pa3151 y2534 = (some y2567) := by rw [eP3146, xP_o nx2563 (Ne.symm nx2732) (hI3051.rl hm2730 k3064)]; exact k3065
                          have k3160 : lf3152 x = none := by rw [eA3144, xL_o nx3070 (sn_ne k3069)]; exact k3069
                          have k3161 : rg3150 x = none := by rw [eB3145, xR_o nx2522 (sn_ne k3071)]; exact k3071
                          have k3162 : pa3151 x1 = (some p) := by rw [eP3146, xP_o nx1694 nx3027 (fun z => nx3025 (Option.some.inj (k3072.symm.trans (hI3051.ml hm2730 z).2.1)))]; exact k3072
                          have k3163 : lf3152 p = (some x1) := by rw [eA3144, xL_o nx3025 (so_ne k3073 nx1694)]; exact k3073
                          have g3164 : lo3154 x1 ≤ ps x := by rw [elo3148, zvn nx3027]; exact g3077
                          have g3165 : ps x < hi3155 x1 := by rw [ehi3149, zvn nx1694]; exact g3078
                          refine z_aload_n C 1 rfl dJ4_fixAfterDeletion_178 rfl ?_
                          refine z_get C k_TM hW3140.1 3 (by decide) rfl q162 dJ4_fixAfterDeletion_179 ?_
                          refine z_astore_nQ C (r := rt3153) [(1, va_rf rt3153), (2, .ref y2567), (0, .ref t)] dJ4_fixAfterDeletion_182 rfl (by decide) rfl ?_
                          refine z_goto C 0 dJ4_fixAfterDeletion_183 (by decide) ?_
                          refine z_pick [(0, .ref t), (1, va_rf rt3153)] [2, 0] rfl ?_
                          obtain ⟨r03166, hr3167⟩ := hI3143.rtm hlp_3
                          obtain ⟨hm3168, hp3169, -, -⟩ := hI3143.2.1.1 r03166 hr3167
                          have e3170 : (va_rf rt3153 : Value) = .ref r03166 := (congrArg va_rf hr3167)
                          refine z_lv (lv' := [(0, .ref t), (1, .ref r03166)]) (by rw [e3170]) ?_
                          exact hexit V3138 rt3153 lf3152 rg3150 pa3151 cl3129 lo3154 hi3155 r03166 hW3140 hI3143 hU3142 hm3168 hr3167 k3160 k3161
                    · skip
                      have k3171 : (cl2492 y2567) = true := zb1 c79
                      refine z_aload_n C 0 rfl dJ4_fixAfterDeletion_82 rfl ?_
                      refine z_callS C (As := [.ref y2534]) (mJ4_rightOf (o := (some y2534)) hW2502 (oM hm2561)) (lw_S q712 q713 q64 q714) hd_J4_rightOf rfl (Nat.le_of_ble_eq_true rfl) (by decide) (by decide) (by decide) (by decide) rfl dJ4_fixAfterDeletion_83 (fun _ _ h => h.elim) (fun r3172 V3173 hP3174 => ?_)
                      rw [hP3174.1, hP3174.2]
                      refine z_st (st' := [va_rf (rg2512 y2534)]) rfl ?_
                      rcases hy3176 : rg2512 y2534 with _ | y3175
                      · skip
                        refine z_callS C (As := [.null]) (mJ4_colorOf (o := none) hW2502 oN) (lw_S q703 q704 q64 q705) hd_J4_colorOf rfl (Nat.le_of_ble_eq_true rfl) (by decide) (by decide) (by decide) (by decide) rfl dJ4_fixAfterDeletion_86 (fun _ _ h => h.elim) (fun r3177 V3178 hP3179 => ?_)
                        rw [hP3179.1, hP3179.2]
                        refine z_st (st' := [.int (zb true)]) rfl ?_
                        refine z_iconst C (v := (nI 1)) dJ4_fixAfterDeletion_89 rfl ?_
                        refine z_icmp_ne C 106 dJ4_fixAfterDeletion_90 (by decide) (fun c90 => ?_) (fun c90 => ?_)
                        · skip
                          have k3180 : true = false := zb1f c90
                          cases k3180
                        · skip
                          have k3181 : true = true := zb1 c90
                          refine z_aload_n C 0 rfl dJ4_fixAfterDeletion_93 rfl ?_
                          refine z_iconst C (v := (nI 0)) dJ4_fixAfterDeletion_94 rfl ?_
                          refine z_st (st' := [.int (zb false), .ref y2534]) rfl ?_
                          refine z_callS C (As := [.ref y2534, .int (zb false)]) (mJ4_setColor (o := (some y2534)) (c := false) hW2502 (oM hm2561)) (lw_S q715 q716 q64 q717) hd_J4_setColor rfl (Nat.le_of_ble_eq_true rfl) (by decide) (by decide) (by decide) (by decide) rfl dJ4_fixAfterDeletion_95 (fun _ _ h => h.elim) (fun r3182 V3183 hP3184 => ?_)
                          obtain ⟨hW3185, hU3186⟩ := hP3184
                          refine z_st (st' := []) rfl ?_
                          have hU3187 := zUnc.tr (S := tC t L) hU2504 hU3186 (fun _ h => Or.inl h)
                          change tW _ _ _ _ _ _ _ (va_up cl2492 y2534 false) _ _ _ _ at hW3185
                          obtain ⟨cl3189, ec3188⟩ : ∃ q, q = va_up cl2492 y2534 false := ⟨_, rfl⟩
                          rw [← ec3188] at hW3185
                          have k3190 : cl3189 y2534 = false := by rw [ec3188, zvs]
                          have k3191 : cl3189 p = false := by rw [ec3188, zvn (Ne.symm nx2563)]; exact k2493
                          have nx3192 : y1701 ≠ y2534 := (Ne.symm (tI.gg hI2505 hm2561 hp2562 hm21 k2519))
                          have k3193 : cl3189 y1701 = true := by rw [ec3188, zvn nx3192]; exact k2494
                          have nx3194 : x1 ≠ y2534 := (tI.sib hI2505 hm21 k2525 hy2535)
                          have k3195 : cl3189 x1 = true := by rw [ec3188, zvn nx3194]; exact k2495
                          have k3196 : cl3189 y2567 = true := by rw [ec3188, zvn nx2732]; exact k3171
                          refine z_aload_n C 2 rfl dJ4_fixAfterDeletion_98 rfl ?_
                          refine z_callS C (As := [.ref x1]) (mJ4_parentOf (o := (some x1)) hW3185 (oM hlp_3)) (lw_S q706 q707 q64 q708) hd_J4_parentOf rfl (Nat.le_of_ble_eq_true rfl) (by decide) (by decide) (by decide) (by decide) rfl dJ4_fixAfterDeletion_99 (fun _ _ h => h.elim) (fun r3197 V3198 hP3199 => ?_)
                          rw [hP3199.1, hP3199.2]
                          refine z_st (st' := [va_rf (pa2513 x1)]) rfl ?_
                          refine z_top (v := .ref p) (congrArg va_rf (show (pa2513 x1) = (some p) from (by rw [k2524]))) ?_
                          refine z_astore_n C [(1, .ref p), (2, .ref y2534), (0, .ref t)] dJ4_fixAfterDeletion_102 rfl (by decide) rfl ?_
                          refine z_goto C 183 dJ4_fixAfterDeletion_103 (by decide) ?_
                          refine z_goto C 0 dJ4_fixAfterDeletion_183 (by decide) ?_
                          refine z_pick [(0, .ref t), (1, .ref p)] [2, 0] rfl ?_
                          have q1 := (hI2505.mp hlp_3 k2524).2
                          have qa := congrFun elo2510 x1
                          rw [zvn nx2480] at qa
                          have qb := congrFun ehi2511 x1
                          rw [zvn nx1694] at qb
                          exact ih_lp V3183 rt2515 lf2514 rg2512 pa2513 cl3189 lo2516 hi2517 p hW3185 hI2505 hU3187 hm21 k2521 k2523 (Nat.le_trans (hI2505.le hlp_3 k2524).1 g2526) (Nat.lt_of_lt_of_le g2527 (hI2505.le hlp_3 k2524).2) (by omega)
                      · skip
                        obtain ⟨hm3200, hp3201, nx3202⟩ := hI2505.mr hm2561 hy3176
                        refine z_callS C (As := [.ref y3175]) (mJ4_colorOf (o := (some y3175)) hW2502 (oM hm3200)) (lw_S q703 q704 q64 q705) hd_J4_colorOf rfl (Nat.le_of_ble_eq_true rfl) (by decide) (by decide) (by decide) (by decide) rfl dJ4_fixAfterDeletion_86 (fun _ _ h => h.elim) (fun r3203 V3204 hP3205 => ?_)
                        rw [hP3205.1, hP3205.2]
                        refine z_st (st' := [.int (zb (cl2492 y3175))]) rfl ?_
                        refine z_iconst C (v := (nI 1)) dJ4_fixAfterDeletion_89 rfl ?_
                        refine z_icmp_ne C 106 dJ4_fixAfterDeletion_90 (by decide) (fun c90 => ?_) (fun c90 => ?_)
                        · skip
                          have k3206 : (cl2492 y3175) = false := zb1f c90
                          refine z_aload_n C 0 rfl dJ4_fixAfterDeletion_106 rfl ?_
                          refine z_callS C (As := [.ref y2534]) (mJ4_rightOf (o := (some y2534)) hW2502 (oM hm2561)) (lw_S q712 q713 q64 q714) hd_J4_rightOf rfl (Nat.le_of_ble_eq_true rfl) (by decide) (by decide) (by decide) (by decide) rfl dJ4_fixAfterDeletion_107 (fun _ _ h => h.elim) (fun r3207 V3208 hP3209 => ?_)
                          rw [hP3209.1, hP3209.2]
                          refine z_st (st' := [va_rf (rg2512 y2534)]) rfl ?_
                          refine z_top (v := .ref y3175) (congrArg va_rf (show (rg2512 y2534) = (some y3175) from (by rw [hy3176]))) ?_
                          refine z_callS C (As := [.ref y3175]) (mJ4_colorOf (o := (some y3175)) hW2502 (oM hm3200)) (lw_S q703 q704 q64 q705) hd_J4_colorOf rfl (Nat.le_of_ble_eq_true rfl) (by decide) (by decide) (by decide) (by decide) rfl dJ4_fixAfterDeletion_110 (fun _ _ h => h.elim) (fun r3210 V3211 hP3212 => ?_)
                          rw [hP3212.1, hP3212.2]
                          refine z_st (st' := [.int (zb (cl2492 y3175))]) rfl ?_
                          refine z_top (v := .int (zb false)) (congrArg (fun c => Value.int (zb c)) (show (cl2492 y3175) = false from (by rw [k3206]))) ?_
                          refine z_iconst C (v := (nI 1)) dJ4_fixAfterDeletion_113 rfl ?_
                          refine z_icmp_ne C 143 dJ4_fixAfterDeletion_114 (by decide) (fun c114 => ?_) (fun c114 => ?_)
                          · skip
                            have k3213 : false = false := zb1f c114
                            refine z_aload_n C 0 rfl dJ4_fixAfterDeletion_143 rfl ?_
                            refine z_aload_n C 2 rfl dJ4_fixAfterDeletion_144 rfl ?_
                            refine z_callS C (As := [.ref x1]) (mJ4_parentOf (o := (some x1)) hW2502 (oM hlp_3)) (lw_S q706 q707 q64 q708) hd_J4_parentOf rfl (Nat.le_of_ble_eq_true rfl) (by decide) (by decide) (by decide) (by decide) rfl dJ4_fixAfterDeletion_145 (fun _ _ h => h.elim) (fun r3214 V3215 hP3216 => ?_)
                            rw [hP3216.1, hP3216.2]
                            refine z_st (st' := [va_rf (pa2513 x1), .ref y2534]) rfl ?_
                            refine z_top (v := .ref p) (congrArg va_rf (show (pa2513 x1) = (some p) from (by rw [k2524]))) ?_
                            refine z_callS C (As := [.ref p]) (mJ4_colorOf (o := (some p)) hW2502 (oM hm21)) (lw_S q703 q704 q64 q705) hd_J4_colorOf rfl (Nat.le_of_ble_eq_true rfl) (by decide) (by decide) (by decide) (by decide) rfl dJ4_fixAfterDeletion_148 (fun _ _ h => h.elim) (fun r3217 V3218 hP3219 => ?_)
                            rw [hP3219.1, hP3219.2]
                            refine z_st (st' := [.int (zb (cl2492 p)), .ref y2534]) rfl ?_
                            refine z_top (v := .int (zb false)) (congrArg (fun c => Value.int (zb c)) (show (cl2492 p) = false from (by rw [k2493]))) ?_
                            refine z_callS C (As := [.ref y2534, .int (zb false)]) (mJ4_setColor (o := (some y2534)) (c := false) hW2502 (oM hm2561)) (lw_S q715 q716 q64 q717) hd_J4_setColor rfl (Nat.le_of_ble_eq_true rfl) (by decide) (by decide) (by decide) (by decide) rfl dJ4_fixAfterDeletion_151 (fun _ _ h => h.elim) (fun r3220 V3221 hP3222 => ?_)
                            obtain ⟨hW3223, hU3224⟩ := hP3222
                            refine z_st (st' := []) rfl ?_
                            have hU3225 := zUnc.tr (S := tC t L) hU2504 hU3224 (fun _ h => Or.inl h)
                            change tW _ _ _ _ _ _ _ (va_up cl2492 y2534 false) _ _ _ _ at hW3223
                            obtain ⟨cl3227, ec3226⟩ : ∃ q, q = va_up cl2492 y2534 false := ⟨_, rfl⟩
                            rw [← ec3226] at hW3223
                            have k3228 : cl3227 y2534 = false := by rw [ec3226, zvs]
                            have k3229 : cl3227 p = false := by rw [ec3226, zvn (Ne.symm nx2563)]; exact k2493
                            have nx3230 : y1701 ≠ y2534 := (Ne.symm (tI.gg hI2505 hm2561 hp2562 hm21 k2519))
                            have k3231 : cl3227 y1701 = true := by rw [ec3226, zvn nx3230]; exact k2494
                            have nx3232 : x1 ≠ y2534 := (tI.sib hI2505 hm21 k2525 hy2535)
                            have k3233 : cl3227 x1 = true := by rw [ec3226, zvn nx3232]; exact k2495
                            have k3234 : cl3227 y2567 = true := by rw [ec3226, zvn nx2732]; exact k3171
                            have k3235 : cl3227 y3175 = false := by rw [ec3226, zvn nx3202]; exact k3206
                            refine z_aload_n C 2 rfl dJ4_fixAfterDeletion_154 rfl ?_
                            refine z_callS C (As := [.ref x1]) (mJ4_parentOf (o := (some x1)) hW3223 (oM hlp_3)) (lw_S q706 q707 q64 q708) hd_J4_parentOf rfl (Nat.le_of_ble_eq_true rfl) (by decide) (by decide) (by decide) (by decide) rfl dJ4_fixAfterDeletion_155 (fun _ _ h => h.elim) (fun r3236 V3237 hP3238 => ?_)
                            rw [hP3238.1, hP3238.2]
                            refine z_st (st' := [va_rf (pa2513 x1)]) rfl ?_
                            refine z_top (v := .ref p) (congrArg va_rf (show (pa2513 x1) = (some p) from (by rw [k2524]))) ?_
                            refine z_iconst C (v := (nI 1)) dJ4_fixAfterDeletion_158 rfl ?_
                            refine z_st (st' := [.int (zb true), .ref p]) rfl ?_
                            refine z_callS C (As := [.ref p, .int (zb true)]) (mJ4_setColor (o := (some p)) (c := true) hW3223 (oM hm21)) (lw_S q715 q716 q64 q717) hd_J4_setColor rfl (Nat.le_of_ble_eq_true rfl) (by decide) (by decide) (by decide) (by decide) rfl dJ4_fixAfterDeletion_159 (fun _ _ h => h.elim) (fun r3239 V3240 hP3241 => ?_)
                            obtain ⟨hW3242, hU3243⟩ := hP3241
                            refine z_st (st' := []) rfl ?_
                            have hU3244 := zUnc.tr (S := tC t L) hU3225 hU3243 (fun _ h => Or.inl h)
                            change tW _ _ _ _ _ _ _ (va_up cl3227 p true) _ _ _ _ at hW3242
                            obtain ⟨cl3246, ec3245⟩ : ∃ q, q = va_up cl3227 p true := ⟨_, rfl⟩
                            rw [← ec3245] at hW3242
                            have k3247 : cl3246 p = true := by rw [ec3245, zvs]
                            have k3248 : cl3246 y2534 = false := by rw [ec3245, zvn nx2563]; exact k3228
                            have k3249 : cl3246 y1701 = true := by rw [ec3245, zvn nx1735]; exact k3231
                            have k3250 : cl3246 x1 = true := by rw [ec3245, zvn nx1694]; exact k3233
                            have nx3251 : y2567 ≠ p := (tI.gg hI2505 hm2730 hp2731 hm2561 hp2562)
                            have k3252 : cl3246 y2567 = true := by rw [ec3245, zvn nx3251]; exact k3234
                            have nx3253 : y3175 ≠ p := (tI.gg hI2505 hm3200 hp3201 hm2561 hp2562)
                            have k3254 : cl3246 y3175 = false := by rw [ec3245, zvn nx3253]; exact k3235
                            refine z_aload_n C 0 rfl dJ4_fixAfterDeletion_162 rfl ?_
                            refine z_callS C (As := [.ref y2534]) (mJ4_rightOf (o := (some y2534)) hW3242 (oM hm2561)) (lw_S q712 q713 q64 q714) hd_J4_rightOf rfl (Nat.le_of_ble_eq_true rfl) (by decide) (by decide) (by decide) (by decide) rfl dJ4_fixAfterDeletion_163 (fun _ _ h => h.elim) (fun r3255 V3256 hP3257 => ?_)
                            rw [hP3257.1, hP3257.2]
                            refine z_st (st' := [va_rf (rg2512 y2534)]) rfl ?_
                            refine z_top (v := .ref y3175) (congrArg va_rf (show (rg2512 y2534) = (some y3175) from (by rw [hy3176]))) ?_
                            refine z_iconst C (v := (nI 1)) dJ4_fixAfterDeletion_166 rfl ?_
                            refine z_st (st' := [.int (zb true), .ref y3175]) rfl ?_
                            refine z_callS C (As := [.ref y3175, .int (zb true)]) (mJ4_setColor (o := (some y3175)) (c := true) hW3242 (oM hm3200)) (lw_S q715 q716 q64 q717) hd_J4_setColor rfl (Nat.le_of_ble_eq_true rfl) (by decide) (by decide) (by decide) (by decide) rfl dJ4_fixAfterDeletion_167 (fun _ _ h => h.elim) (fun r3258 V3259 hP3260 => ?_)
                            obtain ⟨hW3261, hU3262⟩ := hP3260
                            refine z_st (st' := []) rfl ?_
                            have hU3263 := zUnc.tr (S := tC t L) hU3244 hU3262 (fun _ h => Or.inl h)
                            change tW _ _ _ _ _ _ _ (va_up cl3246 y3175 true) _ _ _ _ at hW3261
                            obtain ⟨cl3265, ec3264⟩ : ∃ q, q = va_up cl3246 y3175 true := ⟨_, rfl⟩
                            rw [← ec3264] at hW3261
                            have k3266 : cl3265 y3175 = true := by rw [ec3264, zvs]
                            have k3267 : cl3265 p = true := by rw [ec3264, zvn (Ne.symm nx3253)]; exact k3247
                            have k3268 : cl3265 y2534 = false := by rw [ec3264, zvn (Ne.symm nx3202)]; exact k3248
                            have nx3269 : x1 ≠ y3175 := (ne_pa k2524 hp3201 (Ne.symm nx2563))
                            have k3270 : cl3265 x1 = true := by rw [ec3264, zvn nx3269]; exact k3250
                            have nx3271 : y2567 ≠ y3175 := (tI.sib hI2505 hm2561 hy2568 hy3176)
                            have k3272 : cl3265 y2567 = true := by rw [ec3264, zvn nx3271]; exact k3252
                            refine z_aload_n C 1 rfl dJ4_fixAfterDeletion_170 rfl ?_
                            refine z_aload_n C 2 rfl dJ4_fixAfterDeletion_171 rfl ?_
                            refine z_callS C (As := [.ref x1]) (mJ4_parentOf (o := (some x1)) hW3261 (oM hlp_3)) (lw_S q706 q707 q64 q708) hd_J4_parentOf rfl (Nat.le_of_ble_eq_true rfl) (by decide) (by decide) (by decide) (by decide) rfl dJ4_fixAfterDeletion_172 (fun _ _ h => h.elim) (fun r3273 V3274 hP3275 => ?_)
                            rw [hP3275.1, hP3275.2]
                            refine z_st (st' := [va_rf (pa2513 x1), .ref t]) rfl ?_
                            refine z_top (v := .ref p) (congrArg va_rf (show (pa2513 x1) = (some p) from (by rw [k2524]))) ?_
                            refine z_callV C k_TM hW3261.1 (As := [.ref p]) (mJ4_rotateLeft hW3261 hI2505 hm21 hy2535) (lw_V q718 q720 qs8 q64 q721) rfl hd_J4_rotateLeft rfl (Nat.le_of_ble_eq_true rfl) (by decide) (by decide) (by decide) (by decide) rfl dJ4_fixAfterDeletion_175 (fun _ _ h => h.elim) (fun r3276 V3277 hP3278 => ?_)
                            obtain ⟨hW3279, hU3280⟩ := hP3278
                            refine z_st (st' := []) rfl ?_
                            have hU3281 := zUnc.tr (S := tC t L) hU3263 hU3280 (fun _ h => Or.inl h)
                            have hI3282 := tI_rotL hI2505 hm21 hy2535
                            obtain ⟨rg3289, eB3284⟩ : ∃ q, q = xR lf2514 rg2512 p y2534 := ⟨_, rfl⟩
                            rw [← eB3284] at hW3279 hI3282
                            obtain ⟨pa3290, eP3285⟩ : ∃ q, q = xP lf2514 pa2513 p y2534 := ⟨_, rfl⟩
                            rw [← eP3285] at hW3279 hI3282
                            obtain ⟨lf3291, eA3283⟩ : ∃ q, q = xL lf2514 p y2534 := ⟨_, rfl⟩
                            rw [← eA3283] at hW3279 hI3282
                            obtain ⟨rt3292, eT3286⟩ : ∃ q, q = xT rt2515 p y2534 := ⟨_, rfl⟩
                            rw [← eT3286] at hW3279 hI3282
                            obtain ⟨lo3293, elo3287⟩ : ∃ q, q = va_up lo2516 y2534 (lo2516 p) := ⟨_, rfl⟩
                            rw [← elo3287] at hI3282
                            obtain ⟨hi3294, ehi3288⟩ : ∃ q, q = va_up hi2517 p (ps y2534) := ⟨_, rfl⟩
                            rw [← ehi3288] at hI3282
                            have k3295 : lf3291 y2534 = (some p) := by rw [eA3283]; exact xL_r
                            have k3296 : pa3290 p = (some y2534) := by rw [eP3285]; exact xP_p
                            have k3297 : rg3289 p = (some y2567) := by rw [eB3284, xR_p]; exact hy2568
                            have k3298 : pa3290 y2534 = (some y1701) := by rw [eP3285, xP_r nx2563]; exact k2519
                            have k3299 : lf3291 y1701 = (some y2534) := by rw [eA3283]; exact xL_u nx3230 k2518
                            have nx3300 : x ≠ y2534 := (fn_ne k2521 hy2568)
                            have k3301 : lf3291 x = none := by rw [eA3283, xL_o nx3300 (sn_ne k2521)]; exact k2521
                            have k3302 : rg3289 x = none := by rw [eB3284, xR_o nx2522 (sn_ne k2523)]; exact k2523
                            have nx3303 : y2567 ≠ x1 := (ne_pa hp2731 k2524 nx2563)
                            have k3304 : pa3290 x1 = (some p) := by rw [eP3285, xP_o nx1694 nx3232 (so_ne hy2568 nx3303)]; exact k2524
                            have k3305 : lf3291 p = (some x1) := by rw [eA3283, xL_o (Ne.symm nx2563) (so_ne k2525 nx1694)]; exact k2525
                            have k3306 : pa3290 y2567 = (some p) := by rw [eP3285]; exact xP_c nx3251 nx2732 hy2568
                            have k3307 : rg3289 y2534 = (some y3175) := by rw [eB3284, xR_o nx2563 (so_ne hy3176 nx3253)]; exact hy3176
                            have k3308 : pa3290 y3175 = (some y2534) := by rw [eP3285, xP_o nx3253 nx3202 (so_ne hy2568 nx3271)]; exact hp3201
                            have g3309 : lo3293 x1 ≤ ps x := by rw [elo3287, zvn nx3232]; exact g2526
                            have g3310 : ps x < hi3294 x1 := by rw [ehi3288, zvn nx1694]; exact g2527
                            refine z_aload_n C 1 rfl dJ4_fixAfterDeletion_178 rfl ?_
                            refine z_get C k_TM hW3279.1 3 (by decide) rfl q162 dJ4_fixAfterDeletion_179 ?_
                            refine z_astore_nQ C (r := rt3292) [(1, va_rf rt3292), (2, .ref y2534), (0, .ref t)] dJ4_fixAfterDeletion_182 rfl (by decide) rfl ?_
                            refine z_goto C 0 dJ4_fixAfterDeletion_183 (by decide) ?_
                            refine z_pick [(0, .ref t), (1, va_rf rt3292)] [2, 0] rfl ?_
                            obtain ⟨r03311, hr3312⟩ := hI3282.rtm hlp_3
                            obtain ⟨hm3313, hp3314, -, -⟩ := hI3282.2.1.1 r03311 hr3312
                            have e3315 : (va_rf rt3292 : Value) = .ref r03311 := (congrArg va_rf hr3312)
                            refine z_lv (lv' := [(0, .ref t), (1, .ref r03311)]) (by rw [e3315]) ?_
                            exact hexit V3277 rt3292 lf3291 rg3289 pa3290 cl3265 lo3293 hi3294 r03311 hW3279 hI3282 hU3281 hm3313 hr3312 k3301 k3302
                          · skip
                            have k3316 : false = true := zb1 c114
                            cases k3316
                        · skip
                          have k3317 : (cl2492 y3175) = true := zb1 c90
                          refine z_aload_n C 0 rfl dJ4_fixAfterDeletion_93 rfl ?_
                          refine z_iconst C (v := (nI 0)) dJ4_fixAfterDeletion_94 rfl ?_
                          refine z_st (st' := [.int (zb false), .ref y2534]) rfl ?_
                          refine z_callS C (As := [.ref y2534, .int (zb false)]) (mJ4_setColor (o := (some y2534)) (c := false) hW2502 (oM hm2561)) (lw_S q715 q716 q64 q717) hd_J4_setColor rfl (Nat.le_of_ble_eq_true rfl) (by decide) (by decide) (by decide) (by decide) rfl dJ4_fixAfterDeletion_95 (fun _ _ h => h.elim) (fun r3318 V3319 hP3320 => ?_)
                          obtain ⟨hW3321, hU3322⟩ := hP3320
                          refine z_st (st' := []) rfl ?_
                          have hU3323 := zUnc.tr (S := tC t L) hU2504 hU3322 (fun _ h => Or.inl h)
                          change tW _ _ _ _ _ _ _ (va_up cl2492 y2534 false) _ _ _ _ at hW3321
                          obtain ⟨cl3325, ec3324⟩ : ∃ q, q = va_up cl2492 y2534 false := ⟨_, rfl⟩
                          rw [← ec3324] at hW3321
                          have k3326 : cl3325 y2534 = false := by rw [ec3324, zvs]
                          have k3327 : cl3325 p = false := by rw [ec3324, zvn (Ne.symm nx2563)]; exact k2493
                          have nx3328 : y1701 ≠ y2534 := (Ne.symm (tI.gg hI2505 hm2561 hp2562 hm21 k2519))
                          have k3329 : cl3325 y1701 = true := by rw [ec3324, zvn nx3328]; exact k2494
                          have nx3330 : x1 ≠ y2534 := (tI.sib hI2505 hm21 k2525 hy2535)
                          have k3331 : cl3325 x1 = true := by rw [ec3324, zvn nx3330]; exact k2495
                          have k3332 : cl3325 y2567 = true := by rw [ec3324, zvn nx2732]; exact k3171
                          have k3333 : cl3325 y3175 = true := by rw [ec3324, zvn nx3202]; exact k3317
                          refine z_aload_n C 2 rfl dJ4_fixAfterDeletion_98 rfl ?_
                          refine z_callS C (As := [.ref x1]) (mJ4_parentOf (o := (some x1)) hW3321 (oM hlp_3)) (lw_S q706 q707 q64 q708) hd_J4_parentOf rfl (Nat.le_of_ble_eq_true rfl) (by decide) (by decide) (by decide) (by decide) rfl dJ4_fixAfterDeletion_99 (fun _ _ h => h.elim) (fun r3334 V3335 hP3336 => ?_)
                          rw [hP3336.1, hP3336.2]
                          refine z_st (st' := [va_rf (pa2513 x1)]) rfl ?_
                          refine z_top (v := .ref p) (congrArg va_rf (show (pa2513 x1) = (some p) from (by rw [k2524]))) ?_
                          refine z_astore_n C [(1, .ref p), (2, .ref y2534), (0, .ref t)] dJ4_fixAfterDeletion_102 rfl (by decide) rfl ?_
                          refine z_goto C 183 dJ4_fixAfterDeletion_103 (by decide) ?_
                          refine z_goto C 0 dJ4_fixAfterDeletion_183 (by decide) ?_
                          refine z_pick [(0, .ref t), (1, .ref p)] [2, 0] rfl ?_
                          have q1 := (hI2505.mp hlp_3 k2524).2
                          have qa := congrFun elo2510 x1
                          rw [zvn nx2480] at qa
                          have qb := congrFun ehi2511 x1
                          rw [zvn nx1694] at qb
                          exact ih_lp V3319 rt2515 lf2514 rg2512 pa2513 cl3325 lo2516 hi2517 p hW3321 hI2505 hU3323 hm21 k2521 k2523 (Nat.le_trans (hI2505.le hlp_3 k2524).1 g2526) (Nat.lt_of_lt_of_le g2527 (hI2505.le hlp_3 k2524).2) (by omega)
  exact lp _ V rt lf rg pa cl lo hi x hW hI hU0 hx hl hr (hI.m hx).2.1 (hI.m hx).2.2.1 (Nat.lt_succ_self _)
