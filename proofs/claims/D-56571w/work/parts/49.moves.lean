/-! COMPONENT: holds, moves -/
set_option maxRecDepth 100000
theorem i_le {v : Int32} {n : Nat} (hn : n < 2147483648) (h : ¬ v ≤ nI n) : n < vN v := by
  rw [Int32.le_iff_toInt_le] at h
  unfold nI at h; rw [Int32.toInt_ofNat_of_lt hn] at h
  unfold vN
  rw [if_pos (by omega)]; omega
theorem i_le_t {v : Int32} {n : Nat} (hn : n < 2147483648) (h : v ≤ nI n) : ¬(n + 1 ≤ vN v ∧ vN v ≤ 2147483647) := by
  rw [Int32.le_iff_toInt_le] at h
  unfold nI at h; rw [Int32.toInt_ofNat_of_lt hn] at h
  unfold vN
  by_cases c : 0 ≤ v.toInt
  · rw [if_pos c]; omega
  · rw [if_neg c]; omega
theorem i_gt {v : Int32} {n : Nat} (hn : n < 2147483648) (h : nI n < v) : n < vN v := by
  rw [Int32.lt_iff_toInt_lt] at h
  unfold nI at h; rw [Int32.toInt_ofNat_of_lt hn] at h
  unfold vN
  rw [if_pos (by omega)]; omega
theorem i_gt_f {v : Int32} {n m : Nat} (hn : n < 2147483648) (h : ¬ nI n < v) (h0 : ¬ v ≤ nI m) (hm : m < 2147483648) : vN v ≤ n := by
  rw [Int32.lt_iff_toInt_lt] at h
  rw [Int32.le_iff_toInt_le] at h0
  unfold nI at h h0; rw [Int32.toInt_ofNat_of_lt hn] at h; rw [Int32.toInt_ofNat_of_lt hm] at h0
  unfold vN
  rw [if_pos (by omega)]; omega
theorem last_at {l : List Nat} {b n : Nat} (h : l.getLast? = some b) (hn : l.length = n + 1) : l[n]? = some b := by
  rw [List.getLast?_eq_getElem?, hn] at h; exact h
theorem last_n {l : List Nat} {b : Nat} (h : l.getLast? = some b) : ∃ n, l.length = n + 1 := by
  cases l with
  | nil => cases h
  | cons a t => exact ⟨t.length, rfl⟩
theorem yWhy_yes {rch wt : Nat → Nat} {pin : Nat → Bool} {Y : YD} {t b s : Nat} (hl : (Y s).length ≤ rch s) (hr : rch s ≤ 4) (h : yWhy rch wt pin Y t b s = nI 45) : yCan rch wt pin Y t b s = true := by
  unfold yWhy at h
  by_cases h1 : (Y t).getLast? = some b
  · rw [if_neg (fun q => q h1)] at h
    by_cases h2 : pin b = true
    · rw [if_pos h2] at h; exact absurd h (by decide)
    · rw [if_neg h2] at h
      by_cases h3 : t = s
      · rw [if_pos h3] at h; exact absurd h (by decide)
      · rw [if_neg h3] at h
        by_cases h4 : (Y s).length = rch s
        · rw [if_pos h4] at h; exact absurd h (by decide)
        · rw [if_neg h4] at h
          by_cases h5 : yTk wt Y s (rch s) (wt b) = true
          · unfold yCan
            rw [decide_eq_true h1, h5, decide_eq_true h3, show pin b = false by cases e : pin b with | true => exact absurd e h2 | false => rfl]
            rfl
          · rw [if_neg h5] at h; exact absurd h (by decide)
  · rw [if_pos h1] at h; exact absurd h (by decide)
theorem yWhy_no {rch wt : Nat → Nat} {pin : Nat → Bool} {Y : YD} {t b s : Nat} (h : ¬ yWhy rch wt pin Y t b s = nI 45) : yCan rch wt pin Y t b s = false := by
  cases e : yCan rch wt pin Y t b s with
  | false => rfl
  | true =>
    exfalso; apply h
    obtain ⟨c1, c2, c3, c4⟩ := yCan_spec e
    have c5 : yTk wt Y s (rch s) (wt b) = true := by
      unfold yCan at e
      simp only [Bool.and_eq_true] at e
      exact e.2.2.2
    unfold yWhy
    rw [if_neg (fun q => q c1), if_neg (by rw [c2]; decide), if_neg c3, if_neg (by omega), if_pos c5]
theorem oMove_1 {S : QS} {b s : Nat} (h : ¬(qIs S b = true ∧ s < qst S)) : oMove S b s = (1, 0, S) := by unfold oMove; rw [if_pos h]
theorem oMove_2 {S : QS} {b s : Nat} (h1 : qIs S b = true) (h2 : s < qst S) (h : yCan (qrch S) (qwt S) (pin' (qhld S)) (qY S) (yPl (qY S) b) b s = false) : oMove S b s = (2, 0, S) := by unfold oMove; rw [if_neg (fun q => q ⟨h1, h2⟩), if_pos h]
theorem oMove_0 {S : QS} {b s : Nat} (h1 : qIs S b = true) (h2 : s < qst S) (h : yCan (qrch S) (qwt S) (pin' (qhld S)) (qY S) (yPl (qY S) b) b s = true) : oMove S b s = (0, qmv S + nI 1, sMv (sYd S (yMv (qY S) (yPl (qY S) b) s b)) (qmv S + nI 1)) := by unfold oMove; rw [if_neg (fun q => q ⟨h1, h2⟩), if_neg (by rw [h]; decide)]

set_option maxHeartbeats 4000000 in
set_option maxRecDepth 100000 in
theorem mX1_hold {l : Launch} {D : ZD} {V : ZV} {x kk : Nat} {st : Nat} {rch : Nat → Nat} {bx : Nat} {wt : Nat → Nat} {ins : Nat → Bool} {hld : Nat → Int32} {unt : Nat → Nat} {Y : YD} {ap : Nat} {ab hr ln : Nat → Nat} {sa : Nat → Int32} {mv : Int32} {nw : Nat} {lf : Int64} (hC : cR D V x (qS st rch bx wt ins hld unt Y ap ab hr ln sa mv nw lf)) (hI : qI kk (qS st rch bx wt ins hld unt Y ap ab hr ln sa mv nw lf)) {v1 v2 v3 : Int32} : ZM l D yX1_hold (ws_ yX1_hold cX1_hold 6 (some .int)) 8 3 16 eI V [.ref x, .int v1, .int v2, .int v3] (fun r V' => (oHold (qS st rch bx wt ins hld unt Y ap ab hr ln sa mv nw lf) (vN v1) v2 (vN v3)).1 = 0 ∧ r = (oHold (qS st rch bx wt ins hld unt Y ap ab hr ln sa mv nw lf) (vN v1) v2 (vN v3)).2.1 ∧ cR D V' x (oHold (qS st rch bx wt ins hld unt Y ap ab hr ln sa mv nw lf) (vN v1) v2 (vN v3)).2.2) (fun E V' => ∃ k, (["java/lang/IndexOutOfBoundsException", "java/lang/IllegalArgumentException"] : List String)[k]? = some E ∧ (oHold (qS st rch bx wt ins hld unt Y ap ab hr ln sa mv nw lf) (vN v1) v2 (vN v3)).1 = k + 1 ∧ cR D V' x (qS st rch bx wt ins hld unt Y ap ab hr ln sa mv nw lf)) := by
  refine z_enter (by decide +kernel) [(0, .ref x), (1, .int v1), (2, .int v2), (3, .int v3)] rfl (Nat.le_of_ble_eq_true rfl) (zcat_cons rfl (zcat_cons rfl (zcat_cons rfl (zcat_cons rfl zcat_nil)))) (fun Γ C hQ => ?_)
  have hC0 := hC
  obtain ⟨y, yb, yh, rr, bb, al, t, d, cap, fb, fh, fr, fB, ba, hc, uc, fa, ma, aa, sl, Lb, Ct, mb, kc, hX, hY, hB, hA, hT⟩ := hC
  have hX : V x = some (.inr (0, [.ref y, .ref rr, .ref bb, .ref al, .ref t, .int (nI st), .int (nI bx), .int (nI (fC ins bx)), .int mv, .int (nI nw), .long lf])) := hX
  have hY : cY D V y yb yh rr fb fh fr ba bx st rch Y := hY
  have hB : cB D V bb fB ba bx wt ins hld unt hc uc := hB
  have hA : cA D V al d cap fa ma ba ap ab hr ln sa aa sl := hA
  have hT : cT V t Lb Ct mb kc ap hr ln sa aa sl := hT
  have hst : st ≤ 4 := hI.1.1
  have hbx : bx ≤ 20 := hI.1.2.1
  have hrc : ∀ s, s < st → rch s ≤ 4 := fun s hs => (hI.1.2.2.1 s hs).2
  have hwt : ∀ b, b < bx → wt b < 1000 := fun b hb => by have h9 : wt b ≤ 30 := (hI.1.2.2.2 b hb).2; omega
  have hg : yGood st bx ins Y := hI.2.1.1
  have hht : ∀ s, s < st → (Y s).length ≤ rch s := hI.2.1.2.1
  have hf8 : fC ins bx ≤ 8 := hI.2.1.2.2
  have hu1 : ∀ b, unt b ≤ 1000 := hI.2.2.1.2.1
  have hhl : ∀ b, b < bx → hld b = nI 45 ∨ hld b = nI 112 ∨ hld b = nI 108 := hI.2.2.1.2.2
  have hap : ap ≤ 30 := hI.2.2.2.1.1
  have haa : ∀ a, a < ap → ab a < bx ∧ hr a ≤ 999 ∧ ln a < 3 ∧ (sa a = nI 98 ∨ sa a = nI 99 ∨ sa a = nI 103 ∨ sa a = nI 100 ∨ sa a = nI 109) := hI.2.2.2.1.2.1
  have hnw : nw ≤ 999 := hI.2.2.2.2
  have hY4 : ∀ s, (Y s).length ≤ 4 := hg.1.1
  have hmm : ∀ s, ∀ c ∈ Y s, c < bx := fun s c hc => (hg.2.2 s c hc).1
  refine z_aload_n C 0 rfl dX1_hold_0 rfl ?_
  refine z_iload_n C 1 rfl dX1_hold_1 rfl ?_
  refine z_callV C k_Q hX (As := [.int v1]) (mX1_boxWith hX hY hB hA hT hI) (lw_V q471 q473 qs3 q58 q474) rfl hd_X1_boxWith rfl (Nat.le_of_ble_eq_true rfl) (by decide) (by decide) (by omega) (by omega) rfl dX1_hold_2 (fun E V9 hE9 => ?_) (fun r1 V2 hP3 => ?_)
  · skip
    obtain ⟨rfl, rfl, hf4⟩ := hE9
    exact z_out C hQ (fun _ h => nomatch h) ⟨0, rfl, by unfold oHold; rw [if_pos hf4], hC0⟩ (by omega) (by omega)
  · skip
    obtain ⟨e9, hq9, e8⟩ := hP3
    rw [e9, e8]
    refine z_st (st' := [.ref (ba (vN v1))]) rfl ?_
    obtain ⟨hbb, hbi⟩ := qIs_t (S := (qS st rch bx wt ins hld unt Y ap ab hr ln sa mv nw lf)) hq9
    have hbb : vN v1 < bx := hbb
    have hbi : ins (vN v1) = true := hbi
    refine z_astore C [(4, .ref (ba (vN v1))), (0, .ref x), (1, .int v1), (2, .int v2), (3, .int v3)] dX1_hold_5 (by decide) rfl ?_
    refine z_iload_n C 3 rfl dX1_hold_7 rfl ?_
    refine z_bipush C (v := (nI 112)) dX1_hold_8 rfl ?_
    refine z_icmp_eq C 19 dX1_hold_10 (by decide) (fun c10 => ?_) (fun c10 => ?_)
    · skip
      refine z_iload_n C 4 rfl dX1_hold_19 rfl ?_
      refine z_aload_n C 1 rfl dX1_hold_20 rfl ?_
      refine z_get C k_Q hX 9 (by decide) rfl q194 dX1_hold_21 ?_
      refine z_icmp_le C 38 dX1_hold_24 (by decide) (fun c24 => ?_) (fun c24 => ?_)
      · skip
        refine z_iconst C (v := (nI 0)) dX1_hold_38 rfl ?_
        refine z_st (st' := [.int (zb false)]) rfl ?_
        refine z_callS C (As := [.int (zb false)]) (mX1_checkArgument) (lw_S q255 q256 q58 q257) hd_X1_checkArgument rfl (Nat.le_of_ble_eq_true rfl) (by decide) (by decide) (by omega) (by omega) rfl dX1_hold_39 (fun E V9 hE9 => ?_) (fun r5 V6 hP7 => ?_)
        · skip
          obtain ⟨rfl, rfl, hf8⟩ := hE9
          exact z_out C hQ (fun _ h => nomatch h) ⟨1, rfl, by unfold oHold; rw [if_neg (show ¬ qIs (qS st rch bx wt ins hld unt Y ap ab hr ln sa mv nw lf) (vN v1) = false by rw [hq9]; decide), if_pos (show (v2 ≠ nI 112 ∧ v2 ≠ nI 108) ∨ ¬(qnw (qS st rch bx wt ins hld unt Y ap ab hr ln sa mv nw lf) + 1 ≤ vN v3 ∧ vN v3 ≤ 1000) from Or.inr (fun h => i_le_t (by omega) c24 ⟨h.1, Nat.le_trans h.2 (by decide)⟩))], hC0⟩ (by omega) (by omega)
        · skip
          obtain ⟨-, hb⟩ := hP7
          cases hb
      · skip
        refine z_iload_n C 4 rfl dX1_hold_27 rfl ?_
        refine z_sipush C (v := (nI 1000)) dX1_hold_28 rfl ?_
        refine z_icmp_gt C 38 dX1_hold_31 (by decide) (fun c31 => ?_) (fun c31 => ?_)
        · skip
          refine z_iconst C (v := (nI 0)) dX1_hold_38 rfl ?_
          refine z_st (st' := [.int (zb false)]) rfl ?_
          refine z_callS C (As := [.int (zb false)]) (mX1_checkArgument) (lw_S q255 q256 q58 q257) hd_X1_checkArgument rfl (Nat.le_of_ble_eq_true rfl) (by decide) (by decide) (by omega) (by omega) rfl dX1_hold_39 (fun E V9 hE9 => ?_) (fun r9 V10 hP11 => ?_)
          · skip
            obtain ⟨rfl, rfl, hf12⟩ := hE9
            exact z_out C hQ (fun _ h => nomatch h) ⟨1, rfl, by unfold oHold; rw [if_neg (show ¬ qIs (qS st rch bx wt ins hld unt Y ap ab hr ln sa mv nw lf) (vN v1) = false by rw [hq9]; decide), if_pos (show (v2 ≠ nI 112 ∧ v2 ≠ nI 108) ∨ ¬(qnw (qS st rch bx wt ins hld unt Y ap ab hr ln sa mv nw lf) + 1 ≤ vN v3 ∧ vN v3 ≤ 1000) from Or.inr (fun h => absurd h.2 (by have := i_gt (by omega) c31; omega)))], hC0⟩ (by omega) (by omega)
          · skip
            obtain ⟨-, hb⟩ := hP11
            cases hb
        · skip
          refine z_iconst C (v := (nI 1)) dX1_hold_34 rfl ?_
          refine z_goto C 39 dX1_hold_35 (by decide) ?_
          refine z_st (st' := [.int (zb true)]) rfl ?_
          refine z_callS C (As := [.int (zb true)]) (mX1_checkArgument) (lw_S q255 q256 q58 q257) hd_X1_checkArgument rfl (Nat.le_of_ble_eq_true rfl) (by decide) (by decide) (by omega) (by omega) rfl dX1_hold_39 (fun E V9 hE9 => ?_) (fun r13 V14 hP15 => ?_)
          · skip
            obtain ⟨-, -, hf⟩ := hE9
            cases hf
          · skip
            obtain ⟨e9, hb16⟩ := hP15
            rw [e9]
            refine z_st (st' := []) rfl ?_
            have hkd : v2 = nI 112 ∨ v2 = nI 108 := Or.inl c10
            have hu3 : nw + 1 ≤ vN v3 ∧ vN v3 ≤ 1000 := ⟨i_le (by omega) c24, i_gt_f (by omega) c31 c24 (by omega)⟩
            have hu4 : vN v3 < 1001 := by omega
            have hv17 := vN_of (v := v3) hu4 (by omega)
            have e18 : (.int v3 : Value) = .int (nI (vN v3)) := (congrArg Value.int hv17)
            refine z_lv (lv' := [(4, .ref (ba (vN v1))), (0, .ref x), (1, .int v1), (2, .int v2), (3, .int (nI (vN v3)))]) (by rw [e18]) ?_
            have hI2 := qI_hld (b := (vN v1)) (v := v2) (u := vN v3) hI hbb hkd hu3.2
            refine z_aload C 0 rfl dX1_hold_42 ?_
            refine z_iload_n C 3 rfl dX1_hold_44 rfl ?_
            refine z_putN C k_B (hB.2.2.1 (vN v1) hbb) 2 (by decide) [.int (nI (vN v1)), .int (nI (wt (vN v1))), .int v2, .int (nI (uc (vN v1)))] rfl (Nat.le_of_ble_eq_true rfl) (by rcases hkd with e | e <;> rw [e] <;> rfl) (by rcases hkd with e | e <;> rw [e] <;> rfl) rfl q418 dX1_hold_45 (z_nV (fun V19 hV20 => ?_))
            have hY21 := hY.mv (up_u hV20) (up_k (k := 2) (hB.2.2.1 (vN v1) hbb) rfl (by decide))
            have hB22 := cB.ho hB hbx hbb hV20
            have hA23 := hA.mv (up_u hV20) (up_k (k := 2) (hB.2.2.1 (vN v1) hbb) rfl (by decide))
            have hT24 := hT.mv (up_u hV20) (up_k (k := 2) (hB.2.2.1 (vN v1) hbb) rfl (by decide))
            have g25 := zup hV20 (zne_cc hX (hB.2.2.1 (vN v1) hbb) (by decide)) hX
            have g26 : V19 (ba (vN v1)) = some (.inr (3, [.int (nI (vN v1)), .int (nI (wt (vN v1))), .int v2, .int (nI (uc (vN v1)))])) := zself hV20
            refine z_aload C 0 rfl dX1_hold_48 ?_
            refine z_iload_n C 4 rfl dX1_hold_50 rfl ?_
            refine z_putN C k_B g26 3 (by decide) [.int (nI (vN v1)), .int (nI (wt (vN v1))), .int v2, .int (nI (vN v3))] rfl (Nat.le_of_ble_eq_true rfl) rfl rfl rfl q420 dX1_hold_51 (z_nV (fun V27 hV28 => ?_))
            have hY29 := hY21.mv (up_u hV28) (up_k (k := 2) g26 rfl (by decide))
            have hB30 := cB.un hB22 hbx hbb (show V27 = _ by rw [zvs]; exact hV28)
            have hA31 := hA23.mv (up_u hV28) (up_k (k := 2) g26 rfl (by decide))
            have hT32 := hT24.mv (up_u hV28) (up_k (k := 2) g26 rfl (by decide))
            have g33 := zup hV28 (zne_cc g25 g26 (by decide)) g25
            have g34 : V27 (ba (vN v1)) = some (.inr (3, [.int (nI (vN v1)), .int (nI (wt (vN v1))), .int v2, .int (nI (vN v3))])) := zself hV28
            refine z_aload_n C 1 rfl dX1_hold_54 rfl ?_
            refine z_aload C 0 rfl dX1_hold_55 ?_
            refine z_callV C k_Q g33 (As := [.ref (ba (vN v1))]) (mX1_bookedFor g33 hY29 hB30 hA31 hT32 hI2 hbb) (lw_V q551 q553 qs4 q58 q554) rfl hd_X1_bookedFor rfl (Nat.le_of_ble_eq_true rfl) (by decide) (by decide) (by omega) (by omega) rfl dX1_hold_57 (fun _ _ h => h.elim) (fun r35 V36 hP37 => ?_)
            obtain ⟨hu39, hbk38⟩ := hP37
            rw [hbk38]
            refine z_st (st' := [va_rf ((qAin (qS st rch bx wt ins (va_up hld (vN v1) v2) (va_up unt (vN v1) (vN v3)) Y ap ab hr ln sa mv nw lf) (vN v1)).map aa)]) rfl ?_
            rcases hqa : qAin (qS st rch bx wt ins (va_up hld (vN v1) v2) (va_up unt (vN v1) (vN v3)) Y ap ab hr ln sa mv nw lf) (vN v1) with _ | a0
            · skip
              refine z_st (st' := [.null]) rfl ?_
              refine z_astoreQ C (r := none) [(5, .null), (4, .ref (ba (vN v1))), (0, .ref x), (1, .int v1), (2, .int v2), (3, .int (nI (vN v3)))] dX1_hold_60 (by decide) rfl ?_
              refine z_aloadQ C 0 (r := none) rfl dX1_hold_62 ?_
              refine z_ifnull_n C 83 dX1_hold_64 (by decide) ?_
              refine z_iconst C (v := (nI 0)) dX1_hold_83 rfl ?_
              have e1 : oHold (qS st rch bx wt ins hld unt Y ap ab hr ln sa mv nw lf) (vN v1) v2 (vN v3) = (0, 0, sBox (qS st rch bx wt ins hld unt Y ap ab hr ln sa mv nw lf) bx wt ins (va_up hld (vN v1) v2) (va_up unt (vN v1) (vN v3))) := by unfold oHold; rw [if_neg (show ¬ qIs (qS st rch bx wt ins hld unt Y ap ab hr ln sa mv nw lf) (vN v1) = false by rw [hq9]; decide), if_neg (show ¬((v2 ≠ nI 112 ∧ v2 ≠ nI 108) ∨ ¬(qnw (qS st rch bx wt ins hld unt Y ap ab hr ln sa mv nw lf) + 1 ≤ vN v3 ∧ vN v3 ≤ 1000)) from fun h => h.elim (fun q => hkd.elim q.1 q.2) (fun q => q hu3)), show qAin (qS st rch bx wt ins hld unt Y ap ab hr ln sa mv nw lf) (vN v1) = _ from hqa]; rfl
              exact z_iret C hQ (nI 0) rfl ⟨by rw [e1], by rw [e1]; rfl, by rw [e1]; exact (show cR D _ x (sBox (qS st rch bx wt ins hld unt Y ap ab hr ln sa mv nw lf) bx wt ins (va_up hld (vN v1) v2) (va_up unt (vN v1) (vN v3))) from ⟨_, _, _, _, _, _, _, _, _, _, _, _, _, _, _, _, _, _, _, _, _, _, _, _, (hu39.get (fun h => h) g33), (hY29.mv hu39 no_k), (hB30.mv hu39 no_k), (hA31.mv hu39 no_k), (hT32.mv hu39 no_k)⟩)⟩ (by omega) (by omega) dX1_hold_84
            · skip
              obtain ⟨ha1, ha2, ha3⟩ := qAin_some hqa
              have ha1 : a0 < ap := ha1
              refine z_st (st' := [.ref (aa a0)]) rfl ?_
              refine z_astore C [(5, .ref (aa a0)), (4, .ref (ba (vN v1))), (0, .ref x), (1, .int v1), (2, .int v2), (3, .int (nI (vN v3)))] dX1_hold_60 (by decide) rfl ?_
              refine z_aload C 0 rfl dX1_hold_62 ?_
              refine z_ifnull_r C dX1_hold_64 ?_
              refine z_aload C 1 rfl dX1_hold_67 ?_
              refine z_aload C 0 rfl dX1_hold_69 ?_
              refine z_getN C k_A ((hA31.mv hu39 no_k).2.1 a0 ha1) 2 (by decide) rfl q1176 dX1_hold_71 ?_
              refine z_getN C k_S ((hA31.mv hu39 no_k).2.2 a0 ha1) 0 (by decide) rfl q1148 dX1_hold_74 ?_
              refine z_callV C k_B ((hB30.mv hu39 no_k).2.2.1 (vN v1) hbb) (As := [.int (nI (hr a0))]) (mX4_isHeldAt ((hB30.mv hu39 no_k).2.2.1 (vN v1) hbb) (by have h9 := (haa a0 ha1).2.1; omega) (by rw [zvs]; omega)) (lw_V q610 q611 q612 q74 q613) rfl hd_X4_isHeldAt rfl (Nat.le_of_ble_eq_true rfl) (by decide) (by decide) (by omega) (by omega) rfl dX1_hold_77 (fun _ _ h => h.elim) (fun r40 V41 hP42 => ?_)
              have hih : r40 = decide (hr a0 < vN v3) := by rw [hP42.2, zvs, zvs, decide_eq_false (show ¬ v2 = nI 45 by rcases hkd with e | e <;> rw [e] <;> decide)]; rfl
              rw [hP42.1, hih]
              refine z_st (st' := [.int (zb (decide (hr a0 < vN v3)))]) rfl ?_
              refine z_if_neB C 85 dX1_hold_80 (by decide) (fun c80 => ?_) (fun c80 => ?_)
              · skip
                refine z_aload_n C 2 rfl dX1_hold_85 rfl ?_
                refine z_aload C 0 rfl dX1_hold_86 ?_
                refine z_bipush C (v := (nI 103)) dX1_hold_88 rfl ?_
                refine z_callV C k_Q (hu39.get (fun h => h) g33) (As := [.ref (aa a0), .int (nI 103)]) (mX1_end (hu39.get (fun h => h) g33) (hY29.mv hu39 no_k) (hB30.mv hu39 no_k) (hA31.mv hu39 no_k) (hT32.mv hu39 no_k) hI2 (c0 := (nI 103)) ha1 ha3 (by decide) rfl rfl) (lw_V q614 q616 qs5 q58 q617) rfl hd_X1_end rfl (Nat.le_of_ble_eq_true rfl) (by decide) (by decide) (by omega) (by omega) rfl dX1_hold_90 (fun _ _ h => h.elim) (fun r43 V44 hP45 => ?_)
                obtain ⟨Lb2, Ct2, mb2, hX9, hY9, hB9, hA9, hT9⟩ := hP45
                refine z_st (st' := []) rfl ?_
                refine z_iconst C (v := (nI 1)) dX1_hold_93 rfl ?_
                have e1 : oHold (qS st rch bx wt ins hld unt Y ap ab hr ln sa mv nw lf) (vN v1) v2 (vN v3) = (0, nI 1, sSa (sBox (qS st rch bx wt ins hld unt Y ap ab hr ln sa mv nw lf) bx wt ins (va_up hld (vN v1) v2) (va_up unt (vN v1) (vN v3))) a0 (nI 103)) := by unfold oHold; rw [if_neg (show ¬ qIs (qS st rch bx wt ins hld unt Y ap ab hr ln sa mv nw lf) (vN v1) = false by rw [hq9]; decide), if_neg (show ¬((v2 ≠ nI 112 ∧ v2 ≠ nI 108) ∨ ¬(qnw (qS st rch bx wt ins hld unt Y ap ab hr ln sa mv nw lf) + 1 ≤ vN v3 ∧ vN v3 ≤ 1000)) from fun h => h.elim (fun q => hkd.elim q.1 q.2) (fun q => q hu3)), show qAin (qS st rch bx wt ins hld unt Y ap ab hr ln sa mv nw lf) (vN v1) = _ from hqa]; show (if vN v3 ≤ hr a0 then _ else _) = _; rw [if_neg (by have := of_decide_eq_true c80; omega)]; rfl
                exact z_iret C hQ (nI 1) rfl ⟨by rw [e1], by rw [e1], by rw [e1]; exact (show cR D _ x (sSa (sBox (qS st rch bx wt ins hld unt Y ap ab hr ln sa mv nw lf) bx wt ins (va_up hld (vN v1) v2) (va_up unt (vN v1) (vN v3))) a0 (nI 103)) from ⟨_, _, _, _, _, _, _, _, _, _, _, _, _, _, _, _, _, _, _, _, _, _, _, _, hX9, hY9, hB9, hA9, hT9⟩)⟩ (by omega) (by omega) dX1_hold_94
              · skip
                refine z_iconst C (v := (nI 0)) dX1_hold_83 rfl ?_
                have e1 : oHold (qS st rch bx wt ins hld unt Y ap ab hr ln sa mv nw lf) (vN v1) v2 (vN v3) = (0, 0, sBox (qS st rch bx wt ins hld unt Y ap ab hr ln sa mv nw lf) bx wt ins (va_up hld (vN v1) v2) (va_up unt (vN v1) (vN v3))) := by unfold oHold; rw [if_neg (show ¬ qIs (qS st rch bx wt ins hld unt Y ap ab hr ln sa mv nw lf) (vN v1) = false by rw [hq9]; decide), if_neg (show ¬((v2 ≠ nI 112 ∧ v2 ≠ nI 108) ∨ ¬(qnw (qS st rch bx wt ins hld unt Y ap ab hr ln sa mv nw lf) + 1 ≤ vN v3 ∧ vN v3 ≤ 1000)) from fun h => h.elim (fun q => hkd.elim q.1 q.2) (fun q => q hu3)), show qAin (qS st rch bx wt ins hld unt Y ap ab hr ln sa mv nw lf) (vN v1) = _ from hqa]; show (if vN v3 ≤ hr a0 then _ else _) = _; rw [if_pos (by have := of_decide_eq_false c80; omega)]; rfl
                exact z_iret C hQ (nI 0) rfl ⟨by rw [e1], by rw [e1]; rfl, by rw [e1]; exact (show cR D _ x (sBox (qS st rch bx wt ins hld unt Y ap ab hr ln sa mv nw lf) bx wt ins (va_up hld (vN v1) v2) (va_up unt (vN v1) (vN v3))) from ⟨_, _, _, _, _, _, _, _, _, _, _, _, _, _, _, _, _, _, _, _, _, _, _, _, (hu39.get (fun h => h) g33), (hY29.mv hu39 no_k), (hB30.mv hu39 no_k), (hA31.mv hu39 no_k), (hT32.mv hu39 no_k)⟩)⟩ (by omega) (by omega) dX1_hold_84
    · skip
      refine z_iload_n C 3 rfl dX1_hold_13 rfl ?_
      refine z_bipush C (v := (nI 108)) dX1_hold_14 rfl ?_
      refine z_icmp_ne C 38 dX1_hold_16 (by decide) (fun c16 => ?_) (fun c16 => ?_)
      · skip
        refine z_iconst C (v := (nI 0)) dX1_hold_38 rfl ?_
        refine z_st (st' := [.int (zb false)]) rfl ?_
        refine z_callS C (As := [.int (zb false)]) (mX1_checkArgument) (lw_S q255 q256 q58 q257) hd_X1_checkArgument rfl (Nat.le_of_ble_eq_true rfl) (by decide) (by decide) (by omega) (by omega) rfl dX1_hold_39 (fun E V9 hE9 => ?_) (fun r46 V47 hP48 => ?_)
        · skip
          obtain ⟨rfl, rfl, hf49⟩ := hE9
          exact z_out C hQ (fun _ h => nomatch h) ⟨1, rfl, by unfold oHold; rw [if_neg (show ¬ qIs (qS st rch bx wt ins hld unt Y ap ab hr ln sa mv nw lf) (vN v1) = false by rw [hq9]; decide), if_pos (show (v2 ≠ nI 112 ∧ v2 ≠ nI 108) ∨ ¬(qnw (qS st rch bx wt ins hld unt Y ap ab hr ln sa mv nw lf) + 1 ≤ vN v3 ∧ vN v3 ≤ 1000) from Or.inl ⟨c10, c16⟩)], hC0⟩ (by omega) (by omega)
        · skip
          obtain ⟨-, hb⟩ := hP48
          cases hb
      · skip
        refine z_iload_n C 4 rfl dX1_hold_19 rfl ?_
        refine z_aload_n C 1 rfl dX1_hold_20 rfl ?_
        refine z_get C k_Q hX 9 (by decide) rfl q194 dX1_hold_21 ?_
        refine z_icmp_le C 38 dX1_hold_24 (by decide) (fun c24 => ?_) (fun c24 => ?_)
        · skip
          refine z_iconst C (v := (nI 0)) dX1_hold_38 rfl ?_
          refine z_st (st' := [.int (zb false)]) rfl ?_
          refine z_callS C (As := [.int (zb false)]) (mX1_checkArgument) (lw_S q255 q256 q58 q257) hd_X1_checkArgument rfl (Nat.le_of_ble_eq_true rfl) (by decide) (by decide) (by omega) (by omega) rfl dX1_hold_39 (fun E V9 hE9 => ?_) (fun r50 V51 hP52 => ?_)
          · skip
            obtain ⟨rfl, rfl, hf53⟩ := hE9
            exact z_out C hQ (fun _ h => nomatch h) ⟨1, rfl, by unfold oHold; rw [if_neg (show ¬ qIs (qS st rch bx wt ins hld unt Y ap ab hr ln sa mv nw lf) (vN v1) = false by rw [hq9]; decide), if_pos (show (v2 ≠ nI 112 ∧ v2 ≠ nI 108) ∨ ¬(qnw (qS st rch bx wt ins hld unt Y ap ab hr ln sa mv nw lf) + 1 ≤ vN v3 ∧ vN v3 ≤ 1000) from Or.inr (fun h => i_le_t (by omega) c24 ⟨h.1, Nat.le_trans h.2 (by decide)⟩))], hC0⟩ (by omega) (by omega)
          · skip
            obtain ⟨-, hb⟩ := hP52
            cases hb
        · skip
          refine z_iload_n C 4 rfl dX1_hold_27 rfl ?_
          refine z_sipush C (v := (nI 1000)) dX1_hold_28 rfl ?_
          refine z_icmp_gt C 38 dX1_hold_31 (by decide) (fun c31 => ?_) (fun c31 => ?_)
          · skip
            refine z_iconst C (v := (nI 0)) dX1_hold_38 rfl ?_
            refine z_st (st' := [.int (zb false)]) rfl ?_
            refine z_callS C (As := [.int (zb false)]) (mX1_checkArgument) (lw_S q255 q256 q58 q257) hd_X1_checkArgument rfl (Nat.le_of_ble_eq_true rfl) (by decide) (by decide) (by omega) (by omega) rfl dX1_hold_39 (fun E V9 hE9 => ?_) (fun r54 V55 hP56 => ?_)
            · skip
              obtain ⟨rfl, rfl, hf57⟩ := hE9
              exact z_out C hQ (fun _ h => nomatch h) ⟨1, rfl, by unfold oHold; rw [if_neg (show ¬ qIs (qS st rch bx wt ins hld unt Y ap ab hr ln sa mv nw lf) (vN v1) = false by rw [hq9]; decide), if_pos (show (v2 ≠ nI 112 ∧ v2 ≠ nI 108) ∨ ¬(qnw (qS st rch bx wt ins hld unt Y ap ab hr ln sa mv nw lf) + 1 ≤ vN v3 ∧ vN v3 ≤ 1000) from Or.inr (fun h => absurd h.2 (by have := i_gt (by omega) c31; omega)))], hC0⟩ (by omega) (by omega)
            · skip
              obtain ⟨-, hb⟩ := hP56
              cases hb
          · skip
            refine z_iconst C (v := (nI 1)) dX1_hold_34 rfl ?_
            refine z_goto C 39 dX1_hold_35 (by decide) ?_
            refine z_st (st' := [.int (zb true)]) rfl ?_
            refine z_callS C (As := [.int (zb true)]) (mX1_checkArgument) (lw_S q255 q256 q58 q257) hd_X1_checkArgument rfl (Nat.le_of_ble_eq_true rfl) (by decide) (by decide) (by omega) (by omega) rfl dX1_hold_39 (fun E V9 hE9 => ?_) (fun r58 V59 hP60 => ?_)
            · skip
              obtain ⟨-, -, hf⟩ := hE9
              cases hf
            · skip
              obtain ⟨e9, hb61⟩ := hP60
              rw [e9]
              refine z_st (st' := []) rfl ?_
              have hkd : v2 = nI 112 ∨ v2 = nI 108 := Or.inr c16
              have hu3 : nw + 1 ≤ vN v3 ∧ vN v3 ≤ 1000 := ⟨i_le (by omega) c24, i_gt_f (by omega) c31 c24 (by omega)⟩
              have hu4 : vN v3 < 1001 := by omega
              have hv62 := vN_of (v := v3) hu4 (by omega)
              have e63 : (.int v3 : Value) = .int (nI (vN v3)) := (congrArg Value.int hv62)
              refine z_lv (lv' := [(4, .ref (ba (vN v1))), (0, .ref x), (1, .int v1), (2, .int v2), (3, .int (nI (vN v3)))]) (by rw [e63]) ?_
              have hI2 := qI_hld (b := (vN v1)) (v := v2) (u := vN v3) hI hbb hkd hu3.2
              refine z_aload C 0 rfl dX1_hold_42 ?_
              refine z_iload_n C 3 rfl dX1_hold_44 rfl ?_
              refine z_putN C k_B (hB.2.2.1 (vN v1) hbb) 2 (by decide) [.int (nI (vN v1)), .int (nI (wt (vN v1))), .int v2, .int (nI (uc (vN v1)))] rfl (Nat.le_of_ble_eq_true rfl) (by rcases hkd with e | e <;> rw [e] <;> rfl) (by rcases hkd with e | e <;> rw [e] <;> rfl) rfl q418 dX1_hold_45 (z_nV (fun V64 hV65 => ?_))
              have hY66 := hY.mv (up_u hV65) (up_k (k := 2) (hB.2.2.1 (vN v1) hbb) rfl (by decide))
              have hB67 := cB.ho hB hbx hbb hV65
              have hA68 := hA.mv (up_u hV65) (up_k (k := 2) (hB.2.2.1 (vN v1) hbb) rfl (by decide))
              have hT69 := hT.mv (up_u hV65) (up_k (k := 2) (hB.2.2.1 (vN v1) hbb) rfl (by decide))
              have g70 := zup hV65 (zne_cc hX (hB.2.2.1 (vN v1) hbb) (by decide)) hX
              have g71 : V64 (ba (vN v1)) = some (.inr (3, [.int (nI (vN v1)), .int (nI (wt (vN v1))), .int v2, .int (nI (uc (vN v1)))])) := zself hV65
              refine z_aload C 0 rfl dX1_hold_48 ?_
              refine z_iload_n C 4 rfl dX1_hold_50 rfl ?_
              refine z_putN C k_B g71 3 (by decide) [.int (nI (vN v1)), .int (nI (wt (vN v1))), .int v2, .int (nI (vN v3))] rfl (Nat.le_of_ble_eq_true rfl) rfl rfl rfl q420 dX1_hold_51 (z_nV (fun V72 hV73 => ?_))
              have hY74 := hY66.mv (up_u hV73) (up_k (k := 2) g71 rfl (by decide))
              have hB75 := cB.un hB67 hbx hbb (show V72 = _ by rw [zvs]; exact hV73)
              have hA76 := hA68.mv (up_u hV73) (up_k (k := 2) g71 rfl (by decide))
              have hT77 := hT69.mv (up_u hV73) (up_k (k := 2) g71 rfl (by decide))
              have g78 := zup hV73 (zne_cc g70 g71 (by decide)) g70
              have g79 : V72 (ba (vN v1)) = some (.inr (3, [.int (nI (vN v1)), .int (nI (wt (vN v1))), .int v2, .int (nI (vN v3))])) := zself hV73
              refine z_aload_n C 1 rfl dX1_hold_54 rfl ?_
              refine z_aload C 0 rfl dX1_hold_55 ?_
              refine z_callV C k_Q g78 (As := [.ref (ba (vN v1))]) (mX1_bookedFor g78 hY74 hB75 hA76 hT77 hI2 hbb) (lw_V q551 q553 qs4 q58 q554) rfl hd_X1_bookedFor rfl (Nat.le_of_ble_eq_true rfl) (by decide) (by decide) (by omega) (by omega) rfl dX1_hold_57 (fun _ _ h => h.elim) (fun r80 V81 hP82 => ?_)
              obtain ⟨hu84, hbk83⟩ := hP82
              rw [hbk83]
              refine z_st (st' := [va_rf ((qAin (qS st rch bx wt ins (va_up hld (vN v1) v2) (va_up unt (vN v1) (vN v3)) Y ap ab hr ln sa mv nw lf) (vN v1)).map aa)]) rfl ?_
              rcases hqa : qAin (qS st rch bx wt ins (va_up hld (vN v1) v2) (va_up unt (vN v1) (vN v3)) Y ap ab hr ln sa mv nw lf) (vN v1) with _ | a0
              · skip
                refine z_st (st' := [.null]) rfl ?_
                refine z_astoreQ C (r := none) [(5, .null), (4, .ref (ba (vN v1))), (0, .ref x), (1, .int v1), (2, .int v2), (3, .int (nI (vN v3)))] dX1_hold_60 (by decide) rfl ?_
                refine z_aloadQ C 0 (r := none) rfl dX1_hold_62 ?_
                refine z_ifnull_n C 83 dX1_hold_64 (by decide) ?_
                refine z_iconst C (v := (nI 0)) dX1_hold_83 rfl ?_
                have e1 : oHold (qS st rch bx wt ins hld unt Y ap ab hr ln sa mv nw lf) (vN v1) v2 (vN v3) = (0, 0, sBox (qS st rch bx wt ins hld unt Y ap ab hr ln sa mv nw lf) bx wt ins (va_up hld (vN v1) v2) (va_up unt (vN v1) (vN v3))) := by unfold oHold; rw [if_neg (show ¬ qIs (qS st rch bx wt ins hld unt Y ap ab hr ln sa mv nw lf) (vN v1) = false by rw [hq9]; decide), if_neg (show ¬((v2 ≠ nI 112 ∧ v2 ≠ nI 108) ∨ ¬(qnw (qS st rch bx wt ins hld unt Y ap ab hr ln sa mv nw lf) + 1 ≤ vN v3 ∧ vN v3 ≤ 1000)) from fun h => h.elim (fun q => hkd.elim q.1 q.2) (fun q => q hu3)), show qAin (qS st rch bx wt ins hld unt Y ap ab hr ln sa mv nw lf) (vN v1) = _ from hqa]; rfl
                exact z_iret C hQ (nI 0) rfl ⟨by rw [e1], by rw [e1]; rfl, by rw [e1]; exact (show cR D _ x (sBox (qS st rch bx wt ins hld unt Y ap ab hr ln sa mv nw lf) bx wt ins (va_up hld (vN v1) v2) (va_up unt (vN v1) (vN v3))) from ⟨_, _, _, _, _, _, _, _, _, _, _, _, _, _, _, _, _, _, _, _, _, _, _, _, (hu84.get (fun h => h) g78), (hY74.mv hu84 no_k), (hB75.mv hu84 no_k), (hA76.mv hu84 no_k), (hT77.mv hu84 no_k)⟩)⟩ (by omega) (by omega) dX1_hold_84
              · skip
                obtain ⟨ha1, ha2, ha3⟩ := qAin_some hqa
                have ha1 : a0 < ap := ha1
                refine z_st (st' := [.ref (aa a0)]) rfl ?_
                refine z_astore C [(5, .ref (aa a0)), (4, .ref (ba (vN v1))), (0, .ref x), (1, .int v1), (2, .int v2), (3, .int (nI (vN v3)))] dX1_hold_60 (by decide) rfl ?_
                refine z_aload C 0 rfl dX1_hold_62 ?_
                refine z_ifnull_r C dX1_hold_64 ?_
                refine z_aload C 1 rfl dX1_hold_67 ?_
                refine z_aload C 0 rfl dX1_hold_69 ?_
                refine z_getN C k_A ((hA76.mv hu84 no_k).2.1 a0 ha1) 2 (by decide) rfl q1176 dX1_hold_71 ?_
                refine z_getN C k_S ((hA76.mv hu84 no_k).2.2 a0 ha1) 0 (by decide) rfl q1148 dX1_hold_74 ?_
                refine z_callV C k_B ((hB75.mv hu84 no_k).2.2.1 (vN v1) hbb) (As := [.int (nI (hr a0))]) (mX4_isHeldAt ((hB75.mv hu84 no_k).2.2.1 (vN v1) hbb) (by have h9 := (haa a0 ha1).2.1; omega) (by rw [zvs]; omega)) (lw_V q610 q611 q612 q74 q613) rfl hd_X4_isHeldAt rfl (Nat.le_of_ble_eq_true rfl) (by decide) (by decide) (by omega) (by omega) rfl dX1_hold_77 (fun _ _ h => h.elim) (fun r85 V86 hP87 => ?_)
                have hih : r85 = decide (hr a0 < vN v3) := by rw [hP87.2, zvs, zvs, decide_eq_false (show ¬ v2 = nI 45 by rcases hkd with e | e <;> rw [e] <;> decide)]; rfl
                rw [hP87.1, hih]
                refine z_st (st' := [.int (zb (decide (hr a0 < vN v3)))]) rfl ?_
                refine z_if_neB C 85 dX1_hold_80 (by decide) (fun c80 => ?_) (fun c80 => ?_)
                · skip
                  refine z_aload_n C 2 rfl dX1_hold_85 rfl ?_
                  refine z_aload C 0 rfl dX1_hold_86 ?_
                  refine z_bipush C (v := (nI 103)) dX1_hold_88 rfl ?_
                  refine z_callV C k_Q (hu84.get (fun h => h) g78) (As := [.ref (aa a0), .int (nI 103)]) (mX1_end (hu84.get (fun h => h) g78) (hY74.mv hu84 no_k) (hB75.mv hu84 no_k) (hA76.mv hu84 no_k) (hT77.mv hu84 no_k) hI2 (c0 := (nI 103)) ha1 ha3 (by decide) rfl rfl) (lw_V q614 q616 qs5 q58 q617) rfl hd_X1_end rfl (Nat.le_of_ble_eq_true rfl) (by decide) (by decide) (by omega) (by omega) rfl dX1_hold_90 (fun _ _ h => h.elim) (fun r88 V89 hP90 => ?_)
                  obtain ⟨Lb2, Ct2, mb2, hX9, hY9, hB9, hA9, hT9⟩ := hP90
                  refine z_st (st' := []) rfl ?_
                  refine z_iconst C (v := (nI 1)) dX1_hold_93 rfl ?_
                  have e1 : oHold (qS st rch bx wt ins hld unt Y ap ab hr ln sa mv nw lf) (vN v1) v2 (vN v3) = (0, nI 1, sSa (sBox (qS st rch bx wt ins hld unt Y ap ab hr ln sa mv nw lf) bx wt ins (va_up hld (vN v1) v2) (va_up unt (vN v1) (vN v3))) a0 (nI 103)) := by unfold oHold; rw [if_neg (show ¬ qIs (qS st rch bx wt ins hld unt Y ap ab hr ln sa mv nw lf) (vN v1) = false by rw [hq9]; decide), if_neg (show ¬((v2 ≠ nI 112 ∧ v2 ≠ nI 108) ∨ ¬(qnw (qS st rch bx wt ins hld unt Y ap ab hr ln sa mv nw lf) + 1 ≤ vN v3 ∧ vN v3 ≤ 1000)) from fun h => h.elim (fun q => hkd.elim q.1 q.2) (fun q => q hu3)), show qAin (qS st rch bx wt ins hld unt Y ap ab hr ln sa mv nw lf) (vN v1) = _ from hqa]; show (if vN v3 ≤ hr a0 then _ else _) = _; rw [if_neg (by have := of_decide_eq_true c80; omega)]; rfl
                  exact z_iret C hQ (nI 1) rfl ⟨by rw [e1], by rw [e1], by rw [e1]; exact (show cR D _ x (sSa (sBox (qS st rch bx wt ins hld unt Y ap ab hr ln sa mv nw lf) bx wt ins (va_up hld (vN v1) v2) (va_up unt (vN v1) (vN v3))) a0 (nI 103)) from ⟨_, _, _, _, _, _, _, _, _, _, _, _, _, _, _, _, _, _, _, _, _, _, _, _, hX9, hY9, hB9, hA9, hT9⟩)⟩ (by omega) (by omega) dX1_hold_94
                · skip
                  refine z_iconst C (v := (nI 0)) dX1_hold_83 rfl ?_
                  have e1 : oHold (qS st rch bx wt ins hld unt Y ap ab hr ln sa mv nw lf) (vN v1) v2 (vN v3) = (0, 0, sBox (qS st rch bx wt ins hld unt Y ap ab hr ln sa mv nw lf) bx wt ins (va_up hld (vN v1) v2) (va_up unt (vN v1) (vN v3))) := by unfold oHold; rw [if_neg (show ¬ qIs (qS st rch bx wt ins hld unt Y ap ab hr ln sa mv nw lf) (vN v1) = false by rw [hq9]; decide), if_neg (show ¬((v2 ≠ nI 112 ∧ v2 ≠ nI 108) ∨ ¬(qnw (qS st rch bx wt ins hld unt Y ap ab hr ln sa mv nw lf) + 1 ≤ vN v3 ∧ vN v3 ≤ 1000)) from fun h => h.elim (fun q => hkd.elim q.1 q.2) (fun q => q hu3)), show qAin (qS st rch bx wt ins hld unt Y ap ab hr ln sa mv nw lf) (vN v1) = _ from hqa]; show (if vN v3 ≤ hr a0 then _ else _) = _; rw [if_pos (by have := of_decide_eq_false c80; omega)]; rfl
                  exact z_iret C hQ (nI 0) rfl ⟨by rw [e1], by rw [e1]; rfl, by rw [e1]; exact (show cR D _ x (sBox (qS st rch bx wt ins hld unt Y ap ab hr ln sa mv nw lf) bx wt ins (va_up hld (vN v1) v2) (va_up unt (vN v1) (vN v3))) from ⟨_, _, _, _, _, _, _, _, _, _, _, _, _, _, _, _, _, _, _, _, _, _, _, _, (hu84.get (fun h => h) g78), (hY74.mv hu84 no_k), (hB75.mv hu84 no_k), (hA76.mv hu84 no_k), (hT77.mv hu84 no_k)⟩)⟩ (by omega) (by omega) dX1_hold_84
set_option maxHeartbeats 4000000 in
set_option maxRecDepth 100000 in
theorem mX1_moveTo {l : Launch} {D : ZD} {V : ZV} {kk x y yb yh rr bb al t d cap : Nat} {fb : Nat → Option Nat} {fh fr : Nat → Int32} {fB : Nat → Option Nat} {ba : Nat → Nat} {hc : Nat → Int32} {uc : Nat → Nat} {fa : Nat → Option Nat} {ma : Int32} {aa sl : Nat → Nat} {Lb : List Nat} {Ct : List (Nat × Nat)} {mb : Int32} {kc : Nat → List Nat} {st : Nat} {rch : Nat → Nat} {bx : Nat} {wt : Nat → Nat} {ins : Nat → Bool} {hld : Nat → Int32} {unt : Nat → Nat} {Y : YD} {ap : Nat} {ab hr ln : Nat → Nat} {sa : Nat → Int32} {mv : Int32} {nw : Nat} {lf : Int64} (hX : V x = some (.inr (0, [.ref y, .ref rr, .ref bb, .ref al, .ref t, .int (nI st), .int (nI bx), .int (nI (fC ins bx)), .int mv, .int (nI nw), .long lf]))) (hY : cY D V y yb yh rr fb fh fr ba bx st rch Y) (hB : cB D V bb fB ba bx wt ins hld unt hc uc) (hA : cA D V al d cap fa ma ba ap ab hr ln sa aa sl) (hT : cT V t Lb Ct mb kc ap hr ln sa aa sl) (hI : qI kk (qS st rch bx wt ins hld unt Y ap ab hr ln sa mv nw lf)) {b s : Nat} (hbb : b < bx) (hbi : ins b = true) (htop : (Y (yPl Y b)).getLast? = some b) (hs : s < st) (hne : yPl Y b ≠ s) (hls : (Y s).length < 4) : ZM l D yX1_moveTo (ws_ yX1_moveTo cX1_moveTo 3 none) 3 0 0 eU V [.ref x, .ref (ba b), .int (nI s)] (fun r V' => ∃ fb2 fh2, V' x = some (.inr (0, [.ref y, .ref rr, .ref bb, .ref al, .ref t, .int (nI st), .int (nI bx), .int (nI (fC ins bx)), .int (mv + nI 1), .int (nI nw), .long lf])) ∧ cY D V' y yb yh rr fb2 fh2 fr ba bx st rch (yMv Y (yPl Y b) s b) ∧ cB D V' bb fB ba bx wt ins hld unt hc uc ∧ cA D V' al d cap fa ma ba ap ab hr ln sa aa sl ∧ cT V' t Lb Ct mb kc ap hr ln sa aa sl ∧ zUnc V V' (fun z => z = x ∨ z = yb ∨ z = yh)) zno_x := by
  refine z_enter (by decide +kernel) [(0, .ref x), (1, .ref (ba b)), (2, .int (nI s))] rfl (Nat.le_of_ble_eq_true rfl) (zcat_cons rfl (zcat_cons rfl (zcat_cons rfl zcat_nil))) (fun Γ C hQ => ?_)
  have hst : st ≤ 4 := hI.1.1
  have hbx : bx ≤ 20 := hI.1.2.1
  have hrc : ∀ s, s < st → rch s ≤ 4 := fun s hs => (hI.1.2.2.1 s hs).2
  have hwt : ∀ b, b < bx → wt b < 1000 := fun b hb => by have h9 : wt b ≤ 30 := (hI.1.2.2.2 b hb).2; omega
  have hg : yGood st bx ins Y := hI.2.1.1
  have hht : ∀ s, s < st → (Y s).length ≤ rch s := hI.2.1.2.1
  have hf8 : fC ins bx ≤ 8 := hI.2.1.2.2
  have hu1 : ∀ b, unt b ≤ 1000 := hI.2.2.1.2.1
  have hhl : ∀ b, b < bx → hld b = nI 45 ∨ hld b = nI 112 ∨ hld b = nI 108 := hI.2.2.1.2.2
  have hap : ap ≤ 30 := hI.2.2.2.1.1
  have haa : ∀ a, a < ap → ab a < bx ∧ hr a ≤ 999 ∧ ln a < 3 ∧ (sa a = nI 98 ∨ sa a = nI 99 ∨ sa a = nI 103 ∨ sa a = nI 100 ∨ sa a = nI 109) := hI.2.2.2.1.2.1
  have hnw : nw ≤ 999 := hI.2.2.2.2
  have hY4 : ∀ s, (Y s).length ≤ 4 := hg.1.1
  have hmm : ∀ s, ∀ c ∈ Y s, c < bx := fun s c hc => (hg.2.2 s c hc).1
  have hyi := yIn_of hg hst hB.2.2.1 hbx hbb hbi
  obtain ⟨n, hn⟩ := last_n htop
  have hp4 := hyi.1
  have hl4 := hY4 (yPl Y b)
  have hfb := hY.2.1.2 _ _ _ hp4 (last_at htop hn)
  have hut0 : zUnc V V (fun z => z = x ∨ z = yb ∨ z = yh) := zUnc.rf
  refine z_aload_n C 0 rfl dX1_moveTo_0 rfl ?_
  refine z_get C k_Q hX 0 (by decide) rfl q185 dX1_moveTo_1 ?_
  refine z_aload_n C 0 rfl dX1_moveTo_4 rfl ?_
  refine z_get C k_Q hX 0 (by decide) rfl q185 dX1_moveTo_5 ?_
  refine z_aload_n C 1 rfl dX1_moveTo_8 rfl ?_
  refine z_callV C k_Y hY.1.1 (As := [.ref (ba b)]) (mX2_stackOf hY.1 hY.2.1 hyi) (lw_V q482 q483 q484 q59 q485) rfl hd_X2_stackOf rfl (Nat.le_of_ble_eq_true rfl) (by decide) (by decide) (by omega) (by omega) rfl dX1_moveTo_9 (fun _ _ h => h.elim) (fun r1 V2 hP3 => ?_)
  rw [hP3.1, hP3.2]
  refine z_st (st' := [.int (nI (yPl Y b)), .ref y]) rfl ?_
  refine z_callV C k_Y hY.1.1 (As := [.int (nI (yPl Y b))]) (mX2_pop hY.1 (s := yPl Y b) (n := n) hp4 (by omega) (by rw [hY.2.1.1 _ hp4, hn]) hfb) (lw_V q784 q785 q786 q59 q787) rfl hd_X2_pop rfl (Nat.le_of_ble_eq_true rfl) (by decide) (by decide) (by omega) (by omega) rfl dX1_moveTo_12 (fun _ _ h => h.elim) (fun r4 V5 hP6 => ?_)
  obtain ⟨e8, e9⟩ := hP6
  rw [e8]
  refine z_st (st' := [.ref (ba b)]) rfl ?_
  obtain ⟨hY7, hU8⟩ := cY.pop hY hY4 hp4 hn e9
  have hB9 := hB.mv hU8 (yd_k hY.1 (by decide))
  have hA10 := hA.mv hU8 (yd_k hY.1 (by decide))
  have hT11 := hT.mv hU8 (yd_k hY.1 (by decide))
  have g12 := hU8.get (fun q => yd_k hY.1 (n := 0) (by decide) _ _ hX q rfl) hX
  have hut13 := zUnc.tr (S := (fun z => z = x ∨ z = yb ∨ z = yh)) hut0 hU8 (fun _ h => Or.inl (Or.inr h))
  refine z_pop C dX1_moveTo_15 rfl ?_
  refine z_aload_n C 0 rfl dX1_moveTo_16 rfl ?_
  refine z_get C k_Q g12 0 (by decide) rfl q185 dX1_moveTo_17 ?_
  refine z_iload_n C 2 rfl dX1_moveTo_20 rfl ?_
  refine z_aload_n C 1 rfl dX1_moveTo_21 rfl ?_
  have hYs : ((va_up Y (yPl Y b) (Y (yPl Y b)).dropLast) s).length = (Y s).length := by rw [zvn (Ne.symm hne)]
  have hY5 : ∀ z, ((va_up Y (yPl Y b) (Y (yPl Y b)).dropLast) z).length ≤ 4 := fun z => by
    by_cases e : z = yPl Y b
    · rw [e, zvs, List.length_dropLast]; omega
    · rw [zvn e]; exact hY4 z
  refine z_callV C k_Y hY7.1.1 (As := [.int (nI s), .ref (ba b)]) (mX2_push hY7.1 (s := s) (n := (Y s).length) (by omega) hls (by rw [hY7.2.1.1 _ (show s < 4 by omega), hYs]) (hB9.2.2.1 b hbb)) (lw_V q460 q461 q462 q59 q463) rfl hd_X2_push rfl (Nat.le_of_ble_eq_true rfl) (by decide) (by decide) (by omega) (by omega) rfl dX1_moveTo_22 (fun _ _ h => h.elim) (fun r14 V15 hP16 => ?_)
  refine z_st (st' := []) rfl ?_
  obtain ⟨hY17, hU18⟩ := cY.push hY7 hY5 (show s < 4 by omega) hYs hls hbb hP16
  have hB19 := hB9.mv hU18 (yd_k hY7.1 (by decide))
  have hA20 := hA10.mv hU18 (yd_k hY7.1 (by decide))
  have hT21 := hT11.mv hU18 (yd_k hY7.1 (by decide))
  have g22 := hU18.get (fun q => yd_k hY7.1 (n := 0) (by decide) _ _ g12 q rfl) g12
  have hut23 := zUnc.tr (S := (fun z => z = x ∨ z = yb ∨ z = yh)) hut13 hU18 (fun _ h => Or.inl (Or.inr h))
  refine z_aload_n C 0 rfl dX1_moveTo_25 rfl ?_
  refine z_dup C dX1_moveTo_26 rfl ?_
  refine z_get C k_Q g22 8 (by decide) rfl q193 dX1_moveTo_27 ?_
  refine z_iconst C (v := (nI 1)) dX1_moveTo_30 rfl ?_
  refine z_iadd C dX1_moveTo_31 ?_
  refine z_put C k_Q g22 8 (by decide) [.ref y, .ref rr, .ref bb, .ref al, .ref t, .int (nI st), .int (nI bx), .int (nI (fC ins bx)), .int (mv + (nI 1)), .int (nI nw), .long lf] rfl (Nat.le_of_ble_eq_true rfl) rfl rfl rfl q193 dX1_moveTo_32 (z_nV (fun V24 hV25 => ?_))
  have hY26 := hY17.mv (up_u hV25) (up_k (k := 0) g22 rfl (by decide))
  have hB27 := hB19.mv (up_u hV25) (up_k (k := 0) g22 rfl (by decide))
  have hA28 := hA20.mv (up_u hV25) (up_k (k := 0) g22 rfl (by decide))
  have hT29 := hT21.mv (up_u hV25) (up_k (k := 0) g22 rfl (by decide))
  have hut30 := zUnc.up (S := (fun z => z = x ∨ z = yb ∨ z = yh)) hut23 hV25 (Or.inl rfl)
  have g31 : V24 x = some (.inr (0, [.ref y, .ref rr, .ref bb, .ref al, .ref t, .int (nI st), .int (nI bx), .int (nI (fC ins bx)), .int (mv + (nI 1)), .int (nI nw), .long lf])) := zself hV25
  exact z_vret C hQ () rfl ⟨_, _, g31, hY26, hB27, hA28, hT29, hut30⟩ (by omega) (by omega) dX1_moveTo_35
set_option maxHeartbeats 4000000 in
set_option maxRecDepth 100000 in
theorem mX1_move {l : Launch} {D : ZD} {V : ZV} {x kk : Nat} {st : Nat} {rch : Nat → Nat} {bx : Nat} {wt : Nat → Nat} {ins : Nat → Bool} {hld : Nat → Int32} {unt : Nat → Nat} {Y : YD} {ap : Nat} {ab hr ln : Nat → Nat} {sa : Nat → Int32} {mv : Int32} {nw : Nat} {lf : Int64} (hC : cR D V x (qS st rch bx wt ins hld unt Y ap ab hr ln sa mv nw lf)) (hI : qI kk (qS st rch bx wt ins hld unt Y ap ab hr ln sa mv nw lf)) {v1 v2 : Int32} : ZM l D yX1_move (ws_ yX1_move cX1_move 4 (some .int)) 8 3 18 eI V [.ref x, .int v1, .int v2] (fun r V' => (oMove (qS st rch bx wt ins hld unt Y ap ab hr ln sa mv nw lf) (vN v1) (vN v2)).1 = 0 ∧ r = (oMove (qS st rch bx wt ins hld unt Y ap ab hr ln sa mv nw lf) (vN v1) (vN v2)).2.1 ∧ cR D V' x (oMove (qS st rch bx wt ins hld unt Y ap ab hr ln sa mv nw lf) (vN v1) (vN v2)).2.2) (fun E V' => ∃ k, (["java/lang/IndexOutOfBoundsException", "java/lang/UnsupportedOperationException"] : List String)[k]? = some E ∧ (oMove (qS st rch bx wt ins hld unt Y ap ab hr ln sa mv nw lf) (vN v1) (vN v2)).1 = k + 1 ∧ cR D V' x (qS st rch bx wt ins hld unt Y ap ab hr ln sa mv nw lf)) := by
  refine z_enter (by decide +kernel) [(0, .ref x), (1, .int v1), (2, .int v2)] rfl (Nat.le_of_ble_eq_true rfl) (zcat_cons rfl (zcat_cons rfl (zcat_cons rfl zcat_nil))) (fun Γ C hQ => ?_)
  have hC0 := hC
  obtain ⟨y, yb, yh, rr, bb, al, t, d, cap, fb, fh, fr, fB, ba, hc, uc, fa, ma, aa, sl, Lb, Ct, mb, kc, hX, hY, hB, hA, hT⟩ := hC
  have hX : V x = some (.inr (0, [.ref y, .ref rr, .ref bb, .ref al, .ref t, .int (nI st), .int (nI bx), .int (nI (fC ins bx)), .int mv, .int (nI nw), .long lf])) := hX
  have hY : cY D V y yb yh rr fb fh fr ba bx st rch Y := hY
  have hB : cB D V bb fB ba bx wt ins hld unt hc uc := hB
  have hA : cA D V al d cap fa ma ba ap ab hr ln sa aa sl := hA
  have hT : cT V t Lb Ct mb kc ap hr ln sa aa sl := hT
  have hst : st ≤ 4 := hI.1.1
  have hbx : bx ≤ 20 := hI.1.2.1
  have hrc : ∀ s, s < st → rch s ≤ 4 := fun s hs => (hI.1.2.2.1 s hs).2
  have hwt : ∀ b, b < bx → wt b < 1000 := fun b hb => by have h9 : wt b ≤ 30 := (hI.1.2.2.2 b hb).2; omega
  have hg : yGood st bx ins Y := hI.2.1.1
  have hht : ∀ s, s < st → (Y s).length ≤ rch s := hI.2.1.2.1
  have hf8 : fC ins bx ≤ 8 := hI.2.1.2.2
  have hu1 : ∀ b, unt b ≤ 1000 := hI.2.2.1.2.1
  have hhl : ∀ b, b < bx → hld b = nI 45 ∨ hld b = nI 112 ∨ hld b = nI 108 := hI.2.2.1.2.2
  have hap : ap ≤ 30 := hI.2.2.2.1.1
  have haa : ∀ a, a < ap → ab a < bx ∧ hr a ≤ 999 ∧ ln a < 3 ∧ (sa a = nI 98 ∨ sa a = nI 99 ∨ sa a = nI 103 ∨ sa a = nI 100 ∨ sa a = nI 109) := hI.2.2.2.1.2.1
  have hnw : nw ≤ 999 := hI.2.2.2.2
  have hY4 : ∀ s, (Y s).length ≤ 4 := hg.1.1
  have hmm : ∀ s, ∀ c ∈ Y s, c < bx := fun s c hc => (hg.2.2 s c hc).1
  refine z_aload_n C 0 rfl dX1_move_0 rfl ?_
  refine z_iload_n C 1 rfl dX1_move_1 rfl ?_
  refine z_callV C k_Q hX (As := [.int v1]) (mX1_boxWith hX hY hB hA hT hI) (lw_V q471 q473 qs3 q58 q474) rfl hd_X1_boxWith rfl (Nat.le_of_ble_eq_true rfl) (by decide) (by decide) (by omega) (by omega) rfl dX1_move_2 (fun E V9 hE9 => ?_) (fun r1 V2 hP3 => ?_)
  · skip
    obtain ⟨rfl, rfl, hf4⟩ := hE9
    exact z_out C hQ (fun _ h => nomatch h) ⟨0, rfl, by rw [oMove_1 (S := (qS st rch bx wt ins hld unt Y ap ab hr ln sa mv nw lf)) (fun h => absurd h.1 (by rw [hf4]; decide))], hC0⟩ (by omega) (by omega)
  · skip
    obtain ⟨e9, hq9, e8⟩ := hP3
    rw [e9, e8]
    refine z_st (st' := [.ref (ba (vN v1))]) rfl ?_
    obtain ⟨hbb, hbi⟩ := qIs_t (S := (qS st rch bx wt ins hld unt Y ap ab hr ln sa mv nw lf)) hq9
    have hbb : vN v1 < bx := hbb
    have hbi : ins (vN v1) = true := hbi
    obtain ⟨p0, hb0⟩ := hg.2.1 _ hbb hbi
    have hb : vN v1 ∈ Y (yPl Y (vN v1)) := by rw [yPl_eq hg.1 hst hb0]; exact hb0
    have hpst := hg.1.lt hb
    have hyi := yIn_of hg hst hB.2.2.1 hbx hbb hbi
    obtain ⟨hk, hkl, hab⟩ := yAb_at hg.1 hst hb
    have hl4 := hY4 (yPl Y (vN v1))
    have hnd := hg.1.2.2.2.1 (yPl Y (vN v1))
    refine z_astore_n C [(3, .ref (ba (vN v1))), (0, .ref x), (1, .int v1), (2, .int v2)] dX1_move_5 rfl (by decide) rfl ?_
    refine z_aload_n C 1 rfl dX1_move_6 rfl ?_
    refine z_iload_n C 3 rfl dX1_move_7 rfl ?_
    refine z_callV C k_Q hX (As := [.int v2]) (mX1_checkStack hX hY hB hA hT hI) (lw_V q384 q386 qs2 q58 q387) rfl hd_X1_checkStack rfl (Nat.le_of_ble_eq_true rfl) (by decide) (by decide) (by omega) (by omega) rfl dX1_move_8 (fun E V9 hE9 => ?_) (fun r5 V6 hP7 => ?_)
    · skip
      obtain ⟨rfl, rfl, hf8⟩ := hE9
      exact z_out C hQ (fun _ h => nomatch h) ⟨0, rfl, by rw [oMove_1 (S := (qS st rch bx wt ins hld unt Y ap ab hr ln sa mv nw lf)) (fun h => hf8 h.2)], hC0⟩ (by omega) (by omega)
    · skip
      obtain ⟨e9, hs9⟩ := hP7
      rw [e9]
      refine z_st (st' := []) rfl ?_
      have hv9 := vN_of (v := v2) hs9 (by omega)
      have e10 : (.int v2 : Value) = .int (nI (vN v2)) := (congrArg Value.int hv9)
      refine z_lv (lv' := [(3, .ref (ba (vN v1))), (0, .ref x), (1, .int v1), (2, .int (nI (vN v2)))]) (by rw [e10]) ?_
      have hl4s := hY4 (vN v2)
      refine z_aload_n C 1 rfl dX1_move_11 rfl ?_
      refine z_aload_n C 1 rfl dX1_move_12 rfl ?_
      refine z_get C k_Q hX 0 (by decide) rfl q185 dX1_move_13 ?_
      refine z_aload_n C 0 rfl dX1_move_16 rfl ?_
      refine z_iload_n C 3 rfl dX1_move_17 rfl ?_
      refine z_callV C k_Q hX (As := [.ref y, .ref (ba (vN v1)), .int (nI (vN v2))]) (mX1_why_2 hX hY hB hA hT hI hY.1 hY.2.1 hg hbb hbi (s := vN v2) (by omega)) (lw_V q765 q767 qs10 q58 q768) rfl hd_X1_why_2 rfl (Nat.le_of_ble_eq_true rfl) (by decide) (by decide) (by omega) (by omega) rfl dX1_move_18 (fun _ _ h => h.elim) (fun r11 V12 hP13 => ?_)
      rw [hP13.1, hP13.2]
      refine z_st (st' := [.int (yWhy rch wt (pin' hld) Y (yPl Y (vN v1)) (vN v1) (vN v2))]) rfl ?_
      refine z_bipush C (v := (nI 45)) dX1_move_21 rfl ?_
      refine z_icmp_ne C 30 dX1_move_23 (by decide) (fun c23 => ?_) (fun c23 => ?_)
      · skip
        refine z_iconst C (v := (nI 0)) dX1_move_30 rfl ?_
        refine z_st (st' := [.int (zb false)]) rfl ?_
        refine z_callS C (As := [.int (zb false)]) (mX1_checkPossible) (lw_S q442 q443 q58 q444) hd_X1_checkPossible rfl (Nat.le_of_ble_eq_true rfl) (by decide) (by decide) (by omega) (by omega) rfl dX1_move_31 (fun E V9 hE9 => ?_) (fun r14 V15 hP16 => ?_)
        · skip
          obtain ⟨rfl, rfl, hf17⟩ := hE9
          exact z_out C hQ (fun _ h => nomatch h) ⟨1, rfl, by rw [oMove_2 (S := (qS st rch bx wt ins hld unt Y ap ab hr ln sa mv nw lf)) hq9 hs9 (yWhy_no c23)], hC0⟩ (by omega) (by omega)
        · skip
          obtain ⟨-, hb⟩ := hP16
          cases hb
      · skip
        refine z_iconst C (v := (nI 1)) dX1_move_26 rfl ?_
        refine z_goto C 31 dX1_move_27 (by decide) ?_
        refine z_st (st' := [.int (zb true)]) rfl ?_
        refine z_callS C (As := [.int (zb true)]) (mX1_checkPossible) (lw_S q442 q443 q58 q444) hd_X1_checkPossible rfl (Nat.le_of_ble_eq_true rfl) (by decide) (by decide) (by omega) (by omega) rfl dX1_move_31 (fun E V9 hE9 => ?_) (fun r18 V19 hP20 => ?_)
        · skip
          obtain ⟨-, -, hf⟩ := hE9
          cases hf
        · skip
          obtain ⟨e9, hb21⟩ := hP20
          rw [e9]
          refine z_st (st' := []) rfl ?_
          have hcan : yCan rch wt (pin' hld) Y (yPl Y (vN v1)) (vN v1) (vN v2) = true := yWhy_yes (hht _ hs9) (hrc _ hs9) c23
          obtain ⟨k1, k2, k3, k4⟩ := yCan_spec hcan
          refine z_aload_n C 1 rfl dX1_move_34 rfl ?_
          refine z_aload_n C 0 rfl dX1_move_35 rfl ?_
          refine z_iload_n C 3 rfl dX1_move_36 rfl ?_
          refine z_callV C k_Q hX (As := [.ref (ba (vN v1)), .int (nI (vN v2))]) (mX1_moveTo hX hY hB hA hT hI hbb hbi k1 hs9 k3 (by have h9 := hrc _ hs9; omega)) (lw_V q780 q782 qs11 q58 q783) rfl hd_X1_moveTo rfl (Nat.le_of_ble_eq_true rfl) (by decide) (by decide) (by omega) (by omega) rfl dX1_move_37 (fun _ _ h => h.elim) (fun r22 V23 hP24 => ?_)
          obtain ⟨fb2, fh2, hX9, hY9, hB9, hA9, hT9, hU9⟩ := hP24
          refine z_st (st' := []) rfl ?_
          refine z_aload_n C 1 rfl dX1_move_40 rfl ?_
          refine z_get C k_Q hX9 8 (by decide) rfl q193 dX1_move_41 ?_
          have e1 : oMove (qS st rch bx wt ins hld unt Y ap ab hr ln sa mv nw lf) (vN v1) (vN v2) = (0, mv + nI 1, sMv (sYd (qS st rch bx wt ins hld unt Y ap ab hr ln sa mv nw lf) (yMv Y (yPl Y (vN v1)) (vN v2) (vN v1))) (mv + nI 1)) := oMove_0 (S := (qS st rch bx wt ins hld unt Y ap ab hr ln sa mv nw lf)) hq9 hs9 hcan
          exact z_iret C hQ (mv + nI 1) rfl ⟨by rw [e1], by rw [e1], by rw [e1]; exact (show cR D _ x (sMv (sYd (qS st rch bx wt ins hld unt Y ap ab hr ln sa mv nw lf) (yMv Y (yPl Y (vN v1)) (vN v2) (vN v1))) (mv + nI 1)) from ⟨_, _, _, _, _, _, _, _, _, _, _, _, _, _, _, _, _, _, _, _, _, _, _, _, hX9, hY9, hB9, hA9, hT9⟩)⟩ (by omega) (by omega) dX1_move_44
