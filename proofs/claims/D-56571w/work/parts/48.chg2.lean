/-! COMPONENT: stacks, holds, ends, moves -/
set_option maxRecDepth 100000
set_option maxHeartbeats 4000000 in
set_option maxRecDepth 100000 in
theorem mX1_addStack {l : Launch} {D : ZD} {V : ZV} {x kk : Nat} {st : Nat} {rch : Nat → Nat} {bx : Nat} {wt : Nat → Nat} {ins : Nat → Bool} {hld : Nat → Int32} {unt : Nat → Nat} {Y : YD} {ap : Nat} {ab hr ln : Nat → Nat} {sa : Nat → Int32} {mv : Int32} {nw : Nat} {lf : Int64} (hC : cR D V x (qS st rch bx wt ins hld unt Y ap ab hr ln sa mv nw lf)) (hI : qI kk (qS st rch bx wt ins hld unt Y ap ab hr ln sa mv nw lf)) {v1 : Int32} : ZM l D yX1_addStack (ws_ yX1_addStack cX1_addStack 2 (some .int)) 8 2 12 eI V [.ref x, .int v1] (fun r V' => (oAddStack (qS st rch bx wt ins hld unt Y ap ab hr ln sa mv nw lf) (vN v1)).1 = 0 ∧ r = (oAddStack (qS st rch bx wt ins hld unt Y ap ab hr ln sa mv nw lf) (vN v1)).2.1 ∧ cR D V' x (oAddStack (qS st rch bx wt ins hld unt Y ap ab hr ln sa mv nw lf) (vN v1)).2.2) (fun E V' => ∃ k, (["java/lang/IllegalArgumentException", "java/lang/IllegalStateException"] : List String)[k]? = some E ∧ (oAddStack (qS st rch bx wt ins hld unt Y ap ab hr ln sa mv nw lf) (vN v1)).1 = k + 1 ∧ cR D V' x (qS st rch bx wt ins hld unt Y ap ab hr ln sa mv nw lf)) := by
  refine z_enter (by decide +kernel) [(0, .ref x), (1, .int v1)] rfl (Nat.le_of_ble_eq_true rfl) (zcat_cons rfl (zcat_cons rfl zcat_nil)) (fun Γ C hQ => ?_)
  have hC0 := hC
  obtain ⟨y, yb, yh, rr, bb, al, t, d, cap, fb, fh, fr, fB, ba, hc, uc, fa, ma, aa, sl, Lb, Ct, mb, kc, hX, hY, hB, hA, hT⟩ := hC
  have hX : V x = some (.inr (0, [.ref y, .ref rr, .ref bb, .ref al, .ref t, .int (nI st), .int (nI bx), .int (nI (fC ins bx)), .int mv, .int (nI nw), .long lf])) := hX
  have hY : cY D V y yb yh rr fb fh fr ba bx st rch Y := hY
  have hB : cB D V bb fB ba bx wt ins hld unt hc uc := hB
  have hA : cA D V al d cap fa ma ba ap ab hr ln sa aa sl := hA
  have hT : cT V t Lb Ct mb kc ap hr ln sa aa sl := hT
  have hst : st ≤ 4 := hI.1.1
  have hbx : bx ≤ 20 := hI.1.2.1
  have hrc : ∀ s, s < st → rch s ≤ 4 := fun s hs => (hI.1.2.2.1 s hs).2
  have hwt : ∀ b, b < bx → wt b < 1000 := fun b hb => by have h9 : wt b ≤ 30 := (hI.1.2.2.2 b hb).2; omega
  have hg : yGood st bx ins Y := hI.2.1.1
  have hht : ∀ s, s < st → (Y s).length ≤ rch s := hI.2.1.2.1
  have hf8 : fC ins bx ≤ 8 := hI.2.1.2.2
  have hu1 : ∀ b, unt b ≤ 1000 := hI.2.2.1.2.1
  have hhl : ∀ b, b < bx → hld b = nI 45 ∨ hld b = nI 112 ∨ hld b = nI 108 := hI.2.2.1.2.2
  have hap : ap ≤ 30 := hI.2.2.2.1.1
  have haa : ∀ a, a < ap → ab a < bx ∧ hr a ≤ 999 ∧ ln a < 3 ∧ (sa a = nI 98 ∨ sa a = nI 99 ∨ sa a = nI 103 ∨ sa a = nI 100 ∨ sa a = nI 109) := hI.2.2.2.1.2.1
  have hnw : nw ≤ 999 := hI.2.2.2.2
  have hY4 : ∀ s, (Y s).length ≤ 4 := hg.1.1
  have hmm : ∀ s, ∀ c ∈ Y s, c < bx := fun s c hc => (hg.2.2 s c hc).1
  refine z_iload_n C 1 rfl dX1_addStack_0 rfl ?_
  refine z_iconst C (v := (nI 1)) dX1_addStack_1 rfl ?_
  refine z_iconst C (v := (nI 4)) dX1_addStack_2 rfl ?_
  refine z_callS C (As := [.int v1, .int (nI 1), .int (nI 4)]) (mX1_isBetween) (lw_S q231 q232 q58 q233) hd_X1_isBetween rfl (Nat.le_of_ble_eq_true rfl) (by decide) (by decide) (by omega) (by omega) rfl dX1_addStack_3 (fun _ _ h => h.elim) (fun r1 V2 hP3 => ?_)
  have hq4 : r1 = decide (1 ≤ vN v1 ∧ vN v1 ≤ 4) := hP3.2.trans (in_le (by omega) (by omega))
  rw [hP3.1, hq4]
  refine z_st (st' := [.int (zb (decide (1 ≤ vN v1 ∧ vN v1 ≤ 4)))]) rfl ?_
  refine z_callS C (As := [.int (zb (decide (1 ≤ vN v1 ∧ vN v1 ≤ 4)))]) (mX1_checkArgument) (lw_S q255 q256 q58 q257) hd_X1_checkArgument rfl (Nat.le_of_ble_eq_true rfl) (by decide) (by decide) (by omega) (by omega) rfl dX1_addStack_6 (fun E V9 hE9 => ?_) (fun r5 V6 hP7 => ?_)
  · skip
    obtain ⟨rfl, rfl, hf8⟩ := hE9
    exact z_out C hQ (fun _ h => nomatch h) ⟨0, rfl, by unfold oAddStack; rw [if_pos (show ¬(1 ≤ vN v1 ∧ vN v1 ≤ 4) by simpa using hf8)], hC0⟩ (by omega) (by omega)
  · skip
    obtain ⟨e9, hb9⟩ := hP7
    rw [e9]
    refine z_st (st' := []) rfl ?_
    have hv14 : 1 ≤ vN v1 ∧ vN v1 ≤ 4 := by simpa using hb9
    have hv15 : vN v1 < 5 := by omega
    have hv10 := vN_of (v := v1) hv15 (by omega)
    have e11 : (.int v1 : Value) = .int (nI (vN v1)) := (congrArg Value.int hv10)
    refine z_lv (lv' := [(0, .ref x), (1, .int (nI (vN v1)))]) (by rw [e11]) ?_
    refine z_aload_n C 0 rfl dX1_addStack_9 rfl ?_
    refine z_get C k_Q hX 5 (by decide) rfl q190 dX1_addStack_10 ?_
    refine z_iconst C (v := (nI 4)) dX1_addStack_13 rfl ?_
    refine z_icmp_geN C 21 (by omega) (by omega) dX1_addStack_14 (by decide) (fun c14 => ?_) (fun c14 => ?_)
    · skip
      refine z_iconst C (v := (nI 0)) dX1_addStack_21 rfl ?_
      refine z_st (st' := [.int (zb false)]) rfl ?_
      refine z_callS C (As := [.int (zb false)]) (mX1_checkState) (lw_S q325 q326 q58 q327) hd_X1_checkState rfl (Nat.le_of_ble_eq_true rfl) (by decide) (by decide) (by omega) (by omega) rfl dX1_addStack_22 (fun E V9 hE9 => ?_) (fun r12 V13 hP14 => ?_)
      · skip
        obtain ⟨rfl, rfl, hf15⟩ := hE9
        exact z_out C hQ (fun _ h => nomatch h) ⟨1, rfl, by unfold oAddStack; rw [if_neg (fun h => h hv14), if_pos (show qst (qS st rch bx wt ins hld unt Y ap ab hr ln sa mv nw lf) = 4 by show st = 4; have := c14; omega)], hC0⟩ (by omega) (by omega)
      · skip
        obtain ⟨-, hb⟩ := hP14
        cases hb
    · skip
      refine z_iconst C (v := (nI 1)) dX1_addStack_17 rfl ?_
      refine z_goto C 22 dX1_addStack_18 (by decide) ?_
      refine z_st (st' := [.int (zb true)]) rfl ?_
      refine z_callS C (As := [.int (zb true)]) (mX1_checkState) (lw_S q325 q326 q58 q327) hd_X1_checkState rfl (Nat.le_of_ble_eq_true rfl) (by decide) (by decide) (by omega) (by omega) rfl dX1_addStack_22 (fun E V9 hE9 => ?_) (fun r16 V17 hP18 => ?_)
      · skip
        obtain ⟨-, -, hf⟩ := hE9
        cases hf
      · skip
        obtain ⟨e9, hb19⟩ := hP18
        rw [e9]
        refine z_st (st' := []) rfl ?_
        refine z_aload_n C 0 rfl dX1_addStack_25 rfl ?_
        refine z_get C k_Q hX 1 (by decide) rfl q186 dX1_addStack_26 ?_
        refine z_aload_n C 0 rfl dX1_addStack_29 rfl ?_
        refine z_get C k_Q hX 5 (by decide) rfl q190 dX1_addStack_30 ?_
        refine z_iload_n C 1 rfl dX1_addStack_33 rfl ?_
        refine z_iast C hY.2.2.2.1 (by omega) (by omega) dX1_addStack_34 (z_nV (fun V20 hV21 => ?_))
        have hY22 := cY.rr hY hV21
        have hB23 := hB.mv (up_u hV21) (up_k (k := 1) hY.2.2.2.1 rfl (by decide))
        have hA24 := hA.mv (up_u hV21) (up_k (k := 1) hY.2.2.2.1 rfl (by decide))
        have hT25 := hT.mv (up_u hV21) (up_k (k := 1) hY.2.2.2.1 rfl (by decide))
        have g26 := zup hV21 (zne_oa hX hY.2.2.2.1) hX
        refine z_aload_n C 0 rfl dX1_addStack_35 rfl ?_
        refine z_dup C dX1_addStack_36 rfl ?_
        refine z_get C k_Q g26 5 (by decide) rfl q190 dX1_addStack_37 ?_
        refine z_iconst C (v := (nI 1)) dX1_addStack_40 rfl ?_
        refine z_iaddN C dX1_addStack_41 ?_
        refine z_put C k_Q g26 5 (by decide) [.ref y, .ref rr, .ref bb, .ref al, .ref t, .int (nI (st + 1)), .int (nI bx), .int (nI (fC ins bx)), .int mv, .int (nI nw), .long lf] rfl (Nat.le_of_ble_eq_true rfl) rfl rfl rfl q190 dX1_addStack_42 (z_nV (fun V27 hV28 => ?_))
        have hY29 := hY22.mv (up_u hV28) (up_k (k := 0) g26 rfl (by decide))
        have hB30 := hB23.mv (up_u hV28) (up_k (k := 0) g26 rfl (by decide))
        have hA31 := hA24.mv (up_u hV28) (up_k (k := 0) g26 rfl (by decide))
        have hT32 := hT25.mv (up_u hV28) (up_k (k := 0) g26 rfl (by decide))
        have g33 : V27 x = some (.inr (0, [.ref y, .ref rr, .ref bb, .ref al, .ref t, .int (nI (st + 1)), .int (nI bx), .int (nI (fC ins bx)), .int mv, .int (nI nw), .long lf])) := zself hV28
        refine z_aload_n C 0 rfl dX1_addStack_45 rfl ?_
        refine z_get C k_Q g33 5 (by decide) rfl q190 dX1_addStack_46 ?_
        refine z_iconst C (v := (nI 1)) dX1_addStack_49 rfl ?_
        refine z_isub C dX1_addStack_50 ?_
        have hst4 : ¬ st = 4 := by have := c14; omega
        have e1 : oAddStack (qS st rch bx wt ins hld unt Y ap ab hr ln sa mv nw lf) (vN v1) = (0, ((nI (st + 1)) - (nI 1)), sStk (qS st rch bx wt ins hld unt Y ap ab hr ln sa mv nw lf) (st + 1) (va_up rch st (vN v1))) := by unfold oAddStack; rw [if_neg (fun h => h hv14), if_neg (show ¬ qst (qS st rch bx wt ins hld unt Y ap ab hr ln sa mv nw lf) = 4 from hst4), nI_m1n]; rfl
        exact z_iret C hQ ((nI (st + 1)) - (nI 1)) rfl ⟨by rw [e1], by rw [e1], by rw [e1]; exact (show cR D _ x (sStk (qS st rch bx wt ins hld unt Y ap ab hr ln sa mv nw lf) (st + 1) (va_up rch st (vN v1))) from ⟨_, _, _, _, _, _, _, _, _, _, _, _, _, _, _, _, _, _, _, _, _, _, _, _, g33, hY29, hB30, hA31, hT32⟩)⟩ (by omega) (by omega) dX1_addStack_51
set_option maxHeartbeats 4000000 in
set_option maxRecDepth 100000 in
theorem mX1_release {l : Launch} {D : ZD} {V : ZV} {x kk : Nat} {st : Nat} {rch : Nat → Nat} {bx : Nat} {wt : Nat → Nat} {ins : Nat → Bool} {hld : Nat → Int32} {unt : Nat → Nat} {Y : YD} {ap : Nat} {ab hr ln : Nat → Nat} {sa : Nat → Int32} {mv : Int32} {nw : Nat} {lf : Int64} (hC : cR D V x (qS st rch bx wt ins hld unt Y ap ab hr ln sa mv nw lf)) (hI : qI kk (qS st rch bx wt ins hld unt Y ap ab hr ln sa mv nw lf)) {v1 : Int32} : ZM l D yX1_release (ws_ yX1_release cX1_release 3 (some .int)) 8 2 12 eI V [.ref x, .int v1] (fun r V' => (oRelease (qS st rch bx wt ins hld unt Y ap ab hr ln sa mv nw lf) (vN v1)).1 = 0 ∧ r = (oRelease (qS st rch bx wt ins hld unt Y ap ab hr ln sa mv nw lf) (vN v1)).2.1 ∧ cR D V' x (oRelease (qS st rch bx wt ins hld unt Y ap ab hr ln sa mv nw lf) (vN v1)).2.2) (fun E V' => ∃ k, (["java/lang/IndexOutOfBoundsException", "java/lang/IllegalStateException"] : List String)[k]? = some E ∧ (oRelease (qS st rch bx wt ins hld unt Y ap ab hr ln sa mv nw lf) (vN v1)).1 = k + 1 ∧ cR D V' x (qS st rch bx wt ins hld unt Y ap ab hr ln sa mv nw lf)) := by
  refine z_enter (by decide +kernel) [(0, .ref x), (1, .int v1)] rfl (Nat.le_of_ble_eq_true rfl) (zcat_cons rfl (zcat_cons rfl zcat_nil)) (fun Γ C hQ => ?_)
  have hC0 := hC
  obtain ⟨y, yb, yh, rr, bb, al, t, d, cap, fb, fh, fr, fB, ba, hc, uc, fa, ma, aa, sl, Lb, Ct, mb, kc, hX, hY, hB, hA, hT⟩ := hC
  have hX : V x = some (.inr (0, [.ref y, .ref rr, .ref bb, .ref al, .ref t, .int (nI st), .int (nI bx), .int (nI (fC ins bx)), .int mv, .int (nI nw), .long lf])) := hX
  have hY : cY D V y yb yh rr fb fh fr ba bx st rch Y := hY
  have hB : cB D V bb fB ba bx wt ins hld unt hc uc := hB
  have hA : cA D V al d cap fa ma ba ap ab hr ln sa aa sl := hA
  have hT : cT V t Lb Ct mb kc ap hr ln sa aa sl := hT
  have hst : st ≤ 4 := hI.1.1
  have hbx : bx ≤ 20 := hI.1.2.1
  have hrc : ∀ s, s < st → rch s ≤ 4 := fun s hs => (hI.1.2.2.1 s hs).2
  have hwt : ∀ b, b < bx → wt b < 1000 := fun b hb => by have h9 : wt b ≤ 30 := (hI.1.2.2.2 b hb).2; omega
  have hg : yGood st bx ins Y := hI.2.1.1
  have hht : ∀ s, s < st → (Y s).length ≤ rch s := hI.2.1.2.1
  have hf8 : fC ins bx ≤ 8 := hI.2.1.2.2
  have hu1 : ∀ b, unt b ≤ 1000 := hI.2.2.1.2.1
  have hhl : ∀ b, b < bx → hld b = nI 45 ∨ hld b = nI 112 ∨ hld b = nI 108 := hI.2.2.1.2.2
  have hap : ap ≤ 30 := hI.2.2.2.1.1
  have haa : ∀ a, a < ap → ab a < bx ∧ hr a ≤ 999 ∧ ln a < 3 ∧ (sa a = nI 98 ∨ sa a = nI 99 ∨ sa a = nI 103 ∨ sa a = nI 100 ∨ sa a = nI 109) := hI.2.2.2.1.2.1
  have hnw : nw ≤ 999 := hI.2.2.2.2
  have hY4 : ∀ s, (Y s).length ≤ 4 := hg.1.1
  have hmm : ∀ s, ∀ c ∈ Y s, c < bx := fun s c hc => (hg.2.2 s c hc).1
  refine z_aload_n C 0 rfl dX1_release_0 rfl ?_
  refine z_iload_n C 1 rfl dX1_release_1 rfl ?_
  refine z_callV C k_Q hX (As := [.int v1]) (mX1_boxWith hX hY hB hA hT hI) (lw_V q471 q473 qs3 q58 q474) rfl hd_X1_boxWith rfl (Nat.le_of_ble_eq_true rfl) (by decide) (by decide) (by omega) (by omega) rfl dX1_release_2 (fun E V9 hE9 => ?_) (fun r1 V2 hP3 => ?_)
  · skip
    obtain ⟨rfl, rfl, hf4⟩ := hE9
    exact z_out C hQ (fun _ h => nomatch h) ⟨0, rfl, by unfold oRelease; rw [if_pos hf4], hC0⟩ (by omega) (by omega)
  · skip
    obtain ⟨e9, hq9, e8⟩ := hP3
    rw [e9, e8]
    refine z_st (st' := [.ref (ba (vN v1))]) rfl ?_
    obtain ⟨hbb, hbi⟩ := qIs_t (S := (qS st rch bx wt ins hld unt Y ap ab hr ln sa mv nw lf)) hq9
    have hbb : vN v1 < bx := hbb
    have hbi : ins (vN v1) = true := hbi
    have hhc := hB.2.2.2 _ hbb hbi
    refine z_astore_n C [(2, .ref (ba (vN v1))), (0, .ref x), (1, .int v1)] dX1_release_5 rfl (by decide) rfl ?_
    refine z_aload_n C 0 rfl dX1_release_6 rfl ?_
    refine z_getN C k_B (hB.2.2.1 (vN v1) hbb) 2 (by decide) rfl q418 dX1_release_7 ?_
    refine z_bipush C (v := (nI 45)) dX1_release_10 rfl ?_
    refine z_icmp_eq C 19 dX1_release_12 (by decide) (fun c12 => ?_) (fun c12 => ?_)
    · skip
      refine z_iconst C (v := (nI 0)) dX1_release_19 rfl ?_
      refine z_st (st' := [.int (zb false)]) rfl ?_
      refine z_callS C (As := [.int (zb false)]) (mX1_checkState) (lw_S q325 q326 q58 q327) hd_X1_checkState rfl (Nat.le_of_ble_eq_true rfl) (by decide) (by decide) (by omega) (by omega) rfl dX1_release_20 (fun E V9 hE9 => ?_) (fun r5 V6 hP7 => ?_)
      · skip
        obtain ⟨rfl, rfl, hf8⟩ := hE9
        exact z_out C hQ (fun _ h => nomatch h) ⟨1, rfl, by unfold oRelease; rw [if_neg (show ¬ qIs (qS st rch bx wt ins hld unt Y ap ab hr ln sa mv nw lf) (vN v1) = false by rw [hq9]; decide), if_pos (show qhld (qS st rch bx wt ins hld unt Y ap ab hr ln sa mv nw lf) (vN v1) = nI 45 from hhc.1.symm.trans c12)], hC0⟩ (by omega) (by omega)
      · skip
        obtain ⟨-, hb⟩ := hP7
        cases hb
    · skip
      refine z_iconst C (v := (nI 1)) dX1_release_15 rfl ?_
      refine z_goto C 20 dX1_release_16 (by decide) ?_
      refine z_st (st' := [.int (zb true)]) rfl ?_
      refine z_callS C (As := [.int (zb true)]) (mX1_checkState) (lw_S q325 q326 q58 q327) hd_X1_checkState rfl (Nat.le_of_ble_eq_true rfl) (by decide) (by decide) (by omega) (by omega) rfl dX1_release_20 (fun E V9 hE9 => ?_) (fun r9 V10 hP11 => ?_)
      · skip
        obtain ⟨-, -, hf⟩ := hE9
        cases hf
      · skip
        obtain ⟨e9, hb12⟩ := hP11
        rw [e9]
        refine z_st (st' := []) rfl ?_
        refine z_aload_n C 0 rfl dX1_release_23 rfl ?_
        refine z_bipush C (v := (nI 45)) dX1_release_24 rfl ?_
        refine z_putN C k_B (hB.2.2.1 (vN v1) hbb) 2 (by decide) [.int (nI (vN v1)), .int (nI (wt (vN v1))), .int (nI 45), .int (nI (uc (vN v1)))] rfl (Nat.le_of_ble_eq_true rfl) (by decide) (by decide) rfl q418 dX1_release_26 (z_nV (fun V13 hV14 => ?_))
        have hY15 := hY.mv (up_u hV14) (up_k (k := 2) (hB.2.2.1 (vN v1) hbb) rfl (by decide))
        have hB16 := cB.ho hB hbx hbb hV14
        have hA17 := hA.mv (up_u hV14) (up_k (k := 2) (hB.2.2.1 (vN v1) hbb) rfl (by decide))
        have hT18 := hT.mv (up_u hV14) (up_k (k := 2) (hB.2.2.1 (vN v1) hbb) rfl (by decide))
        have g19 := zup hV14 (zne_cc hX (hB.2.2.1 (vN v1) hbb) (by decide)) hX
        have g20 : V13 (ba (vN v1)) = some (.inr (3, [.int (nI (vN v1)), .int (nI (wt (vN v1))), .int (nI 45), .int (nI (uc (vN v1)))])) := zself hV14
        refine z_aload_n C 0 rfl dX1_release_29 rfl ?_
        refine z_getN C k_B g20 3 (by decide) rfl q420 dX1_release_30 ?_
        have e1 : oRelease (qS st rch bx wt ins hld unt Y ap ab hr ln sa mv nw lf) (vN v1) = (0, (nI (uc (vN v1))), sHld (qS st rch bx wt ins hld unt Y ap ab hr ln sa mv nw lf) (va_up hld (vN v1) (nI 45))) := by unfold oRelease; rw [if_neg (show ¬ qIs (qS st rch bx wt ins hld unt Y ap ab hr ln sa mv nw lf) (vN v1) = false by rw [hq9]; decide), if_neg (show ¬ qhld (qS st rch bx wt ins hld unt Y ap ab hr ln sa mv nw lf) (vN v1) = nI 45 from fun h => c12 (hhc.1.trans h)), hhc.2]; rfl
        exact z_iret C hQ (nI (uc (vN v1))) rfl ⟨by rw [e1], by rw [e1], by rw [e1]; exact (show cR D _ x (sHld (qS st rch bx wt ins hld unt Y ap ab hr ln sa mv nw lf) (va_up hld (vN v1) (nI 45))) from ⟨_, _, _, _, _, _, _, _, _, _, _, _, _, _, _, _, _, _, _, _, _, _, _, _, g19, hY15, hB16, hA17, hT18⟩)⟩ (by omega) (by omega) dX1_release_33
set_option maxHeartbeats 4000000 in
set_option maxRecDepth 100000 in
theorem mX1_end {l : Launch} {D : ZD} {V : ZV} {kk x y yb yh rr bb al t d cap : Nat} {fb : Nat → Option Nat} {fh fr : Nat → Int32} {fB : Nat → Option Nat} {ba : Nat → Nat} {hc : Nat → Int32} {uc : Nat → Nat} {fa : Nat → Option Nat} {ma : Int32} {aa sl : Nat → Nat} {Lb : List Nat} {Ct : List (Nat × Nat)} {mb : Int32} {kc : Nat → List Nat} {st : Nat} {rch : Nat → Nat} {bx : Nat} {wt : Nat → Nat} {ins : Nat → Bool} {hld : Nat → Int32} {unt : Nat → Nat} {Y : YD} {ap : Nat} {ab hr ln : Nat → Nat} {sa : Nat → Int32} {mv : Int32} {nw : Nat} {lf : Int64} (hX : V x = some (.inr (0, [.ref y, .ref rr, .ref bb, .ref al, .ref t, .int (nI st), .int (nI bx), .int (nI (fC ins bx)), .int mv, .int (nI nw), .long lf]))) (hY : cY D V y yb yh rr fb fh fr ba bx st rch Y) (hB : cB D V bb fB ba bx wt ins hld unt hc uc) (hA : cA D V al d cap fa ma ba ap ab hr ln sa aa sl) (hT : cT V t Lb Ct mb kc ap hr ln sa aa sl) (hI : qI kk (qS st rch bx wt ins hld unt Y ap ab hr ln sa mv nw lf)) {a0 : Nat} {c0 : Int32} (ha0 : a0 < ap) (hs0 : sa a0 = nI 98) (hc0 : c0 ≠ nI 98) (hnc : narrow .char (.int c0) = .int c0) (hfc : fits .char (.int c0) = true) : ZM l D yX1_end (ws_ yX1_end cX1_end 3 none) 5 0 0 eU V [.ref x, .ref (aa a0), .int c0] (fun r V' => ∃ Lb2 Ct2 mb2, V' x = some (.inr (0, [.ref y, .ref rr, .ref bb, .ref al, .ref t, .int (nI st), .int (nI bx), .int (nI (fC ins bx)), .int mv, .int (nI nw), .long lf])) ∧ cY D V' y yb yh rr fb fh fr ba bx st rch Y ∧ cB D V' bb fB ba bx wt ins hld unt hc uc ∧ cA D V' al d cap fa ma ba ap ab hr ln (va_up sa a0 c0) aa sl ∧ cT V' t Lb2 Ct2 mb2 kc ap hr ln (va_up sa a0 c0) aa sl) zno_x := by
  refine z_enter (by decide +kernel) [(0, .ref x), (1, .ref (aa a0)), (2, .int c0)] rfl (Nat.le_of_ble_eq_true rfl) (zcat_cons rfl (zcat_cons rfl (zcat_cons rfl zcat_nil))) (fun Γ C hQ => ?_)
  have hst : st ≤ 4 := hI.1.1
  have hbx : bx ≤ 20 := hI.1.2.1
  have hrc : ∀ s, s < st → rch s ≤ 4 := fun s hs => (hI.1.2.2.1 s hs).2
  have hwt : ∀ b, b < bx → wt b < 1000 := fun b hb => by have h9 : wt b ≤ 30 := (hI.1.2.2.2 b hb).2; omega
  have hg : yGood st bx ins Y := hI.2.1.1
  have hht : ∀ s, s < st → (Y s).length ≤ rch s := hI.2.1.2.1
  have hf8 : fC ins bx ≤ 8 := hI.2.1.2.2
  have hu1 : ∀ b, unt b ≤ 1000 := hI.2.2.1.2.1
  have hhl : ∀ b, b < bx → hld b = nI 45 ∨ hld b = nI 112 ∨ hld b = nI 108 := hI.2.2.1.2.2
  have hap : ap ≤ 30 := hI.2.2.2.1.1
  have haa : ∀ a, a < ap → ab a < bx ∧ hr a ≤ 999 ∧ ln a < 3 ∧ (sa a = nI 98 ∨ sa a = nI 99 ∨ sa a = nI 103 ∨ sa a = nI 100 ∨ sa a = nI 109) := hI.2.2.2.1.2.1
  have hnw : nw ≤ 999 := hI.2.2.2.2
  have hY4 : ∀ s, (Y s).length ≤ 4 := hg.1.1
  have hmm : ∀ s, ∀ c ∈ Y s, c < bx := fun s c hc => (hg.2.2 s c hc).1
  refine z_aload_n C 1 rfl dX1_end_0 rfl ?_
  refine z_iload_n C 2 rfl dX1_end_1 rfl ?_
  refine z_putN C k_A (hA.2.1 a0 ha0) 3 (by decide) [.int (nI a0), .ref (ba (ab a0)), .ref (sl a0), .int c0] rfl (Nat.le_of_ble_eq_true rfl) hnc hfc rfl q1178 dX1_end_2 (z_nV (fun V1 hV2 => ?_))
  have hY3 := hY.mv (up_u hV2) (up_k (k := 3) (hA.2.1 a0 ha0) rfl (by decide))
  have hB4 := hB.mv (up_u hV2) (up_k (k := 3) (hA.2.1 a0 ha0) rfl (by decide))
  have hA5 := cA.st hA hap ha0 hV2
  have hT6 := hT.mv (up_u hV2) (up_k (k := 3) (hA.2.1 a0 ha0) rfl (by decide))
  have g7 := zup hV2 (zne_cc hX (hA.2.1 a0 ha0) (by decide)) hX
  refine z_aload_n C 0 rfl dX1_end_5 rfl ?_
  refine z_get C k_Q g7 4 (by decide) rfl q189 dX1_end_6 ?_
  refine z_aload_n C 1 rfl dX1_end_9 rfl ?_
  refine z_getN C k_A (hA5.2.1 a0 ha0) 2 (by decide) rfl q1176 dX1_end_10 ?_
  obtain ⟨ft, hft⟩ := hT6.1.ob
  refine z_callV C k_TM hft (As := [.ref (sl a0)]) (mJ4_remove_S hT6.1 (hA5.2.2 a0 ha0) (cT_cmp hA5.2.2 hT6 (fun a ha => ⟨by have := (haa a ha).2.1; omega, by have := (haa a ha).2.2.1; omega⟩) (hA5.2.2 a0 ha0) (by have := (haa a0 ha0).2.1; omega) (by have := (haa a0 ha0).2.2.1; omega)) hT6.2.1) (lw_V q618 q619 q620 q64 q621) rfl hd_J4_remove rfl (Nat.le_of_ble_eq_true rfl) (by decide) (by decide) (by omega) (by omega) rfl dX1_end_13 (fun _ _ h => h.elim) (fun r8 V9 hP10 => ?_)
  rcases hP10 with ⟨j, q0, L2, hj, hk0, hr0, hM2, hsub, hU2⟩ | ⟨-, -, hno⟩
  · skip
    refine z_st (st' := [va_rf r8]) rfl ?_
    have hT9 := cT.endd hT6 hI.2.2.2.1.2.2.2 ha0 hs0 hc0 hj hk0 hM2
    have hY11 := hY3.mv hU2 (fun z e hz hs => by obtain ⟨e2, h2, h3⟩ := hT6.1.kd z hs; rw [hz] at h2; cases h2; rw [h3]; decide)
    have hB12 := hB4.mv hU2 (fun z e hz hs => by obtain ⟨e2, h2, h3⟩ := hT6.1.kd z hs; rw [hz] at h2; cases h2; rw [h3]; decide)
    have hA13 := hA5.mv hU2 (fun z e hz hs => by obtain ⟨e2, h2, h3⟩ := hT6.1.kd z hs; rw [hz] at h2; cases h2; rw [h3]; decide)
    have g14 := hU2.get (fun hs => by obtain ⟨e2, h2, h3⟩ := hT6.1.kd x hs; rw [g7] at h2; cases h2; exact absurd (show (0 : Nat) = 4 from h3) (by decide)) g7
    refine z_pop C dX1_end_16 (va_rf_cat _) ?_
    exact z_vret C hQ () rfl ⟨_, _, _, g14, hY11, hB12, hA13, hT9⟩ (by omega) (by omega) dX1_end_17
  · exfalso; exact hno _ (hT6.2.2.2.2.1 a0 ha0 hs0) (hT6.2.2.1 a0 ha0)
set_option maxHeartbeats 4000000 in
set_option maxRecDepth 100000 in
theorem mX1_cancel {l : Launch} {D : ZD} {V : ZV} {x kk : Nat} {st : Nat} {rch : Nat → Nat} {bx : Nat} {wt : Nat → Nat} {ins : Nat → Bool} {hld : Nat → Int32} {unt : Nat → Nat} {Y : YD} {ap : Nat} {ab hr ln : Nat → Nat} {sa : Nat → Int32} {mv : Int32} {nw : Nat} {lf : Int64} (hC : cR D V x (qS st rch bx wt ins hld unt Y ap ab hr ln sa mv nw lf)) (hI : qI kk (qS st rch bx wt ins hld unt Y ap ab hr ln sa mv nw lf)) {v1 : Int32} : ZM l D yX1_cancel (ws_ yX1_cancel cX1_cancel 3 (some .int)) 8 2 12 eI V [.ref x, .int v1] (fun r V' => (oCancel (qS st rch bx wt ins hld unt Y ap ab hr ln sa mv nw lf) (vN v1)).1 = 0 ∧ r = (oCancel (qS st rch bx wt ins hld unt Y ap ab hr ln sa mv nw lf) (vN v1)).2.1 ∧ cR D V' x (oCancel (qS st rch bx wt ins hld unt Y ap ab hr ln sa mv nw lf) (vN v1)).2.2) (fun E V' => ∃ k, (["java/lang/IndexOutOfBoundsException", "java/lang/IllegalStateException"] : List String)[k]? = some E ∧ (oCancel (qS st rch bx wt ins hld unt Y ap ab hr ln sa mv nw lf) (vN v1)).1 = k + 1 ∧ cR D V' x (qS st rch bx wt ins hld unt Y ap ab hr ln sa mv nw lf)) := by
  refine z_enter (by decide +kernel) [(0, .ref x), (1, .int v1)] rfl (Nat.le_of_ble_eq_true rfl) (zcat_cons rfl (zcat_cons rfl zcat_nil)) (fun Γ C hQ => ?_)
  have hC0 := hC
  obtain ⟨y, yb, yh, rr, bb, al, t, d, cap, fb, fh, fr, fB, ba, hc, uc, fa, ma, aa, sl, Lb, Ct, mb, kc, hX, hY, hB, hA, hT⟩ := hC
  have hX : V x = some (.inr (0, [.ref y, .ref rr, .ref bb, .ref al, .ref t, .int (nI st), .int (nI bx), .int (nI (fC ins bx)), .int mv, .int (nI nw), .long lf])) := hX
  have hY : cY D V y yb yh rr fb fh fr ba bx st rch Y := hY
  have hB : cB D V bb fB ba bx wt ins hld unt hc uc := hB
  have hA : cA D V al d cap fa ma ba ap ab hr ln sa aa sl := hA
  have hT : cT V t Lb Ct mb kc ap hr ln sa aa sl := hT
  have hst : st ≤ 4 := hI.1.1
  have hbx : bx ≤ 20 := hI.1.2.1
  have hrc : ∀ s, s < st → rch s ≤ 4 := fun s hs => (hI.1.2.2.1 s hs).2
  have hwt : ∀ b, b < bx → wt b < 1000 := fun b hb => by have h9 : wt b ≤ 30 := (hI.1.2.2.2 b hb).2; omega
  have hg : yGood st bx ins Y := hI.2.1.1
  have hht : ∀ s, s < st → (Y s).length ≤ rch s := hI.2.1.2.1
  have hf8 : fC ins bx ≤ 8 := hI.2.1.2.2
  have hu1 : ∀ b, unt b ≤ 1000 := hI.2.2.1.2.1
  have hhl : ∀ b, b < bx → hld b = nI 45 ∨ hld b = nI 112 ∨ hld b = nI 108 := hI.2.2.1.2.2
  have hap : ap ≤ 30 := hI.2.2.2.1.1
  have haa : ∀ a, a < ap → ab a < bx ∧ hr a ≤ 999 ∧ ln a < 3 ∧ (sa a = nI 98 ∨ sa a = nI 99 ∨ sa a = nI 103 ∨ sa a = nI 100 ∨ sa a = nI 109) := hI.2.2.2.1.2.1
  have hnw : nw ≤ 999 := hI.2.2.2.2
  have hY4 : ∀ s, (Y s).length ≤ 4 := hg.1.1
  have hmm : ∀ s, ∀ c ∈ Y s, c < bx := fun s c hc => (hg.2.2 s c hc).1
  refine z_aload_n C 0 rfl dX1_cancel_0 rfl ?_
  refine z_iload_n C 1 rfl dX1_cancel_1 rfl ?_
  refine z_callV C k_Q hX (As := [.int v1]) (mX1_appointmentWith hX hY hB hA hT hI) (lw_V q1221 q1223 qs26 q58 q1224) rfl hd_X1_appointmentWith rfl (Nat.le_of_ble_eq_true rfl) (by decide) (by decide) (by omega) (by omega) rfl dX1_cancel_2 (fun E V9 hE9 => ?_) (fun r1 V2 hP3 => ?_)
  · skip
    obtain ⟨rfl, rfl, hf4⟩ := hE9
    exact z_out C hQ (fun _ h => nomatch h) ⟨0, rfl, by unfold oCancel; rw [if_pos (show ¬ vN v1 < qap (qS st rch bx wt ins hld unt Y ap ab hr ln sa mv nw lf) from hf4)], hC0⟩ (by omega) (by omega)
  · skip
    obtain ⟨e9, hal, e8⟩ := hP3
    rw [e9, e8]
    refine z_st (st' := [.ref (aa (vN v1))]) rfl ?_
    refine z_astore_n C [(2, .ref (aa (vN v1))), (0, .ref x), (1, .int v1)] dX1_cancel_5 rfl (by decide) rfl ?_
    refine z_aload_n C 0 rfl dX1_cancel_6 rfl ?_
    refine z_getN C k_A (hA.2.1 (vN v1) hal) 3 (by decide) rfl q1178 dX1_cancel_7 ?_
    refine z_bipush C (v := (nI 98)) dX1_cancel_10 rfl ?_
    refine z_icmp_ne C 19 dX1_cancel_12 (by decide) (fun c12 => ?_) (fun c12 => ?_)
    · skip
      refine z_iconst C (v := (nI 0)) dX1_cancel_19 rfl ?_
      refine z_st (st' := [.int (zb false)]) rfl ?_
      refine z_callS C (As := [.int (zb false)]) (mX1_checkState) (lw_S q325 q326 q58 q327) hd_X1_checkState rfl (Nat.le_of_ble_eq_true rfl) (by decide) (by decide) (by omega) (by omega) rfl dX1_cancel_20 (fun E V9 hE9 => ?_) (fun r5 V6 hP7 => ?_)
      · skip
        obtain ⟨rfl, rfl, hf8⟩ := hE9
        exact z_out C hQ (fun _ h => nomatch h) ⟨1, rfl, by unfold oCancel; rw [if_neg (show ¬ ¬ vN v1 < qap (qS st rch bx wt ins hld unt Y ap ab hr ln sa mv nw lf) from fun h => h hal), if_pos (show ¬ qsa (qS st rch bx wt ins hld unt Y ap ab hr ln sa mv nw lf) (vN v1) = nI 98 from c12)], hC0⟩ (by omega) (by omega)
      · skip
        obtain ⟨-, hb⟩ := hP7
        cases hb
    · skip
      refine z_iconst C (v := (nI 1)) dX1_cancel_15 rfl ?_
      refine z_goto C 20 dX1_cancel_16 (by decide) ?_
      refine z_st (st' := [.int (zb true)]) rfl ?_
      refine z_callS C (As := [.int (zb true)]) (mX1_checkState) (lw_S q325 q326 q58 q327) hd_X1_checkState rfl (Nat.le_of_ble_eq_true rfl) (by decide) (by decide) (by omega) (by omega) rfl dX1_cancel_20 (fun E V9 hE9 => ?_) (fun r9 V10 hP11 => ?_)
      · skip
        obtain ⟨-, -, hf⟩ := hE9
        cases hf
      · skip
        obtain ⟨e9, hb12⟩ := hP11
        rw [e9]
        refine z_st (st' := []) rfl ?_
        refine z_aload_n C 1 rfl dX1_cancel_23 rfl ?_
        refine z_aload_n C 0 rfl dX1_cancel_24 rfl ?_
        refine z_bipush C (v := (nI 99)) dX1_cancel_25 rfl ?_
        refine z_callV C k_Q hX (As := [.ref (aa (vN v1)), .int (nI 99)]) (mX1_end hX hY hB hA hT hI (c0 := (nI 99)) hal c12 (by decide) rfl rfl) (lw_V q614 q616 qs5 q58 q617) rfl hd_X1_end rfl (Nat.le_of_ble_eq_true rfl) (by decide) (by decide) (by omega) (by omega) rfl dX1_cancel_27 (fun _ _ h => h.elim) (fun r13 V14 hP15 => ?_)
        obtain ⟨Lb2, Ct2, mb2, hX9, hY9, hB9, hA9, hT9⟩ := hP15
        refine z_st (st' := []) rfl ?_
        refine z_aload_n C 1 rfl dX1_cancel_30 rfl ?_
        refine z_get C k_Q hX9 4 (by decide) rfl q189 dX1_cancel_31 ?_
        obtain ⟨ft, hft⟩ := hT9.1.ob
        refine z_callV C k_TM hft (As := []) (mJ4_size hT9.1) (lw_V q1244 q958 q959 q64 q960) rfl hd_J4_size rfl (Nat.le_of_ble_eq_true rfl) (by decide) (by decide) (by omega) (by omega) rfl dX1_cancel_34 (fun _ _ h => h.elim) (fun r16 V17 hP18 => ?_)
        rw [hP18.1, hP18.2]
        refine z_st (st' := [.int (nI Ct2.length)]) rfl ?_
        have e1 : oCancel (qS st rch bx wt ins hld unt Y ap ab hr ln sa mv nw lf) (vN v1) = (0, (nI Ct2.length), sSa (qS st rch bx wt ins hld unt Y ap ab hr ln sa mv nw lf) (vN v1) (nI 99)) := by unfold oCancel; rw [if_neg (show ¬ ¬ vN v1 < qap (qS st rch bx wt ins hld unt Y ap ab hr ln sa mv nw lf) from fun h => h hal), if_neg (show ¬ ¬ qsa (qS st rch bx wt ins hld unt Y ap ab hr ln sa mv nw lf) (vN v1) = nI 98 from fun h => h c12), hT9.2.2.2.2.2]; rfl
        exact z_iret C hQ (nI Ct2.length) rfl ⟨by rw [e1], by rw [e1], by rw [e1]; exact (show cR D _ x (sSa (qS st rch bx wt ins hld unt Y ap ab hr ln sa mv nw lf) (vN v1) (nI 99)) from ⟨_, _, _, _, _, _, _, _, _, _, _, _, _, _, _, _, _, _, _, _, _, _, _, _, hX9, hY9, hB9, hA9, hT9⟩)⟩ (by omega) (by omega) dX1_cancel_37
