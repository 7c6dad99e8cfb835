/-! COMPONENT: more reading -/
set_option maxRecDepth 100000
theorem oWhy_t {S : QS} {b s : Nat} (h1 : qIs S b = true) (h2 : s < qst S) : oWhy S b s = (0, yWhy (qrch S) (qwt S) (pin' (qhld S)) (qY S) (yPl (qY S) b) b s, S) := by unfold oWhy; rw [if_pos ⟨h1, h2⟩]
theorem oWhy_f {S : QS} {b s : Nat} (h : ¬(qIs S b = true ∧ s < qst S)) : oWhy S b s = (1, 0, S) := by unfold oWhy; rw [if_neg h]

set_option maxHeartbeats 4000000 in
set_option maxRecDepth 100000 in
theorem mX1_height {l : Launch} {D : ZD} {V : ZV} {x kk : Nat} {st : Nat} {rch : Nat → Nat} {bx : Nat} {wt : Nat → Nat} {ins : Nat → Bool} {hld : Nat → Int32} {unt : Nat → Nat} {Y : YD} {ap : Nat} {ab hr ln : Nat → Nat} {sa : Nat → Int32} {mv : Int32} {nw : Nat} {lf : Int64} (hC : cR D V x (qS st rch bx wt ins hld unt Y ap ab hr ln sa mv nw lf)) (hI : qI kk (qS st rch bx wt ins hld unt Y ap ab hr ln sa mv nw lf)) {v1 : Int32} : ZM l D yX1_height (ws_ yX1_height cX1_height 2 (some .int)) 8 1 6 eI V [.ref x, .int v1] (fun r V' => (oHeight (qS st rch bx wt ins hld unt Y ap ab hr ln sa mv nw lf) (vN v1)).1 = 0 ∧ r = (oHeight (qS st rch bx wt ins hld unt Y ap ab hr ln sa mv nw lf) (vN v1)).2.1 ∧ cR D V' x (oHeight (qS st rch bx wt ins hld unt Y ap ab hr ln sa mv nw lf) (vN v1)).2.2) (fun E V' => ∃ k, (["java/lang/IndexOutOfBoundsException"] : List String)[k]? = some E ∧ (oHeight (qS st rch bx wt ins hld unt Y ap ab hr ln sa mv nw lf) (vN v1)).1 = k + 1 ∧ cR D V' x (qS st rch bx wt ins hld unt Y ap ab hr ln sa mv nw lf)) := by
  refine z_enter (by decide +kernel) [(0, .ref x), (1, .int v1)] rfl (Nat.le_of_ble_eq_true rfl) (zcat_cons rfl (zcat_cons rfl zcat_nil)) (fun Γ C hQ => ?_)
  have hC0 := hC
  obtain ⟨y, yb, yh, rr, bb, al, t, d, cap, fb, fh, fr, fB, ba, hc, uc, fa, ma, aa, sl, Lb, Ct, mb, kc, hX, hY, hB, hA, hT⟩ := hC
  have hX : V x = some (.inr (0, [.ref y, .ref rr, .ref bb, .ref al, .ref t, .int (nI st), .int (nI bx), .int (nI (fC ins bx)), .int mv, .int (nI nw), .long lf])) := hX
  have hY : cY D V y yb yh rr fb fh fr ba bx st rch Y := hY
  have hB : cB D V bb fB ba bx wt ins hld unt hc uc := hB
  have hA : cA D V al d cap fa ma ba ap ab hr ln sa aa sl := hA
  have hT : cT V t Lb Ct mb kc ap hr ln sa aa sl := hT
  have hst : st ≤ 4 := hI.1.1
  have hbx : bx ≤ 20 := hI.1.2.1
  have hrc : ∀ s, s < st → rch s ≤ 4 := fun s hs => (hI.1.2.2.1 s hs).2
  have hwt : ∀ b, b < bx → wt b < 1000 := fun b hb => by have h9 : wt b ≤ 30 := (hI.1.2.2.2 b hb).2; omega
  have hg : yGood st bx ins Y := hI.2.1.1
  have hht : ∀ s, s < st → (Y s).length ≤ rch s := hI.2.1.2.1
  have hf8 : fC ins bx ≤ 8 := hI.2.1.2.2
  have hu1 : ∀ b, unt b ≤ 1000 := hI.2.2.1.2.1
  have hhl : ∀ b, b < bx → hld b = nI 45 ∨ hld b = nI 112 ∨ hld b = nI 108 := hI.2.2.1.2.2
  have hap : ap ≤ 30 := hI.2.2.2.1.1
  have haa : ∀ a, a < ap → ab a < bx ∧ hr a ≤ 999 ∧ ln a < 3 ∧ (sa a = nI 98 ∨ sa a = nI 99 ∨ sa a = nI 103 ∨ sa a = nI 100 ∨ sa a = nI 109) := hI.2.2.2.1.2.1
  have hnw : nw ≤ 999 := hI.2.2.2.2
  have hY4 : ∀ s, (Y s).length ≤ 4 := hg.1.1
  have hmm : ∀ s, ∀ c ∈ Y s, c < bx := fun s c hc => (hg.2.2 s c hc).1
  refine z_aload_n C 0 rfl dX1_height_0 rfl ?_
  refine z_iload_n C 1 rfl dX1_height_1 rfl ?_
  refine z_callV C k_Q hX (As := [.int v1]) (mX1_checkStack hX hY hB hA hT hI) (lw_V q384 q386 qs2 q58 q387) rfl hd_X1_checkStack rfl (Nat.le_of_ble_eq_true rfl) (by decide) (by decide) (by omega) (by omega) rfl dX1_height_2 (fun E V9 hE9 => ?_) (fun r1 V2 hP3 => ?_)
  · skip
    obtain ⟨rfl, rfl, hf4⟩ := hE9
    exact z_out C hQ (fun _ h => nomatch h) ⟨0, rfl, by rw [(show oHeight (qS st rch bx wt ins hld unt Y ap ab hr ln sa mv nw lf) (vN v1) = (1, 0, (qS st rch bx wt ins hld unt Y ap ab hr ln sa mv nw lf)) by unfold oHeight; rw [if_neg (show ¬ vN v1 < qst (qS st rch bx wt ins hld unt Y ap ab hr ln sa mv nw lf) from hf4)])], hC0⟩ (by omega) (by omega)
  · skip
    obtain ⟨e9, hs9⟩ := hP3
    rw [e9]
    refine z_st (st' := []) rfl ?_
    have hv5 := vN_of (v := v1) hs9 (by omega)
    have e6 : (.int v1 : Value) = .int (nI (vN v1)) := (congrArg Value.int hv5)
    refine z_lv (lv' := [(0, .ref x), (1, .int (nI (vN v1)))]) (by rw [e6]) ?_
    have hl4s := hY4 (vN v1)
    refine z_aload_n C 0 rfl dX1_height_5 rfl ?_
    refine z_get C k_Q hX 0 (by decide) rfl q185 dX1_height_6 ?_
    refine z_getN C k_Y hY.1.1 1 (by decide) rfl q115 dX1_height_9 ?_
    refine z_iload_n C 1 rfl dX1_height_12 rfl ?_
    refine z_iald C hY.1.2.2 (by omega) (by omega) (v := (nI ((Y (vN v1)).length))) (hY.2.1.1 (vN v1) (by omega)) dX1_height_13 ?_
    exact z_iret C hQ (nI ((Y (vN v1)).length)) rfl ⟨by rw [(show oHeight (qS st rch bx wt ins hld unt Y ap ab hr ln sa mv nw lf) (vN v1) = (0, nI (Y (vN v1)).length, (qS st rch bx wt ins hld unt Y ap ab hr ln sa mv nw lf)) by unfold oHeight; rw [if_pos (show vN v1 < qst (qS st rch bx wt ins hld unt Y ap ab hr ln sa mv nw lf) from hs9)]; rfl)], by rw [(show oHeight (qS st rch bx wt ins hld unt Y ap ab hr ln sa mv nw lf) (vN v1) = (0, nI (Y (vN v1)).length, (qS st rch bx wt ins hld unt Y ap ab hr ln sa mv nw lf)) by unfold oHeight; rw [if_pos (show vN v1 < qst (qS st rch bx wt ins hld unt Y ap ab hr ln sa mv nw lf) from hs9)]; rfl)], by rw [(show oHeight (qS st rch bx wt ins hld unt Y ap ab hr ln sa mv nw lf) (vN v1) = (0, nI (Y (vN v1)).length, (qS st rch bx wt ins hld unt Y ap ab hr ln sa mv nw lf)) by unfold oHeight; rw [if_pos (show vN v1 < qst (qS st rch bx wt ins hld unt Y ap ab hr ln sa mv nw lf) from hs9)]; rfl)]; exact hC0⟩ (by omega) (by omega) dX1_height_14
set_option maxHeartbeats 4000000 in
set_option maxRecDepth 100000 in
theorem mX1_boxAt {l : Launch} {D : ZD} {V : ZV} {x kk : Nat} {st : Nat} {rch : Nat → Nat} {bx : Nat} {wt : Nat → Nat} {ins : Nat → Bool} {hld : Nat → Int32} {unt : Nat → Nat} {Y : YD} {ap : Nat} {ab hr ln : Nat → Nat} {sa : Nat → Int32} {mv : Int32} {nw : Nat} {lf : Int64} (hC : cR D V x (qS st rch bx wt ins hld unt Y ap ab hr ln sa mv nw lf)) (hI : qI kk (qS st rch bx wt ins hld unt Y ap ab hr ln sa mv nw lf)) {v1 v2 : Int32} : ZM l D yX1_boxAt (ws_ yX1_boxAt cX1_boxAt 3 (some .int)) 8 2 12 eI V [.ref x, .int v1, .int v2] (fun r V' => (oBoxAt (qS st rch bx wt ins hld unt Y ap ab hr ln sa mv nw lf) (vN v1) (vN v2)).1 = 0 ∧ r = (oBoxAt (qS st rch bx wt ins hld unt Y ap ab hr ln sa mv nw lf) (vN v1) (vN v2)).2.1 ∧ cR D V' x (oBoxAt (qS st rch bx wt ins hld unt Y ap ab hr ln sa mv nw lf) (vN v1) (vN v2)).2.2) (fun E V' => ∃ k, (["java/lang/IndexOutOfBoundsException", "java/util/NoSuchElementException"] : List String)[k]? = some E ∧ (oBoxAt (qS st rch bx wt ins hld unt Y ap ab hr ln sa mv nw lf) (vN v1) (vN v2)).1 = k + 1 ∧ cR D V' x (qS st rch bx wt ins hld unt Y ap ab hr ln sa mv nw lf)) := by
  refine z_enter (by decide +kernel) [(0, .ref x), (1, .int v1), (2, .int v2)] rfl (Nat.le_of_ble_eq_true rfl) (zcat_cons rfl (zcat_cons rfl (zcat_cons rfl zcat_nil))) (fun Γ C hQ => ?_)
  have hC0 := hC
  obtain ⟨y, yb, yh, rr, bb, al, t, d, cap, fb, fh, fr, fB, ba, hc, uc, fa, ma, aa, sl, Lb, Ct, mb, kc, hX, hY, hB, hA, hT⟩ := hC
  have hX : V x = some (.inr (0, [.ref y, .ref rr, .ref bb, .ref al, .ref t, .int (nI st), .int (nI bx), .int (nI (fC ins bx)), .int mv, .int (nI nw), .long lf])) := hX
  have hY : cY D V y yb yh rr fb fh fr ba bx st rch Y := hY
  have hB : cB D V bb fB ba bx wt ins hld unt hc uc := hB
  have hA : cA D V al d cap fa ma ba ap ab hr ln sa aa sl := hA
  have hT : cT V t Lb Ct mb kc ap hr ln sa aa sl := hT
  have hst : st ≤ 4 := hI.1.1
  have hbx : bx ≤ 20 := hI.1.2.1
  have hrc : ∀ s, s < st → rch s ≤ 4 := fun s hs => (hI.1.2.2.1 s hs).2
  have hwt : ∀ b, b < bx → wt b < 1000 := fun b hb => by have h9 : wt b ≤ 30 := (hI.1.2.2.2 b hb).2; omega
  have hg : yGood st bx ins Y := hI.2.1.1
  have hht : ∀ s, s < st → (Y s).length ≤ rch s := hI.2.1.2.1
  have hf8 : fC ins bx ≤ 8 := hI.2.1.2.2
  have hu1 : ∀ b, unt b ≤ 1000 := hI.2.2.1.2.1
  have hhl : ∀ b, b < bx → hld b = nI 45 ∨ hld b = nI 112 ∨ hld b = nI 108 := hI.2.2.1.2.2
  have hap : ap ≤ 30 := hI.2.2.2.1.1
  have haa : ∀ a, a < ap → ab a < bx ∧ hr a ≤ 999 ∧ ln a < 3 ∧ (sa a = nI 98 ∨ sa a = nI 99 ∨ sa a = nI 103 ∨ sa a = nI 100 ∨ sa a = nI 109) := hI.2.2.2.1.2.1
  have hnw : nw ≤ 999 := hI.2.2.2.2
  have hY4 : ∀ s, (Y s).length ≤ 4 := hg.1.1
  have hmm : ∀ s, ∀ c ∈ Y s, c < bx := fun s c hc => (hg.2.2 s c hc).1
  refine z_aload_n C 0 rfl dX1_boxAt_0 rfl ?_
  refine z_iload_n C 1 rfl dX1_boxAt_1 rfl ?_
  refine z_callV C k_Q hX (As := [.int v1]) (mX1_checkStack hX hY hB hA hT hI) (lw_V q384 q386 qs2 q58 q387) rfl hd_X1_checkStack rfl (Nat.le_of_ble_eq_true rfl) (by decide) (by decide) (by omega) (by omega) rfl dX1_boxAt_2 (fun E V9 hE9 => ?_) (fun r1 V2 hP3 => ?_)
  · skip
    obtain ⟨rfl, rfl, hf4⟩ := hE9
    exact z_out C hQ (fun _ h => nomatch h) ⟨0, rfl, by rw [(show oBoxAt (qS st rch bx wt ins hld unt Y ap ab hr ln sa mv nw lf) (vN v1) (vN v2) = (1, 0, (qS st rch bx wt ins hld unt Y ap ab hr ln sa mv nw lf)) by unfold oBoxAt; rw [if_pos (show ¬ vN v1 < qst (qS st rch bx wt ins hld unt Y ap ab hr ln sa mv nw lf) from hf4)])], hC0⟩ (by omega) (by omega)
  · skip
    obtain ⟨e9, hs9⟩ := hP3
    rw [e9]
    refine z_st (st' := []) rfl ?_
    have hv5 := vN_of (v := v1) hs9 (by omega)
    have e6 : (.int v1 : Value) = .int (nI (vN v1)) := (congrArg Value.int hv5)
    refine z_lv (lv' := [(0, .ref x), (1, .int (nI (vN v1))), (2, .int v2)]) (by rw [e6]) ?_
    have hl4s := hY4 (vN v1)
    refine z_iload_n C 2 rfl dX1_boxAt_5 rfl ?_
    refine z_iconst C (v := (nI 0)) dX1_boxAt_6 rfl ?_
    refine z_aload_n C 0 rfl dX1_boxAt_7 rfl ?_
    refine z_get C k_Q hX 0 (by decide) rfl q185 dX1_boxAt_8 ?_
    refine z_getN C k_Y hY.1.1 1 (by decide) rfl q115 dX1_boxAt_11 ?_
    refine z_iload_n C 1 rfl dX1_boxAt_14 rfl ?_
    refine z_iald C hY.1.2.2 (by omega) (by omega) (v := (nI ((Y (vN v1)).length))) (hY.2.1.1 (vN v1) (by omega)) dX1_boxAt_15 ?_
    refine z_iconst C (v := (nI 1)) dX1_boxAt_16 rfl ?_
    refine z_isub C dX1_boxAt_17 ?_
    refine z_callS C (As := [.int v2, .int (nI 0), .int ((nI ((Y (vN v1)).length)) - (nI 1))]) (mX1_isBetween) (lw_S q231 q232 q58 q233) hd_X1_isBetween rfl (Nat.le_of_ble_eq_true rfl) (by decide) (by decide) (by omega) (by omega) rfl dX1_boxAt_18 (fun _ _ h => h.elim) (fun r7 V8 hP9 => ?_)
    have hq10 : r7 = decide (0 ≤ vN v2 ∧ vN v2 < ((Y (vN v1)).length)) := hP9.2.trans (in_lt (by omega) (by omega))
    rw [hP9.1, hq10]
    refine z_st (st' := [.int (zb (decide (0 ≤ vN v2 ∧ vN v2 < ((Y (vN v1)).length))))]) rfl ?_
    refine z_callS C (As := [.int (zb (decide (0 ≤ vN v2 ∧ vN v2 < ((Y (vN v1)).length))))]) (mX1_checkElement) (lw_S q525 q526 q58 q527) hd_X1_checkElement rfl (Nat.le_of_ble_eq_true rfl) (by decide) (by decide) (by omega) (by omega) rfl dX1_boxAt_21 (fun E V9 hE9 => ?_) (fun r11 V12 hP13 => ?_)
    · skip
      obtain ⟨rfl, rfl, hf14⟩ := hE9
      exact z_out C hQ (fun _ h => nomatch h) ⟨1, rfl, by rw [(show oBoxAt (qS st rch bx wt ins hld unt Y ap ab hr ln sa mv nw lf) (vN v1) (vN v2) = (2, 0, (qS st rch bx wt ins hld unt Y ap ab hr ln sa mv nw lf)) by unfold oBoxAt; rw [if_neg (show ¬ ¬ vN v1 < qst (qS st rch bx wt ins hld unt Y ap ab hr ln sa mv nw lf) from fun h => h hs9), if_neg (show ¬ vN v2 < (qY (qS st rch bx wt ins hld unt Y ap ab hr ln sa mv nw lf) (vN v1)).length by simpa [qY] using hf14)])], hC0⟩ (by omega) (by omega)
    · skip
      obtain ⟨e9, hb15⟩ := hP13
      rw [e9]
      refine z_st (st' := []) rfl ?_
      have hl2 : vN v2 < (Y (vN v1)).length := by simpa using hb15
      have hl4 := hY4 (vN v1)
      have hv16 := vN_of (v := v2) hl2 (by omega)
      have e17 : (.int v2 : Value) = .int (nI (vN v2)) := (congrArg Value.int hv16)
      refine z_lv (lv' := [(0, .ref x), (1, .int (nI (vN v1))), (2, .int (nI (vN v2)))]) (by rw [e17]) ?_
      obtain ⟨u0, hu0⟩ : ∃ u, (Y (vN v1))[vN v2]? = some u := ⟨_, List.getElem?_eq_getElem hl2⟩
      have hub := hmm _ _ (List.mem_of_getElem? hu0)
      refine z_aload_n C 0 rfl dX1_boxAt_24 rfl ?_
      refine z_get C k_Q hX 0 (by decide) rfl q185 dX1_boxAt_25 ?_
      refine z_iload_n C 1 rfl dX1_boxAt_28 rfl ?_
      refine z_iload_n C 2 rfl dX1_boxAt_29 rfl ?_
      refine z_callV C k_Y hY.1.1 (As := [.int (nI (vN v1)), .int (nI (vN v2))]) (mX2_at hY.1 (s := vN v1) (k := vN v2) (by omega) (by omega)) (lw_V q543 q439 q440 q59 q441) rfl hd_X2_at rfl (Nat.le_of_ble_eq_true rfl) (by decide) (by decide) (by omega) (by omega) rfl dX1_boxAt_30 (fun _ _ h => h.elim) (fun r18 V19 hP20 => ?_)
      rw [hP20.1, show r18 = some (ba u0) from hP20.2.trans (hY.2.1.2 _ _ _ (by omega) hu0)]
      refine z_st (st' := [.ref (ba u0)]) rfl ?_
      refine z_getN C k_B (hB.2.2.1 u0 hub) 0 (by decide) rfl q413 dX1_boxAt_33 ?_
      exact z_iret C hQ (nI u0) rfl ⟨by rw [(show oBoxAt (qS st rch bx wt ins hld unt Y ap ab hr ln sa mv nw lf) (vN v1) (vN v2) = (0, nI u0, (qS st rch bx wt ins hld unt Y ap ab hr ln sa mv nw lf)) by unfold oBoxAt; rw [if_neg (show ¬ ¬ vN v1 < qst (qS st rch bx wt ins hld unt Y ap ab hr ln sa mv nw lf) from fun h => h hs9), if_pos (show vN v2 < (qY (qS st rch bx wt ins hld unt Y ap ab hr ln sa mv nw lf) (vN v1)).length from hl2)]; show (0, nI ((Y (vN v1)).getD (vN v2) 0), (qS st rch bx wt ins hld unt Y ap ab hr ln sa mv nw lf)) = _; rw [List.getD_eq_getElem?_getD, hu0]; rfl)], by rw [(show oBoxAt (qS st rch bx wt ins hld unt Y ap ab hr ln sa mv nw lf) (vN v1) (vN v2) = (0, nI u0, (qS st rch bx wt ins hld unt Y ap ab hr ln sa mv nw lf)) by unfold oBoxAt; rw [if_neg (show ¬ ¬ vN v1 < qst (qS st rch bx wt ins hld unt Y ap ab hr ln sa mv nw lf) from fun h => h hs9), if_pos (show vN v2 < (qY (qS st rch bx wt ins hld unt Y ap ab hr ln sa mv nw lf) (vN v1)).length from hl2)]; show (0, nI ((Y (vN v1)).getD (vN v2) 0), (qS st rch bx wt ins hld unt Y ap ab hr ln sa mv nw lf)) = _; rw [List.getD_eq_getElem?_getD, hu0]; rfl)], by rw [(show oBoxAt (qS st rch bx wt ins hld unt Y ap ab hr ln sa mv nw lf) (vN v1) (vN v2) = (0, nI u0, (qS st rch bx wt ins hld unt Y ap ab hr ln sa mv nw lf)) by unfold oBoxAt; rw [if_neg (show ¬ ¬ vN v1 < qst (qS st rch bx wt ins hld unt Y ap ab hr ln sa mv nw lf) from fun h => h hs9), if_pos (show vN v2 < (qY (qS st rch bx wt ins hld unt Y ap ab hr ln sa mv nw lf) (vN v1)).length from hl2)]; show (0, nI ((Y (vN v1)).getD (vN v2) 0), (qS st rch bx wt ins hld unt Y ap ab hr ln sa mv nw lf)) = _; rw [List.getD_eq_getElem?_getD, hu0]; rfl)]; exact hC0⟩ (by omega) (by omega) dX1_boxAt_36
set_option maxHeartbeats 4000000 in
set_option maxRecDepth 100000 in
theorem mX1_heldUntil {l : Launch} {D : ZD} {V : ZV} {x kk : Nat} {st : Nat} {rch : Nat → Nat} {bx : Nat} {wt : Nat → Nat} {ins : Nat → Bool} {hld : Nat → Int32} {unt : Nat → Nat} {Y : YD} {ap : Nat} {ab hr ln : Nat → Nat} {sa : Nat → Int32} {mv : Int32} {nw : Nat} {lf : Int64} (hC : cR D V x (qS st rch bx wt ins hld unt Y ap ab hr ln sa mv nw lf)) (hI : qI kk (qS st rch bx wt ins hld unt Y ap ab hr ln sa mv nw lf)) {v1 : Int32} : ZM l D yX1_heldUntil (ws_ yX1_heldUntil cX1_heldUntil 3 (some .int)) 8 2 12 eI V [.ref x, .int v1] (fun r V' => (oHeldUntil (qS st rch bx wt ins hld unt Y ap ab hr ln sa mv nw lf) (vN v1)).1 = 0 ∧ r = (oHeldUntil (qS st rch bx wt ins hld unt Y ap ab hr ln sa mv nw lf) (vN v1)).2.1 ∧ cR D V' x (oHeldUntil (qS st rch bx wt ins hld unt Y ap ab hr ln sa mv nw lf) (vN v1)).2.2) (fun E V' => ∃ k, (["java/lang/IndexOutOfBoundsException", "java/util/NoSuchElementException"] : List String)[k]? = some E ∧ (oHeldUntil (qS st rch bx wt ins hld unt Y ap ab hr ln sa mv nw lf) (vN v1)).1 = k + 1 ∧ cR D V' x (qS st rch bx wt ins hld unt Y ap ab hr ln sa mv nw lf)) := by
  refine z_enter (by decide +kernel) [(0, .ref x), (1, .int v1)] rfl (Nat.le_of_ble_eq_true rfl) (zcat_cons rfl (zcat_cons rfl zcat_nil)) (fun Γ C hQ => ?_)
  have hC0 := hC
  obtain ⟨y, yb, yh, rr, bb, al, t, d, cap, fb, fh, fr, fB, ba, hc, uc, fa, ma, aa, sl, Lb, Ct, mb, kc, hX, hY, hB, hA, hT⟩ := hC
  have hX : V x = some (.inr (0, [.ref y, .ref rr, .ref bb, .ref al, .ref t, .int (nI st), .int (nI bx), .int (nI (fC ins bx)), .int mv, .int (nI nw), .long lf])) := hX
  have hY : cY D V y yb yh rr fb fh fr ba bx st rch Y := hY
  have hB : cB D V bb fB ba bx wt ins hld unt hc uc := hB
  have hA : cA D V al d cap fa ma ba ap ab hr ln sa aa sl := hA
  have hT : cT V t Lb Ct mb kc ap hr ln sa aa sl := hT
  have hst : st ≤ 4 := hI.1.1
  have hbx : bx ≤ 20 := hI.1.2.1
  have hrc : ∀ s, s < st → rch s ≤ 4 := fun s hs => (hI.1.2.2.1 s hs).2
  have hwt : ∀ b, b < bx → wt b < 1000 := fun b hb => by have h9 : wt b ≤ 30 := (hI.1.2.2.2 b hb).2; omega
  have hg : yGood st bx ins Y := hI.2.1.1
  have hht : ∀ s, s < st → (Y s).length ≤ rch s := hI.2.1.2.1
  have hf8 : fC ins bx ≤ 8 := hI.2.1.2.2
  have hu1 : ∀ b, unt b ≤ 1000 := hI.2.2.1.2.1
  have hhl : ∀ b, b < bx → hld b = nI 45 ∨ hld b = nI 112 ∨ hld b = nI 108 := hI.2.2.1.2.2
  have hap : ap ≤ 30 := hI.2.2.2.1.1
  have haa : ∀ a, a < ap → ab a < bx ∧ hr a ≤ 999 ∧ ln a < 3 ∧ (sa a = nI 98 ∨ sa a = nI 99 ∨ sa a = nI 103 ∨ sa a = nI 100 ∨ sa a = nI 109) := hI.2.2.2.1.2.1
  have hnw : nw ≤ 999 := hI.2.2.2.2
  have hY4 : ∀ s, (Y s).length ≤ 4 := hg.1.1
  have hmm : ∀ s, ∀ c ∈ Y s, c < bx := fun s c hc => (hg.2.2 s c hc).1
  refine z_aload_n C 0 rfl dX1_heldUntil_0 rfl ?_
  refine z_iload_n C 1 rfl dX1_heldUntil_1 rfl ?_
  refine z_callV C k_Q hX (As := [.int v1]) (mX1_boxWith hX hY hB hA hT hI) (lw_V q471 q473 qs3 q58 q474) rfl hd_X1_boxWith rfl (Nat.le_of_ble_eq_true rfl) (by decide) (by decide) (by omega) (by omega) rfl dX1_heldUntil_2 (fun E V9 hE9 => ?_) (fun r1 V2 hP3 => ?_)
  · skip
    obtain ⟨rfl, rfl, hf4⟩ := hE9
    exact z_out C hQ (fun _ h => nomatch h) ⟨0, rfl, by rw [(show oHeldUntil (qS st rch bx wt ins hld unt Y ap ab hr ln sa mv nw lf) (vN v1) = (1, 0, (qS st rch bx wt ins hld unt Y ap ab hr ln sa mv nw lf)) by unfold oHeldUntil; rw [if_pos hf4])], hC0⟩ (by omega) (by omega)
  · skip
    obtain ⟨e9, hq9, e8⟩ := hP3
    rw [e9, e8]
    refine z_st (st' := [.ref (ba (vN v1))]) rfl ?_
    obtain ⟨hbb, hbi⟩ := qIs_t (S := (qS st rch bx wt ins hld unt Y ap ab hr ln sa mv nw lf)) hq9
    have hbb : vN v1 < bx := hbb
    have hbi : ins (vN v1) = true := hbi
    have hhc := hB.2.2.2 _ hbb hbi
    refine z_astore_n C [(2, .ref (ba (vN v1))), (0, .ref x), (1, .int v1)] dX1_heldUntil_5 rfl (by decide) rfl ?_
    refine z_aload_n C 0 rfl dX1_heldUntil_6 rfl ?_
    refine z_getN C k_B (hB.2.2.1 (vN v1) hbb) 2 (by decide) rfl q418 dX1_heldUntil_7 ?_
    refine z_bipush C (v := (nI 45)) dX1_heldUntil_10 rfl ?_
    refine z_icmp_eq C 19 dX1_heldUntil_12 (by decide) (fun c12 => ?_) (fun c12 => ?_)
    · skip
      refine z_iconst C (v := (nI 0)) dX1_heldUntil_19 rfl ?_
      refine z_st (st' := [.int (zb false)]) rfl ?_
      refine z_callS C (As := [.int (zb false)]) (mX1_checkElement) (lw_S q525 q526 q58 q527) hd_X1_checkElement rfl (Nat.le_of_ble_eq_true rfl) (by decide) (by decide) (by omega) (by omega) rfl dX1_heldUntil_20 (fun E V9 hE9 => ?_) (fun r5 V6 hP7 => ?_)
      · skip
        obtain ⟨rfl, rfl, hf8⟩ := hE9
        exact z_out C hQ (fun _ h => nomatch h) ⟨1, rfl, by rw [(show oHeldUntil (qS st rch bx wt ins hld unt Y ap ab hr ln sa mv nw lf) (vN v1) = (2, 0, (qS st rch bx wt ins hld unt Y ap ab hr ln sa mv nw lf)) by unfold oHeldUntil; rw [if_neg (show ¬ qIs (qS st rch bx wt ins hld unt Y ap ab hr ln sa mv nw lf) (vN v1) = false by rw [hq9]; decide), if_pos (show qhld (qS st rch bx wt ins hld unt Y ap ab hr ln sa mv nw lf) (vN v1) = nI 45 from hhc.1.symm.trans c12)])], hC0⟩ (by omega) (by omega)
      · skip
        obtain ⟨-, hb⟩ := hP7
        cases hb
    · skip
      refine z_iconst C (v := (nI 1)) dX1_heldUntil_15 rfl ?_
      refine z_goto C 20 dX1_heldUntil_16 (by decide) ?_
      refine z_st (st' := [.int (zb true)]) rfl ?_
      refine z_callS C (As := [.int (zb true)]) (mX1_checkElement) (lw_S q525 q526 q58 q527) hd_X1_checkElement rfl (Nat.le_of_ble_eq_true rfl) (by decide) (by decide) (by omega) (by omega) rfl dX1_heldUntil_20 (fun E V9 hE9 => ?_) (fun r9 V10 hP11 => ?_)
      · skip
        obtain ⟨-, -, hf⟩ := hE9
        cases hf
      · skip
        obtain ⟨e9, hb12⟩ := hP11
        rw [e9]
        refine z_st (st' := []) rfl ?_
        refine z_aload_n C 0 rfl dX1_heldUntil_23 rfl ?_
        refine z_getN C k_B (hB.2.2.1 (vN v1) hbb) 3 (by decide) rfl q420 dX1_heldUntil_24 ?_
        exact z_iret C hQ (nI (uc (vN v1))) rfl ⟨by rw [(show oHeldUntil (qS st rch bx wt ins hld unt Y ap ab hr ln sa mv nw lf) (vN v1) = (0, nI (uc (vN v1)), (qS st rch bx wt ins hld unt Y ap ab hr ln sa mv nw lf)) by unfold oHeldUntil; rw [if_neg (show ¬ qIs (qS st rch bx wt ins hld unt Y ap ab hr ln sa mv nw lf) (vN v1) = false by rw [hq9]; decide), if_neg (show ¬ qhld (qS st rch bx wt ins hld unt Y ap ab hr ln sa mv nw lf) (vN v1) = nI 45 from fun h => c12 (hhc.1.trans h)), hhc.2]; rfl)], by rw [(show oHeldUntil (qS st rch bx wt ins hld unt Y ap ab hr ln sa mv nw lf) (vN v1) = (0, nI (uc (vN v1)), (qS st rch bx wt ins hld unt Y ap ab hr ln sa mv nw lf)) by unfold oHeldUntil; rw [if_neg (show ¬ qIs (qS st rch bx wt ins hld unt Y ap ab hr ln sa mv nw lf) (vN v1) = false by rw [hq9]; decide), if_neg (show ¬ qhld (qS st rch bx wt ins hld unt Y ap ab hr ln sa mv nw lf) (vN v1) = nI 45 from fun h => c12 (hhc.1.trans h)), hhc.2]; rfl)], by rw [(show oHeldUntil (qS st rch bx wt ins hld unt Y ap ab hr ln sa mv nw lf) (vN v1) = (0, nI (uc (vN v1)), (qS st rch bx wt ins hld unt Y ap ab hr ln sa mv nw lf)) by unfold oHeldUntil; rw [if_neg (show ¬ qIs (qS st rch bx wt ins hld unt Y ap ab hr ln sa mv nw lf) (vN v1) = false by rw [hq9]; decide), if_neg (show ¬ qhld (qS st rch bx wt ins hld unt Y ap ab hr ln sa mv nw lf) (vN v1) = nI 45 from fun h => c12 (hhc.1.trans h)), hhc.2]; rfl)]; exact hC0⟩ (by omega) (by omega) dX1_heldUntil_27
set_option maxHeartbeats 4000000 in
set_option maxRecDepth 100000 in
theorem mX1_boxes {l : Launch} {D : ZD} {V : ZV} {x kk : Nat} {st : Nat} {rch : Nat → Nat} {bx : Nat} {wt : Nat → Nat} {ins : Nat → Bool} {hld : Nat → Int32} {unt : Nat → Nat} {Y : YD} {ap : Nat} {ab hr ln : Nat → Nat} {sa : Nat → Int32} {mv : Int32} {nw : Nat} {lf : Int64} (hC : cR D V x (qS st rch bx wt ins hld unt Y ap ab hr ln sa mv nw lf)) (hI : qI kk (qS st rch bx wt ins hld unt Y ap ab hr ln sa mv nw lf)) : ZM l D yX1_boxes (ws_ yX1_boxes cX1_boxes 1 (some .int)) 1 0 0 eN V [.ref x] (fun r V' => V' = V ∧ r = fC ins bx) zno_x := by
  refine z_enter (by decide +kernel) [(0, .ref x)] rfl (Nat.le_of_ble_eq_true rfl) (zcat_cons rfl zcat_nil) (fun Γ C hQ => ?_)
  have hC0 := hC
  obtain ⟨y, yb, yh, rr, bb, al, t, d, cap, fb, fh, fr, fB, ba, hc, uc, fa, ma, aa, sl, Lb, Ct, mb, kc, hX, hY, hB, hA, hT⟩ := hC
  have hX : V x = some (.inr (0, [.ref y, .ref rr, .ref bb, .ref al, .ref t, .int (nI st), .int (nI bx), .int (nI (fC ins bx)), .int mv, .int (nI nw), .long lf])) := hX
  have hY : cY D V y yb yh rr fb fh fr ba bx st rch Y := hY
  have hB : cB D V bb fB ba bx wt ins hld unt hc uc := hB
  have hA : cA D V al d cap fa ma ba ap ab hr ln sa aa sl := hA
  have hT : cT V t Lb Ct mb kc ap hr ln sa aa sl := hT
  have hst : st ≤ 4 := hI.1.1
  have hbx : bx ≤ 20 := hI.1.2.1
  have hrc : ∀ s, s < st → rch s ≤ 4 := fun s hs => (hI.1.2.2.1 s hs).2
  have hwt : ∀ b, b < bx → wt b < 1000 := fun b hb => by have h9 : wt b ≤ 30 := (hI.1.2.2.2 b hb).2; omega
  have hg : yGood st bx ins Y := hI.2.1.1
  have hht : ∀ s, s < st → (Y s).length ≤ rch s := hI.2.1.2.1
  have hf8 : fC ins bx ≤ 8 := hI.2.1.2.2
  have hu1 : ∀ b, unt b ≤ 1000 := hI.2.2.1.2.1
  have hhl : ∀ b, b < bx → hld b = nI 45 ∨ hld b = nI 112 ∨ hld b = nI 108 := hI.2.2.1.2.2
  have hap : ap ≤ 30 := hI.2.2.2.1.1
  have haa : ∀ a, a < ap → ab a < bx ∧ hr a ≤ 999 ∧ ln a < 3 ∧ (sa a = nI 98 ∨ sa a = nI 99 ∨ sa a = nI 103 ∨ sa a = nI 100 ∨ sa a = nI 109) := hI.2.2.2.1.2.1
  have hnw : nw ≤ 999 := hI.2.2.2.2
  have hY4 : ∀ s, (Y s).length ≤ 4 := hg.1.1
  have hmm : ∀ s, ∀ c ∈ Y s, c < bx := fun s c hc => (hg.2.2 s c hc).1
  refine z_aload_n C 0 rfl dX1_boxes_0 rfl ?_
  refine z_get C k_Q hX 7 (by decide) rfl q192 dX1_boxes_1 ?_
  exact z_iret C hQ (fC ins bx) rfl ⟨rfl, rfl⟩ (by omega) (by omega) dX1_boxes_4
set_option maxHeartbeats 4000000 in
set_option maxRecDepth 100000 in
theorem mX1_moves {l : Launch} {D : ZD} {V : ZV} {x kk : Nat} {st : Nat} {rch : Nat → Nat} {bx : Nat} {wt : Nat → Nat} {ins : Nat → Bool} {hld : Nat → Int32} {unt : Nat → Nat} {Y : YD} {ap : Nat} {ab hr ln : Nat → Nat} {sa : Nat → Int32} {mv : Int32} {nw : Nat} {lf : Int64} (hC : cR D V x (qS st rch bx wt ins hld unt Y ap ab hr ln sa mv nw lf)) (hI : qI kk (qS st rch bx wt ins hld unt Y ap ab hr ln sa mv nw lf)) : ZM l D yX1_moves (ws_ yX1_moves cX1_moves 1 (some .int)) 1 0 0 eI V [.ref x] (fun r V' => V' = V ∧ r = mv) zno_x := by
  refine z_enter (by decide +kernel) [(0, .ref x)] rfl (Nat.le_of_ble_eq_true rfl) (zcat_cons rfl zcat_nil) (fun Γ C hQ => ?_)
  have hC0 := hC
  obtain ⟨y, yb, yh, rr, bb, al, t, d, cap, fb, fh, fr, fB, ba, hc, uc, fa, ma, aa, sl, Lb, Ct, mb, kc, hX, hY, hB, hA, hT⟩ := hC
  have hX : V x = some (.inr (0, [.ref y, .ref rr, .ref bb, .ref al, .ref t, .int (nI st), .int (nI bx), .int (nI (fC ins bx)), .int mv, .int (nI nw), .long lf])) := hX
  have hY : cY D V y yb yh rr fb fh fr ba bx st rch Y := hY
  have hB : cB D V bb fB ba bx wt ins hld unt hc uc := hB
  have hA : cA D V al d cap fa ma ba ap ab hr ln sa aa sl := hA
  have hT : cT V t Lb Ct mb kc ap hr ln sa aa sl := hT
  have hst : st ≤ 4 := hI.1.1
  have hbx : bx ≤ 20 := hI.1.2.1
  have hrc : ∀ s, s < st → rch s ≤ 4 := fun s hs => (hI.1.2.2.1 s hs).2
  have hwt : ∀ b, b < bx → wt b < 1000 := fun b hb => by have h9 : wt b ≤ 30 := (hI.1.2.2.2 b hb).2; omega
  have hg : yGood st bx ins Y := hI.2.1.1
  have hht : ∀ s, s < st → (Y s).length ≤ rch s := hI.2.1.2.1
  have hf8 : fC ins bx ≤ 8 := hI.2.1.2.2
  have hu1 : ∀ b, unt b ≤ 1000 := hI.2.2.1.2.1
  have hhl : ∀ b, b < bx → hld b = nI 45 ∨ hld b = nI 112 ∨ hld b = nI 108 := hI.2.2.1.2.2
  have hap : ap ≤ 30 := hI.2.2.2.1.1
  have haa : ∀ a, a < ap → ab a < bx ∧ hr a ≤ 999 ∧ ln a < 3 ∧ (sa a = nI 98 ∨ sa a = nI 99 ∨ sa a = nI 103 ∨ sa a = nI 100 ∨ sa a = nI 109) := hI.2.2.2.1.2.1
  have hnw : nw ≤ 999 := hI.2.2.2.2
  have hY4 : ∀ s, (Y s).length ≤ 4 := hg.1.1
  have hmm : ∀ s, ∀ c ∈ Y s, c < bx := fun s c hc => (hg.2.2 s c hc).1
  refine z_aload_n C 0 rfl dX1_moves_0 rfl ?_
  refine z_get C k_Q hX 8 (by decide) rfl q193 dX1_moves_1 ?_
  exact z_iret C hQ mv rfl ⟨rfl, rfl⟩ (by omega) (by omega) dX1_moves_4
set_option maxHeartbeats 4000000 in
set_option maxRecDepth 100000 in
theorem mX1_now {l : Launch} {D : ZD} {V : ZV} {x kk : Nat} {st : Nat} {rch : Nat → Nat} {bx : Nat} {wt : Nat → Nat} {ins : Nat → Bool} {hld : Nat → Int32} {unt : Nat → Nat} {Y : YD} {ap : Nat} {ab hr ln : Nat → Nat} {sa : Nat → Int32} {mv : Int32} {nw : Nat} {lf : Int64} (hC : cR D V x (qS st rch bx wt ins hld unt Y ap ab hr ln sa mv nw lf)) (hI : qI kk (qS st rch bx wt ins hld unt Y ap ab hr ln sa mv nw lf)) : ZM l D yX1_now (ws_ yX1_now cX1_now 1 (some .int)) 1 0 0 eN V [.ref x] (fun r V' => V' = V ∧ r = nw) zno_x := by
  refine z_enter (by decide +kernel) [(0, .ref x)] rfl (Nat.le_of_ble_eq_true rfl) (zcat_cons rfl zcat_nil) (fun Γ C hQ => ?_)
  have hC0 := hC
  obtain ⟨y, yb, yh, rr, bb, al, t, d, cap, fb, fh, fr, fB, ba, hc, uc, fa, ma, aa, sl, Lb, Ct, mb, kc, hX, hY, hB, hA, hT⟩ := hC
  have hX : V x = some (.inr (0, [.ref y, .ref rr, .ref bb, .ref al, .ref t, .int (nI st), .int (nI bx), .int (nI (fC ins bx)), .int mv, .int (nI nw), .long lf])) := hX
  have hY : cY D V y yb yh rr fb fh fr ba bx st rch Y := hY
  have hB : cB D V bb fB ba bx wt ins hld unt hc uc := hB
  have hA : cA D V al d cap fa ma ba ap ab hr ln sa aa sl := hA
  have hT : cT V t Lb Ct mb kc ap hr ln sa aa sl := hT
  have hst : st ≤ 4 := hI.1.1
  have hbx : bx ≤ 20 := hI.1.2.1
  have hrc : ∀ s, s < st → rch s ≤ 4 := fun s hs => (hI.1.2.2.1 s hs).2
  have hwt : ∀ b, b < bx → wt b < 1000 := fun b hb => by have h9 : wt b ≤ 30 := (hI.1.2.2.2 b hb).2; omega
  have hg : yGood st bx ins Y := hI.2.1.1
  have hht : ∀ s, s < st → (Y s).length ≤ rch s := hI.2.1.2.1
  have hf8 : fC ins bx ≤ 8 := hI.2.1.2.2
  have hu1 : ∀ b, unt b ≤ 1000 := hI.2.2.1.2.1
  have hhl : ∀ b, b < bx → hld b = nI 45 ∨ hld b = nI 112 ∨ hld b = nI 108 := hI.2.2.1.2.2
  have hap : ap ≤ 30 := hI.2.2.2.1.1
  have haa : ∀ a, a < ap → ab a < bx ∧ hr a ≤ 999 ∧ ln a < 3 ∧ (sa a = nI 98 ∨ sa a = nI 99 ∨ sa a = nI 103 ∨ sa a = nI 100 ∨ sa a = nI 109) := hI.2.2.2.1.2.1
  have hnw : nw ≤ 999 := hI.2.2.2.2
  have hY4 : ∀ s, (Y s).length ≤ 4 := hg.1.1
  have hmm : ∀ s, ∀ c ∈ Y s, c < bx := fun s c hc => (hg.2.2 s c hc).1
  refine z_aload_n C 0 rfl dX1_now_0 rfl ?_
  refine z_get C k_Q hX 9 (by decide) rfl q194 dX1_now_1 ?_
  exact z_iret C hQ nw rfl ⟨rfl, rfl⟩ (by omega) (by omega) dX1_now_4
set_option maxHeartbeats 4000000 in
set_option maxRecDepth 100000 in
theorem mX1_weightLeft {l : Launch} {D : ZD} {V : ZV} {x kk : Nat} {st : Nat} {rch : Nat → Nat} {bx : Nat} {wt : Nat → Nat} {ins : Nat → Bool} {hld : Nat → Int32} {unt : Nat → Nat} {Y : YD} {ap : Nat} {ab hr ln : Nat → Nat} {sa : Nat → Int32} {mv : Int32} {nw : Nat} {lf : Int64} (hC : cR D V x (qS st rch bx wt ins hld unt Y ap ab hr ln sa mv nw lf)) (hI : qI kk (qS st rch bx wt ins hld unt Y ap ab hr ln sa mv nw lf)) : ZM l D yX1_weightLeft (ws_ yX1_weightLeft cX1_weightLeft 1 (some .long)) 1 0 0 eL V [.ref x] (fun r V' => V' = V ∧ r = lf) zno_x := by
  refine z_enter (by decide +kernel) [(0, .ref x)] rfl (Nat.le_of_ble_eq_true rfl) (zcat_cons rfl zcat_nil) (fun Γ C hQ => ?_)
  have hC0 := hC
  obtain ⟨y, yb, yh, rr, bb, al, t, d, cap, fb, fh, fr, fB, ba, hc, uc, fa, ma, aa, sl, Lb, Ct, mb, kc, hX, hY, hB, hA, hT⟩ := hC
  have hX : V x = some (.inr (0, [.ref y, .ref rr, .ref bb, .ref al, .ref t, .int (nI st), .int (nI bx), .int (nI (fC ins bx)), .int mv, .int (nI nw), .long lf])) := hX
  have hY : cY D V y yb yh rr fb fh fr ba bx st rch Y := hY
  have hB : cB D V bb fB ba bx wt ins hld unt hc uc := hB
  have hA : cA D V al d cap fa ma ba ap ab hr ln sa aa sl := hA
  have hT : cT V t Lb Ct mb kc ap hr ln sa aa sl := hT
  have hst : st ≤ 4 := hI.1.1
  have hbx : bx ≤ 20 := hI.1.2.1
  have hrc : ∀ s, s < st → rch s ≤ 4 := fun s hs => (hI.1.2.2.1 s hs).2
  have hwt : ∀ b, b < bx → wt b < 1000 := fun b hb => by have h9 : wt b ≤ 30 := (hI.1.2.2.2 b hb).2; omega
  have hg : yGood st bx ins Y := hI.2.1.1
  have hht : ∀ s, s < st → (Y s).length ≤ rch s := hI.2.1.2.1
  have hf8 : fC ins bx ≤ 8 := hI.2.1.2.2
  have hu1 : ∀ b, unt b ≤ 1000 := hI.2.2.1.2.1
  have hhl : ∀ b, b < bx → hld b = nI 45 ∨ hld b = nI 112 ∨ hld b = nI 108 := hI.2.2.1.2.2
  have hap : ap ≤ 30 := hI.2.2.2.1.1
  have haa : ∀ a, a < ap → ab a < bx ∧ hr a ≤ 999 ∧ ln a < 3 ∧ (sa a = nI 98 ∨ sa a = nI 99 ∨ sa a = nI 103 ∨ sa a = nI 100 ∨ sa a = nI 109) := hI.2.2.2.1.2.1
  have hnw : nw ≤ 999 := hI.2.2.2.2
  have hY4 : ∀ s, (Y s).length ≤ 4 := hg.1.1
  have hmm : ∀ s, ∀ c ∈ Y s, c < bx := fun s c hc => (hg.2.2 s c hc).1
  refine z_aload_n C 0 rfl dX1_weightLeft_0 rfl ?_
  refine z_get C k_Q hX 10 (by decide) rfl q195 dX1_weightLeft_1 ?_
  exact z_lret C hQ lf rfl ⟨rfl, rfl⟩ (by omega) (by omega) dX1_weightLeft_4
set_option maxHeartbeats 4000000 in
set_option maxRecDepth 100000 in
theorem mX1_isInYard {l : Launch} {D : ZD} {V : ZV} {x kk : Nat} {st : Nat} {rch : Nat → Nat} {bx : Nat} {wt : Nat → Nat} {ins : Nat → Bool} {hld : Nat → Int32} {unt : Nat → Nat} {Y : YD} {ap : Nat} {ab hr ln : Nat → Nat} {sa : Nat → Int32} {mv : Int32} {nw : Nat} {lf : Int64} (hC : cR D V x (qS st rch bx wt ins hld unt Y ap ab hr ln sa mv nw lf)) (hI : qI kk (qS st rch bx wt ins hld unt Y ap ab hr ln sa mv nw lf)) {v1 : Int32} : ZM l D yX1_isInYard (ws_ yX1_isInYard cX1_isInYard 2 (some .boolean)) 3 0 0 eB V [.ref x, .int v1] (fun r V' => V' = V ∧ r = qIs (qS st rch bx wt ins hld unt Y ap ab hr ln sa mv nw lf) (vN v1)) zno_x := by
  refine z_enter (by decide +kernel) [(0, .ref x), (1, .int v1)] rfl (Nat.le_of_ble_eq_true rfl) (zcat_cons rfl (zcat_cons rfl zcat_nil)) (fun Γ C hQ => ?_)
  have hC0 := hC
  obtain ⟨y, yb, yh, rr, bb, al, t, d, cap, fb, fh, fr, fB, ba, hc, uc, fa, ma, aa, sl, Lb, Ct, mb, kc, hX, hY, hB, hA, hT⟩ := hC
  have hX : V x = some (.inr (0, [.ref y, .ref rr, .ref bb, .ref al, .ref t, .int (nI st), .int (nI bx), .int (nI (fC ins bx)), .int mv, .int (nI nw), .long lf])) := hX
  have hY : cY D V y yb yh rr fb fh fr ba bx st rch Y := hY
  have hB : cB D V bb fB ba bx wt ins hld unt hc uc := hB
  have hA : cA D V al d cap fa ma ba ap ab hr ln sa aa sl := hA
  have hT : cT V t Lb Ct mb kc ap hr ln sa aa sl := hT
  have hst : st ≤ 4 := hI.1.1
  have hbx : bx ≤ 20 := hI.1.2.1
  have hrc : ∀ s, s < st → rch s ≤ 4 := fun s hs => (hI.1.2.2.1 s hs).2
  have hwt : ∀ b, b < bx → wt b < 1000 := fun b hb => by have h9 : wt b ≤ 30 := (hI.1.2.2.2 b hb).2; omega
  have hg : yGood st bx ins Y := hI.2.1.1
  have hht : ∀ s, s < st → (Y s).length ≤ rch s := hI.2.1.2.1
  have hf8 : fC ins bx ≤ 8 := hI.2.1.2.2
  have hu1 : ∀ b, unt b ≤ 1000 := hI.2.2.1.2.1
  have hhl : ∀ b, b < bx → hld b = nI 45 ∨ hld b = nI 112 ∨ hld b = nI 108 := hI.2.2.1.2.2
  have hap : ap ≤ 30 := hI.2.2.2.1.1
  have haa : ∀ a, a < ap → ab a < bx ∧ hr a ≤ 999 ∧ ln a < 3 ∧ (sa a = nI 98 ∨ sa a = nI 99 ∨ sa a = nI 103 ∨ sa a = nI 100 ∨ sa a = nI 109) := hI.2.2.2.1.2.1
  have hnw : nw ≤ 999 := hI.2.2.2.2
  have hY4 : ∀ s, (Y s).length ≤ 4 := hg.1.1
  have hmm : ∀ s, ∀ c ∈ Y s, c < bx := fun s c hc => (hg.2.2 s c hc).1
  refine z_aload_n C 0 rfl dX1_isInYard_0 rfl ?_
  refine z_iload_n C 1 rfl dX1_isInYard_1 rfl ?_
  refine z_callV C k_Q hX (As := [.int v1]) (mX1_isPresent hX hY hB hA hT hI) (lw_V q227 q229 qs0 q58 q230) rfl hd_X1_isPresent rfl (Nat.le_of_ble_eq_true rfl) (by decide) (by decide) (by omega) (by omega) rfl dX1_isInYard_2 (fun _ _ h => h.elim) (fun r1 V2 hP3 => ?_)
  rw [hP3.1, hP3.2]
  refine z_st (st' := [.int (zb (qIs (qS st rch bx wt ins hld unt Y ap ab hr ln sa mv nw lf) (vN v1)))]) rfl ?_
  exact z_zret C hQ (qIs (qS st rch bx wt ins hld unt Y ap ab hr ln sa mv nw lf) (vN v1)) rfl (zb_nar _) ⟨rfl, rfl⟩ (by omega) (by omega) dX1_isInYard_5
set_option maxHeartbeats 4000000 in
set_option maxRecDepth 100000 in
theorem mX1_pinnedAbove {l : Launch} {D : ZD} {V : ZV} {x kk : Nat} {st : Nat} {rch : Nat → Nat} {bx : Nat} {wt : Nat → Nat} {ins : Nat → Bool} {hld : Nat → Int32} {unt : Nat → Nat} {Y : YD} {ap : Nat} {ab hr ln : Nat → Nat} {sa : Nat → Int32} {mv : Int32} {nw : Nat} {lf : Int64} (hC : cR D V x (qS st rch bx wt ins hld unt Y ap ab hr ln sa mv nw lf)) (hI : qI kk (qS st rch bx wt ins hld unt Y ap ab hr ln sa mv nw lf)) {v1 : Int32} : ZM l D yX1_pinnedAbove (ws_ yX1_pinnedAbove cX1_pinnedAbove 6 (some .int)) 8 1 6 eI V [.ref x, .int v1] (fun r V' => (oPinned (qS st rch bx wt ins hld unt Y ap ab hr ln sa mv nw lf) (vN v1)).1 = 0 ∧ r = (oPinned (qS st rch bx wt ins hld unt Y ap ab hr ln sa mv nw lf) (vN v1)).2.1 ∧ cR D V' x (oPinned (qS st rch bx wt ins hld unt Y ap ab hr ln sa mv nw lf) (vN v1)).2.2) (fun E V' => ∃ k, (["java/lang/IndexOutOfBoundsException"] : List String)[k]? = some E ∧ (oPinned (qS st rch bx wt ins hld unt Y ap ab hr ln sa mv nw lf) (vN v1)).1 = k + 1 ∧ cR D V' x (qS st rch bx wt ins hld unt Y ap ab hr ln sa mv nw lf)) := by
  refine z_enter (by decide +kernel) [(0, .ref x), (1, .int v1)] rfl (Nat.le_of_ble_eq_true rfl) (zcat_cons rfl (zcat_cons rfl zcat_nil)) (fun Γ C hQ => ?_)
  have hC0 := hC
  obtain ⟨y, yb, yh, rr, bb, al, t, d, cap, fb, fh, fr, fB, ba, hc, uc, fa, ma, aa, sl, Lb, Ct, mb, kc, hX, hY, hB, hA, hT⟩ := hC
  have hX : V x = some (.inr (0, [.ref y, .ref rr, .ref bb, .ref al, .ref t, .int (nI st), .int (nI bx), .int (nI (fC ins bx)), .int mv, .int (nI nw), .long lf])) := hX
  have hY : cY D V y yb yh rr fb fh fr ba bx st rch Y := hY
  have hB : cB D V bb fB ba bx wt ins hld unt hc uc := hB
  have hA : cA D V al d cap fa ma ba ap ab hr ln sa aa sl := hA
  have hT : cT V t Lb Ct mb kc ap hr ln sa aa sl := hT
  have hst : st ≤ 4 := hI.1.1
  have hbx : bx ≤ 20 := hI.1.2.1
  have hrc : ∀ s, s < st → rch s ≤ 4 := fun s hs => (hI.1.2.2.1 s hs).2
  have hwt : ∀ b, b < bx → wt b < 1000 := fun b hb => by have h9 : wt b ≤ 30 := (hI.1.2.2.2 b hb).2; omega
  have hg : yGood st bx ins Y := hI.2.1.1
  have hht : ∀ s, s < st → (Y s).length ≤ rch s := hI.2.1.2.1
  have hf8 : fC ins bx ≤ 8 := hI.2.1.2.2
  have hu1 : ∀ b, unt b ≤ 1000 := hI.2.2.1.2.1
  have hhl : ∀ b, b < bx → hld b = nI 45 ∨ hld b = nI 112 ∨ hld b = nI 108 := hI.2.2.1.2.2
  have hap : ap ≤ 30 := hI.2.2.2.1.1
  have haa : ∀ a, a < ap → ab a < bx ∧ hr a ≤ 999 ∧ ln a < 3 ∧ (sa a = nI 98 ∨ sa a = nI 99 ∨ sa a = nI 103 ∨ sa a = nI 100 ∨ sa a = nI 109) := hI.2.2.2.1.2.1
  have hnw : nw ≤ 999 := hI.2.2.2.2
  have hY4 : ∀ s, (Y s).length ≤ 4 := hg.1.1
  have hmm : ∀ s, ∀ c ∈ Y s, c < bx := fun s c hc => (hg.2.2 s c hc).1
  refine z_aload_n C 0 rfl dX1_pinnedAbove_0 rfl ?_
  refine z_iload_n C 1 rfl dX1_pinnedAbove_1 rfl ?_
  refine z_callV C k_Q hX (As := [.int v1]) (mX1_boxWith hX hY hB hA hT hI) (lw_V q471 q473 qs3 q58 q474) rfl hd_X1_boxWith rfl (Nat.le_of_ble_eq_true rfl) (by decide) (by decide) (by omega) (by omega) rfl dX1_pinnedAbove_2 (fun E V9 hE9 => ?_) (fun r1 V2 hP3 => ?_)
  · skip
    obtain ⟨rfl, rfl, hf4⟩ := hE9
    exact z_out C hQ (fun _ h => nomatch h) ⟨0, rfl, by rw [(show oPinned (qS st rch bx wt ins hld unt Y ap ab hr ln sa mv nw lf) (vN v1) = (1, 0, (qS st rch bx wt ins hld unt Y ap ab hr ln sa mv nw lf)) by unfold oPinned; rw [oBx_f hf4])], hC0⟩ (by omega) (by omega)
  · skip
    obtain ⟨e9, hq9, e8⟩ := hP3
    rw [e9, e8]
    refine z_st (st' := [.ref (ba (vN v1))]) rfl ?_
    obtain ⟨hbb, hbi⟩ := qIs_t (S := (qS st rch bx wt ins hld unt Y ap ab hr ln sa mv nw lf)) hq9
    have hbb : vN v1 < bx := hbb
    have hbi : ins (vN v1) = true := hbi
    obtain ⟨p0, hb0⟩ := hg.2.1 _ hbb hbi
    have hb : vN v1 ∈ Y (yPl Y (vN v1)) := by rw [yPl_eq hg.1 hst hb0]; exact hb0
    have hpst := hg.1.lt hb
    have hyi := yIn_of hg hst hB.2.2.1 hbx hbb hbi
    obtain ⟨hk, hkl, hab⟩ := yAb_at hg.1 hst hb
    have hl4 := hY4 (yPl Y (vN v1))
    have hnd := hg.1.2.2.2.1 (yPl Y (vN v1))
    refine z_astore_n C [(2, .ref (ba (vN v1))), (0, .ref x), (1, .int v1)] dX1_pinnedAbove_5 rfl (by decide) rfl ?_
    refine z_aload_n C 1 rfl dX1_pinnedAbove_6 rfl ?_
    refine z_get C k_Q hX 0 (by decide) rfl q185 dX1_pinnedAbove_7 ?_
    refine z_aload_n C 0 rfl dX1_pinnedAbove_10 rfl ?_
    refine z_callV C k_Y hY.1.1 (As := [.ref (ba (vN v1))]) (mX2_stackOf hY.1 hY.2.1 hyi) (lw_V q482 q483 q484 q59 q485) rfl hd_X2_stackOf rfl (Nat.le_of_ble_eq_true rfl) (by decide) (by decide) (by omega) (by omega) rfl dX1_pinnedAbove_11 (fun _ _ h => h.elim) (fun r5 V6 hP7 => ?_)
    rw [hP7.1, hP7.2]
    refine z_st (st' := [.int (nI (yPl Y (vN v1)))]) rfl ?_
    refine z_istore_n C [(3, .int (nI (yPl Y (vN v1)))), (2, .ref (ba (vN v1))), (0, .ref x), (1, .int v1)] dX1_pinnedAbove_14 rfl (by decide) rfl ?_
    refine z_iconst C (v := (nI 0)) dX1_pinnedAbove_15 rfl ?_
    refine z_istore C [(4, .int (nI 0)), (3, .int (nI (yPl Y (vN v1)))), (2, .ref (ba (vN v1))), (0, .ref x), (1, .int v1)] dX1_pinnedAbove_16 (by decide) rfl ?_
    refine z_aload_n C 3 rfl dX1_pinnedAbove_18 rfl ?_
    refine z_get C k_Q hX 0 (by decide) rfl q185 dX1_pinnedAbove_19 ?_
    refine z_aload_n C 2 rfl dX1_pinnedAbove_22 rfl ?_
    refine z_callV C k_Y hY.1.1 (As := [.ref (ba (vN v1))]) (mX2_levelOf hY.1 hY.2.1 hyi hk hnd) (lw_V q493 q494 q495 q59 q496) rfl hd_X2_levelOf rfl (Nat.le_of_ble_eq_true rfl) (by decide) (by decide) (by omega) (by omega) rfl dX1_pinnedAbove_23 (fun _ _ h => h.elim) (fun r8 V9 hP10 => ?_)
    rw [hP10.1, hP10.2]
    refine z_st (st' := [.int (nI ((Y (yPl Y (vN v1))).idxOf (vN v1)))]) rfl ?_
    refine z_iconst C (v := (nI 1)) dX1_pinnedAbove_26 rfl ?_
    refine z_iaddN C dX1_pinnedAbove_27 ?_
    refine z_istore C [(5, .int (nI (((Y (yPl Y (vN v1))).idxOf (vN v1)) + 1))), (4, .int (nI 0)), (3, .int (nI (yPl Y (vN v1)))), (2, .ref (ba (vN v1))), (0, .ref x), (1, .int v1)] dX1_pinnedAbove_28 (by decide) rfl ?_
    refine z_pick [(4, .int (nI 0)), (5, .int (nI (((Y (yPl Y (vN v1))).idxOf (vN v1)) + 1))), (0, .ref x), (1, .int v1), (2, .ref (ba (vN v1))), (3, .int (nI (yPl Y (vN v1))))] [1, 0, 4, 5, 3, 2] rfl ?_
    have e11 : (.int (nI 0) : Value) = .int (nI (fC (fun j => decide ((Y (yPl Y (vN v1))).idxOf (vN v1) < j) && pin' hld ((Y (yPl Y (vN v1))).getD j 0)) ((Y (yPl Y (vN v1))).idxOf (vN v1) + 1))) := (congrArg (fun n => Value.int (nI n)) (fC_zero (fun j hj => by show (decide ((Y (yPl Y (vN v1))).idxOf (vN v1) < j) && _) = false; rw [decide_eq_false (by omega)]; rfl)).symm)
    refine z_lv (lv' := [(4, .int (nI (fC (fun j => decide ((Y (yPl Y (vN v1))).idxOf (vN v1) < j) && pin' hld ((Y (yPl Y (vN v1))).getD j 0)) ((Y (yPl Y (vN v1))).idxOf (vN v1) + 1)))), (5, .int (nI (((Y (yPl Y (vN v1))).idxOf (vN v1)) + 1))), (0, .ref x), (1, .int v1), (2, .ref (ba (vN v1))), (3, .int (nI (yPl Y (vN v1))))]) (by rw [e11]) ?_
    have loop12 : ∀ (n_loop12 : Nat) (lv : Nat), (Y (yPl Y (vN v1))).idxOf (vN v1) < lv → lv ≤ (Y (yPl Y (vN v1))).length → (Y (yPl Y (vN v1))).length - lv < n_loop12 → ZW l D Γ (zr 8 1 6) 30 [(4, .int (nI (fC (fun j => decide ((Y (yPl Y (vN v1))).idxOf (vN v1) < j) && pin' hld ((Y (yPl Y (vN v1))).getD j 0)) lv))), (5, .int (nI lv)), (0, .ref x), (1, .int v1), (2, .ref (ba (vN v1))), (3, .int (nI (yPl Y (vN v1))))] [] V (0 + 1 + 0 + 0) (0 + 6 + 0 + 0) := by
      intro n_loop12
      induction n_loop12 with
      | zero => intro lv _ _ hm; exact absurd hm (Nat.not_lt_zero _)
      | succ n_loop12 ih_loop12 =>
        intro lv hloop12_0 hloop12_1 hm
        refine z_iload C 1 rfl dX1_pinnedAbove_30 ?_
        refine z_aload_n C 2 rfl dX1_pinnedAbove_32 rfl ?_
        refine z_get C k_Q hX 0 (by decide) rfl q185 dX1_pinnedAbove_33 ?_
        refine z_getN C k_Y hY.1.1 1 (by decide) rfl q115 dX1_pinnedAbove_36 ?_
        refine z_iload_n C 5 rfl dX1_pinnedAbove_39 rfl ?_
        refine z_iald C hY.1.2.2 (by omega) (by omega) (v := (nI ((Y (yPl Y (vN v1))).length))) (hY.2.1.1 (yPl Y (vN v1)) (by omega)) dX1_pinnedAbove_40 ?_
        refine z_icmp_geN C 76 (by omega) (by omega) dX1_pinnedAbove_41 (by decide) (fun c41 => ?_) (fun c41 => ?_)
        · skip
          have hkk : lv = (Y (yPl Y (vN v1))).length := by omega
          have e13 : (.int (nI (fC (fun j => decide ((Y (yPl Y (vN v1))).idxOf (vN v1) < j) && pin' hld ((Y (yPl Y (vN v1))).getD j 0)) lv)) : Value) = .int (nI (fC (fun j => decide ((Y (yPl Y (vN v1))).idxOf (vN v1) < j) && pin' hld ((Y (yPl Y (vN v1))).getD j 0)) (Y (yPl Y (vN v1))).length)) := (by rw [hkk])
          refine z_lv (lv' := [(4, .int (nI (fC (fun j => decide ((Y (yPl Y (vN v1))).idxOf (vN v1) < j) && pin' hld ((Y (yPl Y (vN v1))).getD j 0)) (Y (yPl Y (vN v1))).length))), (5, .int (nI lv)), (0, .ref x), (1, .int v1), (2, .ref (ba (vN v1))), (3, .int (nI (yPl Y (vN v1))))]) (by rw [e13]) ?_
          have z_lev : qPin (qS st rch bx wt ins hld unt Y ap ab hr ln sa mv nw lf) (vN v1) = fC (fun j => decide ((Y (yPl Y (vN v1))).idxOf (vN v1) < j) && pin' hld ((Y (yPl Y (vN v1))).getD j 0)) (Y (yPl Y (vN v1))).length := rfl
          refine z_iload C 0 rfl dX1_pinnedAbove_76 ?_
          exact z_iret C hQ (nI (fC (fun j => decide ((Y (yPl Y (vN v1))).idxOf (vN v1) < j) && pin' hld ((Y (yPl Y (vN v1))).getD j 0)) (Y (yPl Y (vN v1))).length)) rfl ⟨by rw [(show oPinned (qS st rch bx wt ins hld unt Y ap ab hr ln sa mv nw lf) (vN v1) = (0, (nI (fC (fun j => decide ((Y (yPl Y (vN v1))).idxOf (vN v1) < j) && pin' hld ((Y (yPl Y (vN v1))).getD j 0)) (Y (yPl Y (vN v1))).length)), (qS st rch bx wt ins hld unt Y ap ab hr ln sa mv nw lf)) by unfold oPinned; rw [oBx_t hq9]; rw [z_lev])], by rw [(show oPinned (qS st rch bx wt ins hld unt Y ap ab hr ln sa mv nw lf) (vN v1) = (0, (nI (fC (fun j => decide ((Y (yPl Y (vN v1))).idxOf (vN v1) < j) && pin' hld ((Y (yPl Y (vN v1))).getD j 0)) (Y (yPl Y (vN v1))).length)), (qS st rch bx wt ins hld unt Y ap ab hr ln sa mv nw lf)) by unfold oPinned; rw [oBx_t hq9]; rw [z_lev])], by rw [(show oPinned (qS st rch bx wt ins hld unt Y ap ab hr ln sa mv nw lf) (vN v1) = (0, (nI (fC (fun j => decide ((Y (yPl Y (vN v1))).idxOf (vN v1) < j) && pin' hld ((Y (yPl Y (vN v1))).getD j 0)) (Y (yPl Y (vN v1))).length)), (qS st rch bx wt ins hld unt Y ap ab hr ln sa mv nw lf)) by unfold oPinned; rw [oBx_t hq9]; rw [z_lev])]; exact hC0⟩ (by omega) (by omega) dX1_pinnedAbove_78
        · skip
          obtain ⟨u0, hu0⟩ : ∃ u, (Y (yPl Y (vN v1)))[lv]? = some u := ⟨_, List.getElem?_eq_getElem (by omega)⟩
          have hub := hmm _ _ (List.mem_of_getElem? hu0)
          have hui := (hg.2.2 _ _ (List.mem_of_getElem? hu0)).2
          have hfn : (fun j => decide ((Y (yPl Y (vN v1))).idxOf (vN v1) < j) && pin' hld ((Y (yPl Y (vN v1))).getD j 0)) lv = decide (hc u0 = nI 112) := by
            show (decide ((Y (yPl Y (vN v1))).idxOf (vN v1) < lv) && pin' hld ((Y (yPl Y (vN v1))).getD lv 0)) = _
            rw [decide_eq_true (show (Y (yPl Y (vN v1))).idxOf (vN v1) < lv by omega), List.getD_eq_getElem?_getD, hu0, (hB.2.2.2 _ hub hui).1]; rfl
          refine z_iload C 0 rfl dX1_pinnedAbove_44 ?_
          refine z_aload_n C 2 rfl dX1_pinnedAbove_46 rfl ?_
          refine z_get C k_Q hX 0 (by decide) rfl q185 dX1_pinnedAbove_47 ?_
          refine z_iload_n C 5 rfl dX1_pinnedAbove_50 rfl ?_
          refine z_iload C 1 rfl dX1_pinnedAbove_51 ?_
          refine z_callV C k_Y hY.1.1 (As := [.int (nI (yPl Y (vN v1))), .int (nI lv)]) (mX2_at hY.1 (s := yPl Y (vN v1)) (k := lv) (by omega) (by omega)) (lw_V q543 q439 q440 q59 q441) rfl hd_X2_at rfl (Nat.le_of_ble_eq_true rfl) (by decide) (by decide) (by omega) (by omega) rfl dX1_pinnedAbove_53 (fun _ _ h => h.elim) (fun r14 V15 hP16 => ?_)
          rw [hP16.1, show r14 = some (ba u0) from hP16.2.trans (hY.2.1.2 _ _ _ (by omega) hu0)]
          refine z_st (st' := [.ref (ba u0), .int (nI (fC (fun j => decide ((Y (yPl Y (vN v1))).idxOf (vN v1) < j) && pin' hld ((Y (yPl Y (vN v1))).getD j 0)) lv))]) rfl ?_
          refine z_callV C k_B (hB.2.2.1 u0 hub) (As := []) (mX4_isPinned (hB.2.2.1 u0 hub)) (lw_V q754 q755 q756 q74 q757) rfl hd_X4_isPinned rfl (Nat.le_of_ble_eq_true rfl) (by decide) (by decide) (by omega) (by omega) rfl dX1_pinnedAbove_56 (fun _ _ h => h.elim) (fun r17 V18 hP19 => ?_)
          rw [hP19.1, hP19.2]
          refine z_st (st' := [.int (zb (decide (hc u0 = nI 112))), .int (nI (fC (fun j => decide ((Y (yPl Y (vN v1))).idxOf (vN v1) < j) && pin' hld ((Y (yPl Y (vN v1))).getD j 0)) lv))]) rfl ?_
          refine z_if_eqB C 66 dX1_pinnedAbove_59 (by decide) (fun c59 => ?_) (fun c59 => ?_)
          · skip
            refine z_iconst C (v := (nI 0)) dX1_pinnedAbove_66 rfl ?_
            refine z_iaddN C dX1_pinnedAbove_67 ?_
            refine z_istore C [(4, .int (nI ((fC (fun j => decide ((Y (yPl Y (vN v1))).idxOf (vN v1) < j) && pin' hld ((Y (yPl Y (vN v1))).getD j 0)) lv) + 0))), (5, .int (nI lv)), (0, .ref x), (1, .int v1), (2, .ref (ba (vN v1))), (3, .int (nI (yPl Y (vN v1))))] dX1_pinnedAbove_68 (by decide) rfl ?_
            refine z_iincN C 1 1 [(5, .int (nI (lv + 1))), (4, .int (nI ((fC (fun j => decide ((Y (yPl Y (vN v1))).idxOf (vN v1) < j) && pin' hld ((Y (yPl Y (vN v1))).getD j 0)) lv) + 0))), (0, .ref x), (1, .int v1), (2, .ref (ba (vN v1))), (3, .int (nI (yPl Y (vN v1))))] rfl dX1_pinnedAbove_70 rfl (by decide) rfl ?_
            refine z_goto C 30 dX1_pinnedAbove_73 (by decide) ?_
            refine z_pick [(4, .int (nI ((fC (fun j => decide ((Y (yPl Y (vN v1))).idxOf (vN v1) < j) && pin' hld ((Y (yPl Y (vN v1))).getD j 0)) lv) + 0))), (5, .int (nI (lv + 1))), (0, .ref x), (1, .int v1), (2, .ref (ba (vN v1))), (3, .int (nI (yPl Y (vN v1))))] [1, 0, 2, 3, 4, 5] rfl ?_
            have e20 : (.int (nI ((fC (fun j => decide ((Y (yPl Y (vN v1))).idxOf (vN v1) < j) && pin' hld ((Y (yPl Y (vN v1))).getD j 0)) lv) + 0)) : Value) = .int (nI (fC (fun j => decide ((Y (yPl Y (vN v1))).idxOf (vN v1) < j) && pin' hld ((Y (yPl Y (vN v1))).getD j 0)) (lv + 1))) := (congrArg (fun n => Value.int (nI n)) (fC_f (hfn.trans c59)).symm)
            refine z_lv (lv' := [(4, .int (nI (fC (fun j => decide ((Y (yPl Y (vN v1))).idxOf (vN v1) < j) && pin' hld ((Y (yPl Y (vN v1))).getD j 0)) (lv + 1)))), (5, .int (nI (lv + 1))), (0, .ref x), (1, .int v1), (2, .ref (ba (vN v1))), (3, .int (nI (yPl Y (vN v1))))]) (by rw [e20]) ?_
            exact ih_loop12 (lv + 1) (by omega) (by omega) (by omega)
          · skip
            refine z_iconst C (v := (nI 1)) dX1_pinnedAbove_62 rfl ?_
            refine z_goto C 67 dX1_pinnedAbove_63 (by decide) ?_
            refine z_iaddN C dX1_pinnedAbove_67 ?_
            refine z_istore C [(4, .int (nI ((fC (fun j => decide ((Y (yPl Y (vN v1))).idxOf (vN v1) < j) && pin' hld ((Y (yPl Y (vN v1))).getD j 0)) lv) + 1))), (5, .int (nI lv)), (0, .ref x), (1, .int v1), (2, .ref (ba (vN v1))), (3, .int (nI (yPl Y (vN v1))))] dX1_pinnedAbove_68 (by decide) rfl ?_
            refine z_iincN C 1 1 [(5, .int (nI (lv + 1))), (4, .int (nI ((fC (fun j => decide ((Y (yPl Y (vN v1))).idxOf (vN v1) < j) && pin' hld ((Y (yPl Y (vN v1))).getD j 0)) lv) + 1))), (0, .ref x), (1, .int v1), (2, .ref (ba (vN v1))), (3, .int (nI (yPl Y (vN v1))))] rfl dX1_pinnedAbove_70 rfl (by decide) rfl ?_
            refine z_goto C 30 dX1_pinnedAbove_73 (by decide) ?_
            refine z_pick [(4, .int (nI ((fC (fun j => decide ((Y (yPl Y (vN v1))).idxOf (vN v1) < j) && pin' hld ((Y (yPl Y (vN v1))).getD j 0)) lv) + 1))), (5, .int (nI (lv + 1))), (0, .ref x), (1, .int v1), (2, .ref (ba (vN v1))), (3, .int (nI (yPl Y (vN v1))))] [1, 0, 2, 3, 4, 5] rfl ?_
            have e21 : (.int (nI ((fC (fun j => decide ((Y (yPl Y (vN v1))).idxOf (vN v1) < j) && pin' hld ((Y (yPl Y (vN v1))).getD j 0)) lv) + 1)) : Value) = .int (nI (fC (fun j => decide ((Y (yPl Y (vN v1))).idxOf (vN v1) < j) && pin' hld ((Y (yPl Y (vN v1))).getD j 0)) (lv + 1))) := (congrArg (fun n => Value.int (nI n)) (fC_t (hfn.trans c59)).symm)
            refine z_lv (lv' := [(4, .int (nI (fC (fun j => decide ((Y (yPl Y (vN v1))).idxOf (vN v1) < j) && pin' hld ((Y (yPl Y (vN v1))).getD j 0)) (lv + 1)))), (5, .int (nI (lv + 1))), (0, .ref x), (1, .int v1), (2, .ref (ba (vN v1))), (3, .int (nI (yPl Y (vN v1))))]) (by rw [e21]) ?_
            exact ih_loop12 (lv + 1) (by omega) (by omega) (by omega)
    exact loop12 _ ((Y (yPl Y (vN v1))).idxOf (vN v1) + 1) (by omega) (by omega) (Nat.lt_succ_self _)
set_option maxHeartbeats 4000000 in
set_option maxRecDepth 100000 in
theorem mX1_why_2 {l : Launch} {D : ZD} {V : ZV} {kk x y yb yh rr bb al t d cap : Nat} {fb : Nat → Option Nat} {fh fr : Nat → Int32} {fB : Nat → Option Nat} {ba : Nat → Nat} {hc : Nat → Int32} {uc : Nat → Nat} {fa : Nat → Option Nat} {ma : Int32} {aa sl : Nat → Nat} {Lb : List Nat} {Ct : List (Nat × Nat)} {mb : Int32} {kc : Nat → List Nat} {st : Nat} {rch : Nat → Nat} {bx : Nat} {wt : Nat → Nat} {ins : Nat → Bool} {hld : Nat → Int32} {unt : Nat → Nat} {Y : YD} {ap : Nat} {ab hr ln : Nat → Nat} {sa : Nat → Int32} {mv : Int32} {nw : Nat} {lf : Int64} (hX : V x = some (.inr (0, [.ref y, .ref rr, .ref bb, .ref al, .ref t, .int (nI st), .int (nI bx), .int (nI (fC ins bx)), .int mv, .int (nI nw), .long lf]))) (hY : cY D V y yb yh rr fb fh fr ba bx st rch Y) (hB : cB D V bb fB ba bx wt ins hld unt hc uc) (hA : cA D V al d cap fa ma ba ap ab hr ln sa aa sl) (hT : cT V t Lb Ct mb kc ap hr ln sa aa sl) (hI : qI kk (qS st rch bx wt ins hld unt Y ap ab hr ln sa mv nw lf)) {y0 yb0 yh0 : Nat} {fb0 : Nat → Option Nat} {fh0 : Nat → Int32} {Y0 : YD} (hY0 : hYd D V y0 yb0 yh0 fb0 fh0) (hR0 : yRel ba Y0 fb0 fh0) (hg0 : yGood st bx ins Y0) {b s : Nat} (hbb : b < bx) (hbi : ins b = true) (hs : s < st) : ZM l D yX1_why_2 (ws_ yX1_why_2 cX1_why_2 5 (some .char)) 4 0 0 eI V [.ref x, .ref y0, .ref (ba b), .int (nI s)] (fun r V' => V' = V ∧ r = yWhy rch wt (pin' hld) Y0 (yPl Y0 b) b s) zno_x := by
  refine z_enter (by decide +kernel) [(0, .ref x), (1, .ref y0), (2, .ref (ba b)), (3, .int (nI s))] rfl (Nat.le_of_ble_eq_true rfl) (zcat_cons rfl (zcat_cons rfl (zcat_cons rfl (zcat_cons rfl zcat_nil)))) (fun Γ C hQ => ?_)
  have hst : st ≤ 4 := hI.1.1
  have hbx : bx ≤ 20 := hI.1.2.1
  have hrc : ∀ s, s < st → rch s ≤ 4 := fun s hs => (hI.1.2.2.1 s hs).2
  have hwt : ∀ b, b < bx → wt b < 1000 := fun b hb => by have h9 : wt b ≤ 30 := (hI.1.2.2.2 b hb).2; omega
  have hg : yGood st bx ins Y := hI.2.1.1
  have hht : ∀ s, s < st → (Y s).length ≤ rch s := hI.2.1.2.1
  have hf8 : fC ins bx ≤ 8 := hI.2.1.2.2
  have hu1 : ∀ b, unt b ≤ 1000 := hI.2.2.1.2.1
  have hhl : ∀ b, b < bx → hld b = nI 45 ∨ hld b = nI 112 ∨ hld b = nI 108 := hI.2.2.1.2.2
  have hap : ap ≤ 30 := hI.2.2.2.1.1
  have haa : ∀ a, a < ap → ab a < bx ∧ hr a ≤ 999 ∧ ln a < 3 ∧ (sa a = nI 98 ∨ sa a = nI 99 ∨ sa a = nI 103 ∨ sa a = nI 100 ∨ sa a = nI 109) := hI.2.2.2.1.2.1
  have hnw : nw ≤ 999 := hI.2.2.2.2
  have hY4 : ∀ s, (Y s).length ≤ 4 := hg.1.1
  have hmm : ∀ s, ∀ c ∈ Y s, c < bx := fun s c hc => (hg.2.2 s c hc).1
  have hyi := yIn_of hg0 hst hB.2.2.1 hbx hbb hbi
  have hpin : pin' hld b = decide (hc b = nI 112) := by rw [(hB.2.2.2 _ hbb hbi).1]; rfl
  have hrs := hrc s hs
  have hp4 := hyi.1
  have hl4 := hg0.1.1 s
  refine z_aload_n C 1 rfl dX1_why_2_0 rfl ?_
  refine z_aload_n C 2 rfl dX1_why_2_1 rfl ?_
  refine z_callV C k_Y hY0.1 (As := [.ref (ba b)]) (mX2_topOf hY0 hR0 hyi) (lw_V q769 q770 q771 q59 q772) rfl hd_X2_topOf rfl (Nat.le_of_ble_eq_true rfl) (by decide) (by decide) (by omega) (by omega) rfl dX1_why_2_2 (fun _ _ h => h.elim) (fun r1 V2 hP3 => ?_)
  rw [hP3.1, hP3.2]
  by_cases htop : (Y0 (yPl Y0 b)).getLast? = some b
  · skip
    rw [if_pos htop]
    refine z_st (st' := [.int (nI (yPl Y0 b))]) rfl ?_
    refine z_istore C [(4, .int (nI (yPl Y0 b))), (0, .ref x), (1, .ref y0), (2, .ref (ba b)), (3, .int (nI s))] dX1_why_2_5 (by decide) rfl ?_
    refine z_iload C 0 rfl dX1_why_2_7 ?_
    refine z_iconst C (v := (-1)) dX1_why_2_9 rfl ?_
    refine z_icmp_ne C 16 dX1_why_2_10 (by decide) (fun c10 => ?_) (fun c10 => ?_)
    · skip
      refine z_aload_n C 3 rfl dX1_why_2_16 rfl ?_
      refine z_callV C k_B (hB.2.2.1 b hbb) (As := []) (mX4_isPinned (hB.2.2.1 b hbb)) (lw_V q754 q755 q756 q74 q757) rfl hd_X4_isPinned rfl (Nat.le_of_ble_eq_true rfl) (by decide) (by decide) (by omega) (by omega) rfl dX1_why_2_17 (fun _ _ h => h.elim) (fun r4 V5 hP6 => ?_)
      rw [hP6.1, hP6.2]
      refine z_st (st' := [.int (zb (decide (hc b = nI 112)))]) rfl ?_
      refine z_if_eqB C 26 dX1_why_2_20 (by decide) (fun c20 => ?_) (fun c20 => ?_)
      · skip
        refine z_iload C 0 rfl dX1_why_2_26 ?_
        refine z_iload_n C 4 rfl dX1_why_2_28 rfl ?_
        refine z_icmp_neN C 35 (by omega) (by omega) dX1_why_2_29 (by decide) (fun c29 => ?_) (fun c29 => ?_)
        · skip
          refine z_aload_n C 2 rfl dX1_why_2_35 rfl ?_
          refine z_getN C k_Y hY0.1 1 (by decide) rfl q115 dX1_why_2_36 ?_
          refine z_iload_n C 4 rfl dX1_why_2_39 rfl ?_
          refine z_iald C hY0.2.2 (by omega) (by omega) (v := (nI ((Y0 s).length))) (hR0.1 s (by omega)) dX1_why_2_40 ?_
          refine z_aload_n C 1 rfl dX1_why_2_41 rfl ?_
          refine z_get C k_Q hX 1 (by decide) rfl q186 dX1_why_2_42 ?_
          refine z_iload_n C 4 rfl dX1_why_2_45 rfl ?_
          refine z_iald C hY.2.2.2.1 (by omega) (by omega) (v := (nI (rch s))) (hY.2.2.2.2.2 s (by omega)) dX1_why_2_46 ?_
          refine z_icmp_neN C 53 (by omega) (by omega) dX1_why_2_47 (by decide) (fun c47 => ?_) (fun c47 => ?_)
          · skip
            refine z_aload_n C 2 rfl dX1_why_2_53 rfl ?_
            refine z_iload_n C 4 rfl dX1_why_2_54 rfl ?_
            refine z_aload_n C 1 rfl dX1_why_2_55 rfl ?_
            refine z_get C k_Q hX 1 (by decide) rfl q186 dX1_why_2_56 ?_
            refine z_iload_n C 4 rfl dX1_why_2_59 rfl ?_
            refine z_iald C hY.2.2.2.1 (by omega) (by omega) (v := (nI (rch s))) (hY.2.2.2.2.2 s (by omega)) dX1_why_2_60 ?_
            refine z_aload_n C 3 rfl dX1_why_2_61 rfl ?_
            refine z_callV C k_Y hY0.1 (As := [.int (nI s), .int (nI (rch s)), .ref (ba b)]) (mX2_takes hY0 hR0 hB.2.2.1 (s := s) (b := b) (r := rch s) (by omega) hl4 hrs (fun c hc => (hg0.2.2 s c hc).1) hbb hwt) (lw_V q430 q431 q432 q59 q433) rfl hd_X2_takes rfl (Nat.le_of_ble_eq_true rfl) (by decide) (by decide) (by omega) (by omega) rfl dX1_why_2_62 (fun _ _ h => h.elim) (fun r7 V8 hP9 => ?_)
            rw [hP9.1, hP9.2]
            refine z_st (st' := [.int (zb (yTk wt Y0 s (rch s) (wt b)))]) rfl ?_
            refine z_if_eqB C 73 dX1_why_2_65 (by decide) (fun c65 => ?_) (fun c65 => ?_)
            · skip
              refine z_bipush C (v := (nI 119)) dX1_why_2_73 rfl ?_
              exact z_zret C hQ (nI 119) rfl rfl ⟨rfl, by unfold yWhy; rw [if_neg (fun h => h htop)]; rw [if_neg (show ¬ pin' hld b = true by rw [hpin, c20]; decide)]; rw [if_neg (by omega)]; rw [if_neg (by omega)]; rw [if_neg (by rw [c65]; decide)]⟩ (by omega) (by omega) dX1_why_2_75
            · skip
              refine z_bipush C (v := (nI 45)) dX1_why_2_68 rfl ?_
              refine z_goto C 75 dX1_why_2_70 (by decide) ?_
              exact z_zret C hQ (nI 45) rfl rfl ⟨rfl, by unfold yWhy; rw [if_neg (fun h => h htop)]; rw [if_neg (show ¬ pin' hld b = true by rw [hpin, c20]; decide)]; rw [if_neg (by omega)]; rw [if_neg (by omega)]; rw [if_pos c65]⟩ (by omega) (by omega) dX1_why_2_75
          · skip
            refine z_bipush C (v := (nI 102)) dX1_why_2_50 rfl ?_
            exact z_zret C hQ (nI 102) rfl rfl ⟨rfl, by unfold yWhy; rw [if_neg (fun h => h htop)]; rw [if_neg (show ¬ pin' hld b = true by rw [hpin, c20]; decide)]; rw [if_neg (by omega)]; rw [if_pos (by omega)]⟩ (by omega) (by omega) dX1_why_2_52
        · skip
          refine z_bipush C (v := (nI 115)) dX1_why_2_32 rfl ?_
          exact z_zret C hQ (nI 115) rfl rfl ⟨rfl, by unfold yWhy; rw [if_neg (fun h => h htop)]; rw [if_neg (show ¬ pin' hld b = true by rw [hpin, c20]; decide)]; rw [if_pos (by omega)]⟩ (by omega) (by omega) dX1_why_2_34
      · skip
        refine z_bipush C (v := (nI 112)) dX1_why_2_23 rfl ?_
        exact z_zret C hQ (nI 112) rfl rfl ⟨rfl, by unfold yWhy; rw [if_neg (fun h => h htop)]; rw [if_pos (show pin' hld b = true from hpin.trans c20)]⟩ (by omega) (by omega) dX1_why_2_25
    · skip
      exfalso; exact absurd c10 (nI_nem1 (by omega))
  · skip
    rw [if_neg htop]
    refine z_st (st' := [.int (-1)]) rfl ?_
    refine z_istore C [(4, .int (-1)), (0, .ref x), (1, .ref y0), (2, .ref (ba b)), (3, .int (nI s))] dX1_why_2_5 (by decide) rfl ?_
    refine z_iload C 0 rfl dX1_why_2_7 ?_
    refine z_iconst C (v := (-1)) dX1_why_2_9 rfl ?_
    refine z_icmp_ne C 16 dX1_why_2_10 (by decide) (fun c10 => ?_) (fun c10 => ?_)
    · skip
      exfalso; exact c10 rfl
    · skip
      refine z_bipush C (v := (nI 116)) dX1_why_2_13 rfl ?_
      exact z_zret C hQ (nI 116) rfl rfl ⟨rfl, by unfold yWhy; rw [if_pos htop]⟩ (by omega) (by omega) dX1_why_2_15
set_option maxHeartbeats 4000000 in
set_option maxRecDepth 100000 in
theorem mX1_why {l : Launch} {D : ZD} {V : ZV} {x kk : Nat} {st : Nat} {rch : Nat → Nat} {bx : Nat} {wt : Nat → Nat} {ins : Nat → Bool} {hld : Nat → Int32} {unt : Nat → Nat} {Y : YD} {ap : Nat} {ab hr ln : Nat → Nat} {sa : Nat → Int32} {mv : Int32} {nw : Nat} {lf : Int64} (hC : cR D V x (qS st rch bx wt ins hld unt Y ap ab hr ln sa mv nw lf)) (hI : qI kk (qS st rch bx wt ins hld unt Y ap ab hr ln sa mv nw lf)) {v1 v2 : Int32} : ZM l D yX1_why (ws_ yX1_why cX1_why 4 (some .char)) 8 2 12 eI V [.ref x, .int v1, .int v2] (fun r V' => (oWhy (qS st rch bx wt ins hld unt Y ap ab hr ln sa mv nw lf) (vN v1) (vN v2)).1 = 0 ∧ r = (oWhy (qS st rch bx wt ins hld unt Y ap ab hr ln sa mv nw lf) (vN v1) (vN v2)).2.1 ∧ cR D V' x (oWhy (qS st rch bx wt ins hld unt Y ap ab hr ln sa mv nw lf) (vN v1) (vN v2)).2.2) (fun E V' => ∃ k, (["java/lang/IndexOutOfBoundsException"] : List String)[k]? = some E ∧ (oWhy (qS st rch bx wt ins hld unt Y ap ab hr ln sa mv nw lf) (vN v1) (vN v2)).1 = k + 1 ∧ cR D V' x (qS st rch bx wt ins hld unt Y ap ab hr ln sa mv nw lf)) := by
  refine z_enter (by decide +kernel) [(0, .ref x), (1, .int v1), (2, .int v2)] rfl (Nat.le_of_ble_eq_true rfl) (zcat_cons rfl (zcat_cons rfl (zcat_cons rfl zcat_nil))) (fun Γ C hQ => ?_)
  have hC0 := hC
  obtain ⟨y, yb, yh, rr, bb, al, t, d, cap, fb, fh, fr, fB, ba, hc, uc, fa, ma, aa, sl, Lb, Ct, mb, kc, hX, hY, hB, hA, hT⟩ := hC
  have hX : V x = some (.inr (0, [.ref y, .ref rr, .ref bb, .ref al, .ref t, .int (nI st), .int (nI bx), .int (nI (fC ins bx)), .int mv, .int (nI nw), .long lf])) := hX
  have hY : cY D V y yb yh rr fb fh fr ba bx st rch Y := hY
  have hB : cB D V bb fB ba bx wt ins hld unt hc uc := hB
  have hA : cA D V al d cap fa ma ba ap ab hr ln sa aa sl := hA
  have hT : cT V t Lb Ct mb kc ap hr ln sa aa sl := hT
  have hst : st ≤ 4 := hI.1.1
  have hbx : bx ≤ 20 := hI.1.2.1
  have hrc : ∀ s, s < st → rch s ≤ 4 := fun s hs => (hI.1.2.2.1 s hs).2
  have hwt : ∀ b, b < bx → wt b < 1000 := fun b hb => by have h9 : wt b ≤ 30 := (hI.1.2.2.2 b hb).2; omega
  have hg : yGood st bx ins Y := hI.2.1.1
  have hht : ∀ s, s < st → (Y s).length ≤ rch s := hI.2.1.2.1
  have hf8 : fC ins bx ≤ 8 := hI.2.1.2.2
  have hu1 : ∀ b, unt b ≤ 1000 := hI.2.2.1.2.1
  have hhl : ∀ b, b < bx → hld b = nI 45 ∨ hld b = nI 112 ∨ hld b = nI 108 := hI.2.2.1.2.2
  have hap : ap ≤ 30 := hI.2.2.2.1.1
  have haa : ∀ a, a < ap → ab a < bx ∧ hr a ≤ 999 ∧ ln a < 3 ∧ (sa a = nI 98 ∨ sa a = nI 99 ∨ sa a = nI 103 ∨ sa a = nI 100 ∨ sa a = nI 109) := hI.2.2.2.1.2.1
  have hnw : nw ≤ 999 := hI.2.2.2.2
  have hY4 : ∀ s, (Y s).length ≤ 4 := hg.1.1
  have hmm : ∀ s, ∀ c ∈ Y s, c < bx := fun s c hc => (hg.2.2 s c hc).1
  refine z_aload_n C 0 rfl dX1_why_0 rfl ?_
  refine z_iload_n C 1 rfl dX1_why_1 rfl ?_
  refine z_callV C k_Q hX (As := [.int v1]) (mX1_boxWith hX hY hB hA hT hI) (lw_V q471 q473 qs3 q58 q474) rfl hd_X1_boxWith rfl (Nat.le_of_ble_eq_true rfl) (by decide) (by decide) (by omega) (by omega) rfl dX1_why_2 (fun E V9 hE9 => ?_) (fun r1 V2 hP3 => ?_)
  · skip
    obtain ⟨rfl, rfl, hf4⟩ := hE9
    exact z_out C hQ (fun _ h => nomatch h) ⟨0, rfl, by rw [(oWhy_f (S := (qS st rch bx wt ins hld unt Y ap ab hr ln sa mv nw lf)) (fun h => absurd h.1 (by rw [hf4]; decide)))], hC0⟩ (by omega) (by omega)
  · skip
    obtain ⟨e9, hq9, e8⟩ := hP3
    rw [e9, e8]
    refine z_st (st' := [.ref (ba (vN v1))]) rfl ?_
    obtain ⟨hbb, hbi⟩ := qIs_t (S := (qS st rch bx wt ins hld unt Y ap ab hr ln sa mv nw lf)) hq9
    have hbb : vN v1 < bx := hbb
    have hbi : ins (vN v1) = true := hbi
    refine z_astore_n C [(3, .ref (ba (vN v1))), (0, .ref x), (1, .int v1), (2, .int v2)] dX1_why_5 rfl (by decide) rfl ?_
    refine z_aload_n C 1 rfl dX1_why_6 rfl ?_
    refine z_iload_n C 3 rfl dX1_why_7 rfl ?_
    refine z_callV C k_Q hX (As := [.int v2]) (mX1_checkStack hX hY hB hA hT hI) (lw_V q384 q386 qs2 q58 q387) rfl hd_X1_checkStack rfl (Nat.le_of_ble_eq_true rfl) (by decide) (by decide) (by omega) (by omega) rfl dX1_why_8 (fun E V9 hE9 => ?_) (fun r5 V6 hP7 => ?_)
    · skip
      obtain ⟨rfl, rfl, hf8⟩ := hE9
      exact z_out C hQ (fun _ h => nomatch h) ⟨0, rfl, by rw [(oWhy_f (S := (qS st rch bx wt ins hld unt Y ap ab hr ln sa mv nw lf)) (fun h => hf8 h.2))], hC0⟩ (by omega) (by omega)
    · skip
      obtain ⟨e9, hs9⟩ := hP7
      rw [e9]
      refine z_st (st' := []) rfl ?_
      have hv9 := vN_of (v := v2) hs9 (by omega)
      have e10 : (.int v2 : Value) = .int (nI (vN v2)) := (congrArg Value.int hv9)
      refine z_lv (lv' := [(3, .ref (ba (vN v1))), (0, .ref x), (1, .int v1), (2, .int (nI (vN v2)))]) (by rw [e10]) ?_
      have hl4s := hY4 (vN v2)
      refine z_aload_n C 1 rfl dX1_why_11 rfl ?_
      refine z_aload_n C 1 rfl dX1_why_12 rfl ?_
      refine z_get C k_Q hX 0 (by decide) rfl q185 dX1_why_13 ?_
      refine z_aload_n C 0 rfl dX1_why_16 rfl ?_
      refine z_iload_n C 3 rfl dX1_why_17 rfl ?_
      refine z_callV C k_Q hX (As := [.ref y, .ref (ba (vN v1)), .int (nI (vN v2))]) (mX1_why_2 hX hY hB hA hT hI hY.1 hY.2.1 hg hbb hbi (s := vN v2) (by omega)) (lw_V q765 q767 qs10 q58 q768) rfl hd_X1_why_2 rfl (Nat.le_of_ble_eq_true rfl) (by decide) (by decide) (by omega) (by omega) rfl dX1_why_18 (fun _ _ h => h.elim) (fun r11 V12 hP13 => ?_)
      rw [hP13.1, hP13.2]
      refine z_st (st' := [.int (yWhy rch wt (pin' hld) Y (yPl Y (vN v1)) (vN v1) (vN v2))]) rfl ?_
      exact z_zret C hQ (yWhy rch wt (pin' hld) Y (yPl Y (vN v1)) (vN v1) (vN v2)) rfl (by unfold yWhy; (repeat' split) <;> rfl) ⟨by rw [(oWhy_t (S := (qS st rch bx wt ins hld unt Y ap ab hr ln sa mv nw lf)) hq9 hs9)], by rw [(oWhy_t (S := (qS st rch bx wt ins hld unt Y ap ab hr ln sa mv nw lf)) hq9 hs9)]; rfl, by rw [(oWhy_t (S := (qS st rch bx wt ins hld unt Y ap ab hr ln sa mv nw lf)) hq9 hs9)]; exact hC0⟩ (by omega) (by omega) dX1_why_21
