/-! COMPONENT: addBox, book -/
set_option maxRecDepth 100000
theorem yTk_lt {wt : Nat → Nat} {Y : YD} {s r w : Nat} (h : yTk wt Y s r w = true) : (Y s).length < r := by
  unfold yTk at h
  simp only [Bool.and_eq_true, decide_eq_true_eq] at h
  exact h.1
section OB
variable {S : QS} {w s : Nat}
theorem oAddBox_1 (h : ¬ s < qst S) : oAddBox S w s = (1, 0, S) := by unfold oAddBox; rw [if_pos h]
theorem oAddBox_2 (h1 : s < qst S) (h : ¬(1 ≤ w ∧ w ≤ 30)) : oAddBox S w s = (2, 0, S) := by unfold oAddBox; rw [if_neg (fun q => q h1), if_pos h]
theorem oAddBox_3 (h1 : s < qst S) (h2 : 1 ≤ w ∧ w ≤ 30) (h : yTk (qwt S) (qY S) s (qrch S s) w = false) : oAddBox S w s = (3, 0, S) := by unfold oAddBox; rw [if_neg (fun q => q h1), if_neg (fun q => q h2), if_pos h]
theorem oAddBox_4 (h1 : s < qst S) (h2 : 1 ≤ w ∧ w ≤ 30) (h3 : yTk (qwt S) (qY S) s (qrch S s) w = true) (h : fC (qins S) (qbx S) = 8 ∨ qbx S = 20) : oAddBox S w s = (4, 0, S) := by unfold oAddBox; rw [if_neg (fun q => q h1), if_neg (fun q => q h2), if_neg (by rw [h3]; decide), if_pos h]
theorem oAddBox_0 (h1 : s < qst S) (h2 : 1 ≤ w ∧ w ≤ 30) (h3 : yTk (qwt S) (qY S) s (qrch S s) w = true) (h4 : ¬ fC (qins S) (qbx S) = 8) (h5 : ¬ qbx S = 20) : oAddBox S w s = (0, nI (qbx S), sYd (sBox S (qbx S + 1) (va_up (qwt S) (qbx S) w) (va_up (qins S) (qbx S) true) (va_up (qhld S) (qbx S) (nI 45)) (qunt S)) (va_up (qY S) s (qY S s ++ [qbx S]))) := by
  unfold oAddBox; rw [if_neg (fun q => q h1), if_neg (fun q => q h2), if_neg (by rw [h3]; decide), if_neg (by rintro (q | q); exact h4 q; exact h5 q)]
end OB
section BK
variable {S : QS} {b h k : Nat}
theorem oBook_1 (e : ¬(qIs S b = true ∧ k ≤ 2)) : oBook S b h k = (1, 0, S) := by unfold oBook; rw [if_pos e]
theorem oBook_2 (h1 : qIs S b = true) (h2 : k ≤ 2) (e : ¬(qnw S + 1 ≤ h ∧ h ≤ 999)) : oBook S b h k = (2, 0, S) := by unfold oBook; rw [if_neg (fun q => q ⟨h1, h2⟩), if_pos e]
theorem oBook_3 (h1 : qIs S b = true) (h2 : k ≤ 2) (h3 : qnw S + 1 ≤ h ∧ h ≤ 999) (e : qHeld S b h = true) : oBook S b h k = (3, 0, S) := by unfold oBook; rw [if_neg (fun q => q ⟨h1, h2⟩), if_neg (fun q => q h3), if_pos e]
theorem oBook_4 (h1 : qIs S b = true) (h2 : k ≤ 2) (h3 : qnw S + 1 ≤ h ∧ h ≤ 999) (h4 : qHeld S b h = false) (e : qAin S b ≠ none ∨ qBin S k h ≠ none ∨ qap S = 30) : oBook S b h k = (4, 0, S) := by unfold oBook; rw [if_neg (fun q => q ⟨h1, h2⟩), if_neg (fun q => q h3), if_neg (by rw [h4]; decide), if_pos e]
theorem oBook_0 (h1 : qIs S b = true) (h2 : k ≤ 2) (h3 : qnw S + 1 ≤ h ∧ h ≤ 999) (h4 : qHeld S b h = false) (h5 : qAin S b = none) (h6 : qBin S k h = none) (h7 : ¬ qap S = 30) : oBook S b h k = (0, nI (qap S), sAp S (qap S + 1) (va_up (qab S) (qap S) b) (va_up (qhr S) (qap S) h) (va_up (qln S) (qap S) k) (va_up (qsa S) (qap S) (nI 98))) := by
  unfold oBook; rw [if_neg (fun q => q ⟨h1, h2⟩), if_neg (fun q => q h3), if_neg (by rw [h4]; decide), if_neg (by rintro (q | q | q); exact q h5; exact q h6; exact h7 q)]
end BK

set_option maxHeartbeats 4000000 in
set_option maxRecDepth 100000 in
theorem mX1_addBox {l : Launch} {D : ZD} {V : ZV} {x kk : Nat} {st : Nat} {rch : Nat → Nat} {bx : Nat} {wt : Nat → Nat} {ins : Nat → Bool} {hld : Nat → Int32} {unt : Nat → Nat} {Y : YD} {ap : Nat} {ab hr ln : Nat → Nat} {sa : Nat → Int32} {mv : Int32} {nw : Nat} {lf : Int64} (hC : cR D V x (qS st rch bx wt ins hld unt Y ap ab hr ln sa mv nw lf)) (hI : qI kk (qS st rch bx wt ins hld unt Y ap ab hr ln sa mv nw lf)) {v1 v2 : Int32} : ZM l D yX1_addBox (ws_ yX1_addBox cX1_addBox 4 (some .int)) 8 5 28 eI V [.ref x, .int v1, .int v2] (fun r V' => (oAddBox (qS st rch bx wt ins hld unt Y ap ab hr ln sa mv nw lf) (vN v1) (vN v2)).1 = 0 ∧ r = (oAddBox (qS st rch bx wt ins hld unt Y ap ab hr ln sa mv nw lf) (vN v1) (vN v2)).2.1 ∧ cR D V' x (oAddBox (qS st rch bx wt ins hld unt Y ap ab hr ln sa mv nw lf) (vN v1) (vN v2)).2.2) (fun E V' => ∃ k, (["java/lang/IndexOutOfBoundsException", "java/lang/IllegalArgumentException", "java/lang/UnsupportedOperationException", "java/lang/IllegalStateException"] : List String)[k]? = some E ∧ (oAddBox (qS st rch bx wt ins hld unt Y ap ab hr ln sa mv nw lf) (vN v1) (vN v2)).1 = k + 1 ∧ cR D V' x (qS st rch bx wt ins hld unt Y ap ab hr ln sa mv nw lf)) := by
  refine z_enter (by decide +kernel) [(0, .ref x), (1, .int v1), (2, .int v2)] rfl (Nat.le_of_ble_eq_true rfl) (zcat_cons rfl (zcat_cons rfl (zcat_cons rfl zcat_nil))) (fun Γ C hQ => ?_)
  have hC0 := hC
  obtain ⟨y, yb, yh, rr, bb, al, t, d, cap, fb, fh, fr, fB, ba, hc, uc, fa, ma, aa, sl, Lb, Ct, mb, kc, hX, hY, hB, hA, hT⟩ := hC
  have hX : V x = some (.inr (0, [.ref y, .ref rr, .ref bb, .ref al, .ref t, .int (nI st), .int (nI bx), .int (nI (fC ins bx)), .int mv, .int (nI nw), .long lf])) := hX
  have hY : cY D V y yb yh rr fb fh fr ba bx st rch Y := hY
  have hB : cB D V bb fB ba bx wt ins hld unt hc uc := hB
  have hA : cA D V al d cap fa ma ba ap ab hr ln sa aa sl := hA
  have hT : cT V t Lb Ct mb kc ap hr ln sa aa sl := hT
  have hst : st ≤ 4 := hI.1.1
  have hbx : bx ≤ 20 := hI.1.2.1
  have hrc : ∀ s, s < st → rch s ≤ 4 := fun s hs => (hI.1.2.2.1 s hs).2
  have hwt : ∀ b, b < bx → wt b < 1000 := fun b hb => by have h9 : wt b ≤ 30 := (hI.1.2.2.2 b hb).2; omega
  have hg : yGood st bx ins Y := hI.2.1.1
  have hht : ∀ s, s < st → (Y s).length ≤ rch s := hI.2.1.2.1
  have hf8 : fC ins bx ≤ 8 := hI.2.1.2.2
  have hu1 : ∀ b, unt b ≤ 1000 := hI.2.2.1.2.1
  have hhl : ∀ b, b < bx → hld b = nI 45 ∨ hld b = nI 112 ∨ hld b = nI 108 := hI.2.2.1.2.2
  have hap : ap ≤ 30 := hI.2.2.2.1.1
  have haa : ∀ a, a < ap → ab a < bx ∧ hr a ≤ 999 ∧ ln a < 3 ∧ (sa a = nI 98 ∨ sa a = nI 99 ∨ sa a = nI 103 ∨ sa a = nI 100 ∨ sa a = nI 109) := hI.2.2.2.1.2.1
  have hnw : nw ≤ 999 := hI.2.2.2.2
  have hY4 : ∀ s, (Y s).length ≤ 4 := hg.1.1
  have hmm : ∀ s, ∀ c ∈ Y s, c < bx := fun s c hc => (hg.2.2 s c hc).1
  refine z_aload_n C 0 rfl dX1_addBox_0 rfl ?_
  refine z_iload_n C 2 rfl dX1_addBox_1 rfl ?_
  refine z_callV C k_Q hX (As := [.int v2]) (mX1_checkStack hX hY hB hA hT hI) (lw_V q384 q386 qs2 q58 q387) rfl hd_X1_checkStack rfl (Nat.le_of_ble_eq_true rfl) (by decide) (by decide) (by omega) (by omega) rfl dX1_addBox_2 (fun E V9 hE9 => ?_) (fun r1 V2 hP3 => ?_)
  · skip
    obtain ⟨rfl, rfl, hf4⟩ := hE9
    exact z_out C hQ (fun _ h => nomatch h) ⟨0, rfl, by rw [oAddBox_1 (S := (qS st rch bx wt ins hld unt Y ap ab hr ln sa mv nw lf)) hf4], hC0⟩ (by omega) (by omega)
  · skip
    obtain ⟨e9, hs9⟩ := hP3
    rw [e9]
    refine z_st (st' := []) rfl ?_
    have hv5 := vN_of (v := v2) hs9 (by omega)
    have e6 : (.int v2 : Value) = .int (nI (vN v2)) := (congrArg Value.int hv5)
    refine z_lv (lv' := [(0, .ref x), (1, .int v1), (2, .int (nI (vN v2)))]) (by rw [e6]) ?_
    have hl4s := hY4 (vN v2)
    refine z_iload_n C 1 rfl dX1_addBox_5 rfl ?_
    refine z_iconst C (v := (nI 1)) dX1_addBox_6 rfl ?_
    refine z_bipush C (v := (nI 30)) dX1_addBox_7 rfl ?_
    refine z_callS C (As := [.int v1, .int (nI 1), .int (nI 30)]) (mX1_isBetween) (lw_S q231 q232 q58 q233) hd_X1_isBetween rfl (Nat.le_of_ble_eq_true rfl) (by decide) (by decide) (by omega) (by omega) rfl dX1_addBox_9 (fun _ _ h => h.elim) (fun r7 V8 hP9 => ?_)
    have hq10 : r7 = decide (1 ≤ vN v1 ∧ vN v1 ≤ 30) := hP9.2.trans (in_le (by omega) (by omega))
    rw [hP9.1, hq10]
    refine z_st (st' := [.int (zb (decide (1 ≤ vN v1 ∧ vN v1 ≤ 30)))]) rfl ?_
    refine z_callS C (As := [.int (zb (decide (1 ≤ vN v1 ∧ vN v1 ≤ 30)))]) (mX1_checkArgument) (lw_S q255 q256 q58 q257) hd_X1_checkArgument rfl (Nat.le_of_ble_eq_true rfl) (by decide) (by decide) (by omega) (by omega) rfl dX1_addBox_12 (fun E V9 hE9 => ?_) (fun r11 V12 hP13 => ?_)
    · skip
      obtain ⟨rfl, rfl, hf14⟩ := hE9
      exact z_out C hQ (fun _ h => nomatch h) ⟨1, rfl, by rw [oAddBox_2 (S := (qS st rch bx wt ins hld unt Y ap ab hr ln sa mv nw lf)) hs9 (by simpa using hf14)], hC0⟩ (by omega) (by omega)
    · skip
      obtain ⟨e9, hb15⟩ := hP13
      rw [e9]
      refine z_st (st' := []) rfl ?_
      have hv1 : 1 ≤ vN v1 ∧ vN v1 ≤ 30 := by simpa using hb15
      have hv1b : vN v1 < 31 := by omega
      have hv16 := vN_of (v := v1) hv1b (by omega)
      have e17 : (.int v1 : Value) = .int (nI (vN v1)) := (congrArg Value.int hv16)
      refine z_lv (lv' := [(0, .ref x), (1, .int (nI (vN v1))), (2, .int (nI (vN v2)))]) (by rw [e17]) ?_
      have hU18 : zUnc V V (fun _ => False) := zUnc.rf
      refine z_new C k_B q122 q406 q74 [.int (nI 0), .int (nI 0), .int (nI 0), .int (nI 0)] k0_B (by simp only [zr]; omega) (by simp only [zr]; omega) dX1_addBox_15 (fun q19 hq20 => z_nV (fun V21 hV22 => ?_))
      have hY23 := hY.mv (nw_u hV22 hq20) no_k
      have hB24 := hB.mv (nw_u hV22 hq20) no_k
      have hA25 := hA.mv (nw_u hV22 hq20) no_k
      have hT26 := hT.mv (nw_u hV22 hq20) no_k
      have hf28 := zUnc.none hU18 (fun h => h) hq20
      have hU27 := zUnc.new hU18 hV22 hq20
      have g29 := zup hV22 (zne_new hX hq20) hX
      have g30 : V21 q19 = some (.inr (3, [.int (nI 0), .int (nI 0), .int (nI 0), .int (nI 0)])) := zself hV22
      refine z_dup C dX1_addBox_18 rfl ?_
      refine z_aload_n C 0 rfl dX1_addBox_19 rfl ?_
      refine z_get C k_Q g29 6 (by decide) rfl q191 dX1_addBox_20 ?_
      refine z_iload_n C 1 rfl dX1_addBox_23 rfl ?_
      refine z_callI C (rt := none) (As := [.int (nI bx), .int (nI (vN v1))]) (mX4_init g30) q409 q74 q407 q408 rfl hd_X4_init rfl (Nat.le_of_ble_eq_true rfl) (by decide) (by decide) (by omega) (by omega) rfl dX1_addBox_24 (fun _ _ h => h.elim) (fun r31 V32 hP33 => ?_)
      obtain ⟨hq1, hqu⟩ := hP33
      refine z_st (st' := [.ref q19]) rfl ?_
      have hun := zUnc.tr hU27 hqu (fun a h => Or.inr (by rw [show a = q19 from h]; exact hf28))
      have hBe := hBx.ext (hB.mv hun no_k).2.2.1 hq1
      have hYe := cY.ext (hY.mv hun no_k) hmm q19
      have hwt2 : ∀ c, c < bx + 1 → va_up wt bx (vN v1) c < 1000 := fun c hc => by by_cases e : c = bx; rw [e, zvs]; omega; rw [zvn e]; exact hwt c (by omega)
      have htk := fun l => mX2_takes (l := l) hYe.1 hYe.2.1 hBe (s := vN v2) (b := bx) (r := rch (vN v2)) (by omega) hl4s (hrc _ hs9) (fun c hc => by have := hmm _ c hc; omega) (Nat.lt_succ_self _) hwt2
      have htk2 := htk l
      rw [zvs ba bx q19, zvs wt bx (vN v1), yTk_ext hmm] at htk2
      refine z_astore_n C [(3, .ref q19), (0, .ref x), (1, .int (nI (vN v1))), (2, .int (nI (vN v2)))] dX1_addBox_27 rfl (by decide) rfl ?_
      refine z_aload_n C 1 rfl dX1_addBox_28 rfl ?_
      refine z_get C k_Q (hun.get (fun h => h) hX) 0 (by decide) rfl q185 dX1_addBox_29 ?_
      refine z_iload_n C 3 rfl dX1_addBox_32 rfl ?_
      refine z_aload_n C 1 rfl dX1_addBox_33 rfl ?_
      refine z_get C k_Q (hun.get (fun h => h) hX) 1 (by decide) rfl q186 dX1_addBox_34 ?_
      refine z_iload_n C 3 rfl dX1_addBox_37 rfl ?_
      refine z_iald C ((hY.mv hun no_k).2.2.2.1) (by omega) (by omega) (v := (nI (rch (vN v2)))) ((hY.mv hun no_k).2.2.2.2.2 (vN v2) (by omega)) dX1_addBox_38 ?_
      refine z_aload_n C 0 rfl dX1_addBox_39 rfl ?_
      refine z_callV C k_Y ((hY.mv hun no_k).1.1) (As := [.int (nI (vN v2)), .int (nI (rch (vN v2))), .ref q19]) (htk2) (lw_V q430 q431 q432 q59 q433) rfl hd_X2_takes rfl (Nat.le_of_ble_eq_true rfl) (by decide) (by decide) (by omega) (by omega) rfl dX1_addBox_40 (fun _ _ h => h.elim) (fun r34 V35 hP36 => ?_)
      rw [hP36.1, hP36.2]
      refine z_st (st' := [.int (zb (yTk wt Y (vN v2) (rch (vN v2)) (vN v1)))]) rfl ?_
      refine z_callS C (As := [.int (zb (yTk wt Y (vN v2) (rch (vN v2)) (vN v1)))]) (mX1_checkPossible) (lw_S q442 q443 q58 q444) hd_X1_checkPossible rfl (Nat.le_of_ble_eq_true rfl) (by decide) (by decide) (by omega) (by omega) rfl dX1_addBox_43 (fun E V9 hE9 => ?_) (fun r37 V38 hP39 => ?_)
      · skip
        obtain ⟨rfl, rfl, hf40⟩ := hE9
        exact z_out C hQ (fun _ h => nomatch h) ⟨2, rfl, by rw [oAddBox_3 (S := (qS st rch bx wt ins hld unt Y ap ab hr ln sa mv nw lf)) hs9 hv1 hf40], (show cR D _ x (qS st rch bx wt ins hld unt Y ap ab hr ln sa mv nw lf) from ⟨_, _, _, _, _, _, _, _, _, _, _, _, _, _, _, _, _, _, _, _, _, _, _, _, (hun.get (fun h => h) hX), (hY.mv hun no_k), (hB.mv hun no_k), (hA.mv hun no_k), (hT.mv hun no_k)⟩)⟩ (by omega) (by omega)
      · skip
        obtain ⟨e9, hb41⟩ := hP39
        rw [e9]
        refine z_st (st' := []) rfl ?_
        have htk9 : yTk wt Y (vN v2) (rch (vN v2)) (vN v1) = true := hb41
        have hln9 : (Y (vN v2)).length < rch (vN v2) := yTk_lt htk9
        have hr9 := hrc _ hs9
        refine z_aload_n C 1 rfl dX1_addBox_46 rfl ?_
        refine z_get C k_Q (hun.get (fun h => h) hX) 7 (by decide) rfl q192 dX1_addBox_47 ?_
        refine z_bipush C (v := (nI 8)) dX1_addBox_50 rfl ?_
        refine z_icmp_geN C 68 (by omega) (by omega) dX1_addBox_52 (by decide) (fun c52 => ?_) (fun c52 => ?_)
        · skip
          refine z_iconst C (v := (nI 0)) dX1_addBox_68 rfl ?_
          refine z_st (st' := [.int (zb false)]) rfl ?_
          refine z_callS C (As := [.int (zb false)]) (mX1_checkState) (lw_S q325 q326 q58 q327) hd_X1_checkState rfl (Nat.le_of_ble_eq_true rfl) (by decide) (by decide) (by omega) (by omega) rfl dX1_addBox_69 (fun E V9 hE9 => ?_) (fun r42 V43 hP44 => ?_)
          · skip
            obtain ⟨rfl, rfl, hf45⟩ := hE9
            exact z_out C hQ (fun _ h => nomatch h) ⟨3, rfl, by rw [oAddBox_4 (S := (qS st rch bx wt ins hld unt Y ap ab hr ln sa mv nw lf)) hs9 hv1 htk9 (Or.inl (show fC ins bx = 8 by have := c52; omega))], (show cR D _ x (qS st rch bx wt ins hld unt Y ap ab hr ln sa mv nw lf) from ⟨_, _, _, _, _, _, _, _, _, _, _, _, _, _, _, _, _, _, _, _, _, _, _, _, (hun.get (fun h => h) hX), (hY.mv hun no_k), (hB.mv hun no_k), (hA.mv hun no_k), (hT.mv hun no_k)⟩)⟩ (by omega) (by omega)
          · skip
            obtain ⟨-, hb⟩ := hP44
            cases hb
        · skip
          refine z_aload_n C 1 rfl dX1_addBox_55 rfl ?_
          refine z_get C k_Q (hun.get (fun h => h) hX) 6 (by decide) rfl q191 dX1_addBox_56 ?_
          refine z_bipush C (v := (nI 20)) dX1_addBox_59 rfl ?_
          refine z_icmp_geN C 68 (by omega) (by omega) dX1_addBox_61 (by decide) (fun c61 => ?_) (fun c61 => ?_)
          · skip
            refine z_iconst C (v := (nI 0)) dX1_addBox_68 rfl ?_
            refine z_st (st' := [.int (zb false)]) rfl ?_
            refine z_callS C (As := [.int (zb false)]) (mX1_checkState) (lw_S q325 q326 q58 q327) hd_X1_checkState rfl (Nat.le_of_ble_eq_true rfl) (by decide) (by decide) (by omega) (by omega) rfl dX1_addBox_69 (fun E V9 hE9 => ?_) (fun r46 V47 hP48 => ?_)
            · skip
              obtain ⟨rfl, rfl, hf49⟩ := hE9
              exact z_out C hQ (fun _ h => nomatch h) ⟨3, rfl, by rw [oAddBox_4 (S := (qS st rch bx wt ins hld unt Y ap ab hr ln sa mv nw lf)) hs9 hv1 htk9 (Or.inr (show bx = 20 by have := c61; omega))], (show cR D _ x (qS st rch bx wt ins hld unt Y ap ab hr ln sa mv nw lf) from ⟨_, _, _, _, _, _, _, _, _, _, _, _, _, _, _, _, _, _, _, _, _, _, _, _, (hun.get (fun h => h) hX), (hY.mv hun no_k), (hB.mv hun no_k), (hA.mv hun no_k), (hT.mv hun no_k)⟩)⟩ (by omega) (by omega)
            · skip
              obtain ⟨-, hb⟩ := hP48
              cases hb
          · skip
            refine z_iconst C (v := (nI 1)) dX1_addBox_64 rfl ?_
            refine z_goto C 69 dX1_addBox_65 (by decide) ?_
            refine z_st (st' := [.int (zb true)]) rfl ?_
            refine z_callS C (As := [.int (zb true)]) (mX1_checkState) (lw_S q325 q326 q58 q327) hd_X1_checkState rfl (Nat.le_of_ble_eq_true rfl) (by decide) (by decide) (by omega) (by omega) rfl dX1_addBox_69 (fun E V9 hE9 => ?_) (fun r50 V51 hP52 => ?_)
            · skip
              obtain ⟨-, -, hf⟩ := hE9
              cases hf
            · skip
              obtain ⟨e9, hb53⟩ := hP52
              rw [e9]
              refine z_st (st' := []) rfl ?_
              have hp8 : fC ins bx < 8 := c52
              have hb20 : bx < 20 := c61
              refine z_aload_n C 1 rfl dX1_addBox_72 rfl ?_
              refine z_get C k_Q (hun.get (fun h => h) hX) 2 (by decide) rfl q187 dX1_addBox_73 ?_
              refine z_aload_n C 1 rfl dX1_addBox_76 rfl ?_
              refine z_get C k_Q (hun.get (fun h => h) hX) 6 (by decide) rfl q191 dX1_addBox_77 ?_
              refine z_aload_n C 0 rfl dX1_addBox_80 rfl ?_
              refine z_aast C 1 (by decide) ((hB.mv hun no_k).1) (by omega) (by omega) k_B hq1 (Or.inl rfl) dX1_addBox_81 (z_nV (fun V54 hV55 => ?_))
              have hY56 := (hY.mv hun no_k).mv (up_u hV55) (up_k (k := 2) (hB.mv hun no_k).1 rfl (by decide))
              have hB57 := cB.add (hB.mv hun no_k) (hI.2.2.1.1 bx (Nat.le_refl _)) hq1 hV55
              have hA58 := (hA.mv hun no_k).mv (up_u hV55) (up_k (k := 2) (hB.mv hun no_k).1 rfl (by decide))
              have hT59 := (hT.mv hun no_k).mv (up_u hV55) (up_k (k := 2) (hB.mv hun no_k).1 rfl (by decide))
              have g60 := zup hV55 (zne_oa (hun.get (fun h => h) hX) (hB.mv hun no_k).1) (hun.get (fun h => h) hX)
              have g61 := zup hV55 (zne_oa hq1 (hB.mv hun no_k).1) hq1
              refine z_aload_n C 1 rfl dX1_addBox_82 rfl ?_
              refine z_get C k_Q g60 0 (by decide) rfl q185 dX1_addBox_83 ?_
              refine z_iload_n C 3 rfl dX1_addBox_86 rfl ?_
              refine z_aload_n C 0 rfl dX1_addBox_87 rfl ?_
              have hYx := cY.ext hY56 hmm q19
              refine z_callV C k_Y hYx.1.1 (As := [.int (nI (vN v2)), .ref q19]) (mX2_push hYx.1 (s := vN v2) (n := (Y (vN v2)).length) (by omega) (by omega) (hYx.2.1.1 _ (by omega)) g61) (lw_V q460 q461 q462 q59 q463) rfl hd_X2_push rfl (Nat.le_of_ble_eq_true rfl) (by decide) (by decide) (by omega) (by omega) rfl dX1_addBox_88 (fun _ _ h => h.elim) (fun r62 V63 hP64 => ?_)
              refine z_st (st' := []) rfl ?_
              obtain ⟨hY65, hU66⟩ := cY.push (V1 := V63) hYx hY4 (s := vN v2) (b := bx) (by omega) rfl (by omega) (Nat.lt_succ_self _) (by rw [zvs ba bx q19]; exact hP64)
              have hB67 := hB57.mv hU66 (yd_k hYx.1 (by decide))
              have hA68 := hA58.mv hU66 (yd_k hYx.1 (by decide))
              have hT69 := hT59.mv hU66 (yd_k hYx.1 (by decide))
              have g70 := hU66.get (fun q => yd_k hYx.1 (n := 0) (by decide) _ _ g60 q rfl) g60
              have g71 := hU66.get (fun q => yd_k hYx.1 (n := 2) (by decide) _ _ g61 q rfl) g61
              refine z_aload_n C 1 rfl dX1_addBox_91 rfl ?_
              refine z_dup C dX1_addBox_92 rfl ?_
              refine z_get C k_Q g70 6 (by decide) rfl q191 dX1_addBox_93 ?_
              refine z_iconst C (v := (nI 1)) dX1_addBox_96 rfl ?_
              refine z_iaddN C dX1_addBox_97 ?_
              refine z_put C k_Q g70 6 (by decide) [.ref y, .ref rr, .ref bb, .ref al, .ref t, .int (nI st), .int (nI (bx + 1)), .int (nI (fC ins bx)), .int mv, .int (nI nw), .long lf] rfl (Nat.le_of_ble_eq_true rfl) rfl rfl rfl q191 dX1_addBox_98 (z_nV (fun V72 hV73 => ?_))
              have hY74 := hY65.mv (up_u hV73) (up_k (k := 0) g70 rfl (by decide))
              have hB75 := hB67.mv (up_u hV73) (up_k (k := 0) g70 rfl (by decide))
              have hA76 := hA68.mv (up_u hV73) (up_k (k := 0) g70 rfl (by decide))
              have hT77 := hT69.mv (up_u hV73) (up_k (k := 0) g70 rfl (by decide))
              have g78 := zup hV73 (zne_cc g71 g70 (by decide)) g71
              have g79 : V72 x = some (.inr (0, [.ref y, .ref rr, .ref bb, .ref al, .ref t, .int (nI st), .int (nI (bx + 1)), .int (nI (fC ins bx)), .int mv, .int (nI nw), .long lf])) := zself hV73
              refine z_aload_n C 1 rfl dX1_addBox_101 rfl ?_
              refine z_dup C dX1_addBox_102 rfl ?_
              refine z_get C k_Q g79 7 (by decide) rfl q192 dX1_addBox_103 ?_
              refine z_iconst C (v := (nI 1)) dX1_addBox_106 rfl ?_
              refine z_iaddN C dX1_addBox_107 ?_
              refine z_put C k_Q g79 7 (by decide) [.ref y, .ref rr, .ref bb, .ref al, .ref t, .int (nI st), .int (nI (bx + 1)), .int (nI ((fC ins bx) + 1)), .int mv, .int (nI nw), .long lf] rfl (Nat.le_of_ble_eq_true rfl) rfl rfl rfl q192 dX1_addBox_108 (z_nV (fun V80 hV81 => ?_))
              have hY82 := hY74.mv (up_u hV81) (up_k (k := 0) g79 rfl (by decide))
              have hB83 := hB75.mv (up_u hV81) (up_k (k := 0) g79 rfl (by decide))
              have hA84 := hA76.mv (up_u hV81) (up_k (k := 0) g79 rfl (by decide))
              have hT85 := hT77.mv (up_u hV81) (up_k (k := 0) g79 rfl (by decide))
              have g86 := zup hV81 (zne_cc g78 g79 (by decide)) g78
              have g87 : V80 x = some (.inr (0, [.ref y, .ref rr, .ref bb, .ref al, .ref t, .int (nI st), .int (nI (bx + 1)), .int (nI ((fC ins bx) + 1)), .int mv, .int (nI nw), .long lf])) := zself hV81
              refine z_aload_n C 0 rfl dX1_addBox_111 rfl ?_
              refine z_getN C k_B g86 0 (by decide) rfl q413 dX1_addBox_112 ?_
              have hxf := g87
              rw [show fC ins bx + 1 = fC (va_up ins bx true) (bx + 1) from fC_new.symm] at hxf
              have hAf := cA.ext hA84 (fun a ha => (haa a ha).1) q19
              have e1 : oAddBox (qS st rch bx wt ins hld unt Y ap ab hr ln sa mv nw lf) (vN v1) (vN v2) = (0, nI bx, sYd (sBox (qS st rch bx wt ins hld unt Y ap ab hr ln sa mv nw lf) (bx + 1) (va_up wt bx (vN v1)) (va_up ins bx true) (va_up hld bx (nI 45)) unt) (va_up Y (vN v2) (Y (vN v2) ++ [bx]))) := oAddBox_0 (S := (qS st rch bx wt ins hld unt Y ap ab hr ln sa mv nw lf)) hs9 hv1 htk9 (by show ¬ fC ins bx = 8; omega) (by show ¬ bx = 20; omega)
              exact z_iret C hQ (nI bx) rfl ⟨by rw [e1], by rw [e1], by rw [e1]; exact (show cR D _ x (sYd (sBox (qS st rch bx wt ins hld unt Y ap ab hr ln sa mv nw lf) (bx + 1) (va_up wt bx (vN v1)) (va_up ins bx true) (va_up hld bx (nI 45)) unt) (va_up Y (vN v2) (Y (vN v2) ++ [bx]))) from ⟨_, _, _, _, _, _, _, _, _, _, _, _, _, _, _, _, _, _, _, _, _, _, _, _, hxf, hY82, hB83, hAf, hT85⟩)⟩ (by omega) (by omega) dX1_addBox_115
set_option maxHeartbeats 4000000 in
set_option maxRecDepth 100000 in
theorem mX1_book {l : Launch} {D : ZD} {V : ZV} {x kk : Nat} {st : Nat} {rch : Nat → Nat} {bx : Nat} {wt : Nat → Nat} {ins : Nat → Bool} {hld : Nat → Int32} {unt : Nat → Nat} {Y : YD} {ap : Nat} {ab hr ln : Nat → Nat} {sa : Nat → Int32} {mv : Int32} {nw : Nat} {lf : Int64} (hC : cR D V x (qS st rch bx wt ins hld unt Y ap ab hr ln sa mv nw lf)) (hI : qI kk (qS st rch bx wt ins hld unt Y ap ab hr ln sa mv nw lf)) {v1 v2 v3 : Int32} : ZM l D yX1_book (ws_ yX1_book cX1_book 7 (some .int)) 9 10 79 eI V [.ref x, .int v1, .int v2, .int v3] (fun r V' => (oBook (qS st rch bx wt ins hld unt Y ap ab hr ln sa mv nw lf) (vN v1) (vN v2) (vN v3)).1 = 0 ∧ r = (oBook (qS st rch bx wt ins hld unt Y ap ab hr ln sa mv nw lf) (vN v1) (vN v2) (vN v3)).2.1 ∧ cR D V' x (oBook (qS st rch bx wt ins hld unt Y ap ab hr ln sa mv nw lf) (vN v1) (vN v2) (vN v3)).2.2) (fun E V' => ∃ k, (["java/lang/IndexOutOfBoundsException", "java/lang/IllegalArgumentException", "java/lang/UnsupportedOperationException", "java/lang/IllegalStateException"] : List String)[k]? = some E ∧ (oBook (qS st rch bx wt ins hld unt Y ap ab hr ln sa mv nw lf) (vN v1) (vN v2) (vN v3)).1 = k + 1 ∧ cR D V' x (qS st rch bx wt ins hld unt Y ap ab hr ln sa mv nw lf)) := by
  refine z_enter (by decide +kernel) [(0, .ref x), (1, .int v1), (2, .int v2), (3, .int v3)] rfl (Nat.le_of_ble_eq_true rfl) (zcat_cons rfl (zcat_cons rfl (zcat_cons rfl (zcat_cons rfl zcat_nil)))) (fun Γ C hQ => ?_)
  have hC0 := hC
  obtain ⟨y, yb, yh, rr, bb, al, t, d, cap, fb, fh, fr, fB, ba, hc, uc, fa, ma, aa, sl, Lb, Ct, mb, kc, hX, hY, hB, hA, hT⟩ := hC
  have hX : V x = some (.inr (0, [.ref y, .ref rr, .ref bb, .ref al, .ref t, .int (nI st), .int (nI bx), .int (nI (fC ins bx)), .int mv, .int (nI nw), .long lf])) := hX
  have hY : cY D V y yb yh rr fb fh fr ba bx st rch Y := hY
  have hB : cB D V bb fB ba bx wt ins hld unt hc uc := hB
  have hA : cA D V al d cap fa ma ba ap ab hr ln sa aa sl := hA
  have hT : cT V t Lb Ct mb kc ap hr ln sa aa sl := hT
  have hst : st ≤ 4 := hI.1.1
  have hbx : bx ≤ 20 := hI.1.2.1
  have hrc : ∀ s, s < st → rch s ≤ 4 := fun s hs => (hI.1.2.2.1 s hs).2
  have hwt : ∀ b, b < bx → wt b < 1000 := fun b hb => by have h9 : wt b ≤ 30 := (hI.1.2.2.2 b hb).2; omega
  have hg : yGood st bx ins Y := hI.2.1.1
  have hht : ∀ s, s < st → (Y s).length ≤ rch s := hI.2.1.2.1
  have hf8 : fC ins bx ≤ 8 := hI.2.1.2.2
  have hu1 : ∀ b, unt b ≤ 1000 := hI.2.2.1.2.1
  have hhl : ∀ b, b < bx → hld b = nI 45 ∨ hld b = nI 112 ∨ hld b = nI 108 := hI.2.2.1.2.2
  have hap : ap ≤ 30 := hI.2.2.2.1.1
  have haa : ∀ a, a < ap → ab a < bx ∧ hr a ≤ 999 ∧ ln a < 3 ∧ (sa a = nI 98 ∨ sa a = nI 99 ∨ sa a = nI 103 ∨ sa a = nI 100 ∨ sa a = nI 109) := hI.2.2.2.1.2.1
  have hnw : nw ≤ 999 := hI.2.2.2.2
  have hY4 : ∀ s, (Y s).length ≤ 4 := hg.1.1
  have hmm : ∀ s, ∀ c ∈ Y s, c < bx := fun s c hc => (hg.2.2 s c hc).1
  refine z_aload_n C 0 rfl dX1_book_0 rfl ?_
  refine z_iload_n C 1 rfl dX1_book_1 rfl ?_
  refine z_callV C k_Q hX (As := [.int v1]) (mX1_boxWith hX hY hB hA hT hI) (lw_V q471 q473 qs3 q58 q474) rfl hd_X1_boxWith rfl (Nat.le_of_ble_eq_true rfl) (by decide) (by decide) (by omega) (by omega) rfl dX1_book_2 (fun E V9 hE9 => ?_) (fun r1 V2 hP3 => ?_)
  · skip
    obtain ⟨rfl, rfl, hf4⟩ := hE9
    exact z_out C hQ (fun _ h => nomatch h) ⟨0, rfl, by rw [oBook_1 (S := (qS st rch bx wt ins hld unt Y ap ab hr ln sa mv nw lf)) (fun h => absurd h.1 (by rw [hf4]; decide))], hC0⟩ (by omega) (by omega)
  · skip
    obtain ⟨e9, hq9, e8⟩ := hP3
    rw [e9, e8]
    refine z_st (st' := [.ref (ba (vN v1))]) rfl ?_
    obtain ⟨hbb, hbi⟩ := qIs_t (S := (qS st rch bx wt ins hld unt Y ap ab hr ln sa mv nw lf)) hq9
    have hbb : vN v1 < bx := hbb
    have hbi : ins (vN v1) = true := hbi
    have hhc := hB.2.2.2 _ hbb hbi
    refine z_astore C [(4, .ref (ba (vN v1))), (0, .ref x), (1, .int v1), (2, .int v2), (3, .int v3)] dX1_book_5 (by decide) rfl ?_
    refine z_iload_n C 4 rfl dX1_book_7 rfl ?_
    refine z_callS C (As := [.int v3]) (mX1_checkLane) (lw_S q1138 q1139 q58 q1140) hd_X1_checkLane rfl (Nat.le_of_ble_eq_true rfl) (by decide) (by decide) (by omega) (by omega) rfl dX1_book_8 (fun E V9 hE9 => ?_) (fun r5 V6 hP7 => ?_)
    · skip
      obtain ⟨rfl, rfl, hf8⟩ := hE9
      exact z_out C hQ (fun _ h => nomatch h) ⟨0, rfl, by rw [oBook_1 (S := (qS st rch bx wt ins hld unt Y ap ab hr ln sa mv nw lf)) (fun h => hf8 h.2)], hC0⟩ (by omega) (by omega)
    · skip
      obtain ⟨e9, hl9⟩ := hP7
      rw [e9]
      refine z_st (st' := []) rfl ?_
      have hl9b : vN v3 < 3 := by omega
      have hv9 := vN_of (v := v3) hl9b (by omega)
      have e10 : (.int v3 : Value) = .int (nI (vN v3)) := (congrArg Value.int hv9)
      refine z_lv (lv' := [(4, .ref (ba (vN v1))), (0, .ref x), (1, .int v1), (2, .int v2), (3, .int (nI (vN v3)))]) (by rw [e10]) ?_
      refine z_iload_n C 3 rfl dX1_book_11 rfl ?_
      refine z_aload_n C 1 rfl dX1_book_12 rfl ?_
      refine z_get C k_Q hX 9 (by decide) rfl q194 dX1_book_13 ?_
      refine z_icmp_le C 30 dX1_book_16 (by decide) (fun c16 => ?_) (fun c16 => ?_)
      · skip
        refine z_iconst C (v := (nI 0)) dX1_book_30 rfl ?_
        refine z_st (st' := [.int (zb false)]) rfl ?_
        refine z_callS C (As := [.int (zb false)]) (mX1_checkArgument) (lw_S q255 q256 q58 q257) hd_X1_checkArgument rfl (Nat.le_of_ble_eq_true rfl) (by decide) (by decide) (by omega) (by omega) rfl dX1_book_31 (fun E V9 hE9 => ?_) (fun r11 V12 hP13 => ?_)
        · skip
          obtain ⟨rfl, rfl, hf14⟩ := hE9
          exact z_out C hQ (fun _ h => nomatch h) ⟨1, rfl, by rw [oBook_2 (S := (qS st rch bx wt ins hld unt Y ap ab hr ln sa mv nw lf)) hq9 hl9 (fun h => i_le_t (by omega) c16 ⟨h.1, Nat.le_trans h.2 (by decide)⟩)], hC0⟩ (by omega) (by omega)
        · skip
          obtain ⟨-, hb⟩ := hP13
          cases hb
      · skip
        refine z_iload_n C 3 rfl dX1_book_19 rfl ?_
        refine z_sipush C (v := (nI 999)) dX1_book_20 rfl ?_
        refine z_icmp_gt C 30 dX1_book_23 (by decide) (fun c23 => ?_) (fun c23 => ?_)
        · skip
          refine z_iconst C (v := (nI 0)) dX1_book_30 rfl ?_
          refine z_st (st' := [.int (zb false)]) rfl ?_
          refine z_callS C (As := [.int (zb false)]) (mX1_checkArgument) (lw_S q255 q256 q58 q257) hd_X1_checkArgument rfl (Nat.le_of_ble_eq_true rfl) (by decide) (by decide) (by omega) (by omega) rfl dX1_book_31 (fun E V9 hE9 => ?_) (fun r15 V16 hP17 => ?_)
          · skip
            obtain ⟨rfl, rfl, hf18⟩ := hE9
            exact z_out C hQ (fun _ h => nomatch h) ⟨1, rfl, by rw [oBook_2 (S := (qS st rch bx wt ins hld unt Y ap ab hr ln sa mv nw lf)) hq9 hl9 (fun h => absurd h.2 (by have := i_gt (by omega) c23; omega))], hC0⟩ (by omega) (by omega)
          · skip
            obtain ⟨-, hb⟩ := hP17
            cases hb
        · skip
          refine z_iconst C (v := (nI 1)) dX1_book_26 rfl ?_
          refine z_goto C 31 dX1_book_27 (by decide) ?_
          refine z_st (st' := [.int (zb true)]) rfl ?_
          refine z_callS C (As := [.int (zb true)]) (mX1_checkArgument) (lw_S q255 q256 q58 q257) hd_X1_checkArgument rfl (Nat.le_of_ble_eq_true rfl) (by decide) (by decide) (by omega) (by omega) rfl dX1_book_31 (fun E V9 hE9 => ?_) (fun r19 V20 hP21 => ?_)
          · skip
            obtain ⟨-, -, hf⟩ := hE9
            cases hf
          · skip
            obtain ⟨e9, hb22⟩ := hP21
            rw [e9]
            refine z_st (st' := []) rfl ?_
            have hh3 : nw + 1 ≤ vN v2 ∧ vN v2 ≤ 999 := ⟨i_le (by omega) c16, i_gt_f (by omega) c23 c16 (by omega)⟩
            have hh4 : vN v2 < 1000 := by omega
            have hv23 := vN_of (v := v2) hh4 (by omega)
            have e24 : (.int v2 : Value) = .int (nI (vN v2)) := (congrArg Value.int hv23)
            refine z_lv (lv' := [(4, .ref (ba (vN v1))), (0, .ref x), (1, .int v1), (2, .int (nI (vN v2))), (3, .int (nI (vN v3)))]) (by rw [e24]) ?_
            refine z_aload C 0 rfl dX1_book_34 ?_
            refine z_iload_n C 3 rfl dX1_book_36 rfl ?_
            refine z_callV C k_B (hB.2.2.1 (vN v1) hbb) (As := [.int (nI (vN v2))]) (mX4_isHeldAt (hB.2.2.1 (vN v1) hbb) (t := (vN v2)) (by omega) (by have := hu1 (vN v1); have := hhc.2; omega)) (lw_V q610 q611 q612 q74 q613) rfl hd_X4_isHeldAt rfl (Nat.le_of_ble_eq_true rfl) (by decide) (by decide) (by omega) (by omega) rfl dX1_book_37 (fun _ _ h => h.elim) (fun r25 V26 hP27 => ?_)
            have hih : r25 = qHeld (qS st rch bx wt ins hld unt Y ap ab hr ln sa mv nw lf) (vN v1) (vN v2) := by rw [hP27.2, hhc.1, hhc.2]; rfl
            rw [hP27.1, hih]
            refine z_st (st' := [.int (zb (qHeld (qS st rch bx wt ins hld unt Y ap ab hr ln sa mv nw lf) (vN v1) (vN v2)))]) rfl ?_
            refine z_if_neB C 47 dX1_book_40 (by decide) (fun c40 => ?_) (fun c40 => ?_)
            · skip
              refine z_iconst C (v := (nI 0)) dX1_book_47 rfl ?_
              refine z_st (st' := [.int (zb false)]) rfl ?_
              refine z_callS C (As := [.int (zb false)]) (mX1_checkPossible) (lw_S q442 q443 q58 q444) hd_X1_checkPossible rfl (Nat.le_of_ble_eq_true rfl) (by decide) (by decide) (by omega) (by omega) rfl dX1_book_48 (fun E V9 hE9 => ?_) (fun r28 V29 hP30 => ?_)
              · skip
                obtain ⟨rfl, rfl, hf31⟩ := hE9
                exact z_out C hQ (fun _ h => nomatch h) ⟨2, rfl, by rw [oBook_3 (S := (qS st rch bx wt ins hld unt Y ap ab hr ln sa mv nw lf)) hq9 hl9 hh3 c40], hC0⟩ (by omega) (by omega)
              · skip
                obtain ⟨-, hb⟩ := hP30
                cases hb
            · skip
              refine z_iconst C (v := (nI 1)) dX1_book_43 rfl ?_
              refine z_goto C 48 dX1_book_44 (by decide) ?_
              refine z_st (st' := [.int (zb true)]) rfl ?_
              refine z_callS C (As := [.int (zb true)]) (mX1_checkPossible) (lw_S q442 q443 q58 q444) hd_X1_checkPossible rfl (Nat.le_of_ble_eq_true rfl) (by decide) (by decide) (by omega) (by omega) rfl dX1_book_48 (fun E V9 hE9 => ?_) (fun r32 V33 hP34 => ?_)
              · skip
                obtain ⟨-, -, hf⟩ := hE9
                cases hf
              · skip
                obtain ⟨e9, hb35⟩ := hP34
                rw [e9]
                refine z_st (st' := []) rfl ?_
                have hheld := c40
                have hU36 : zUnc V V (fun _ => False) := zUnc.rf
                refine z_new C k_S q1141 q1142 q91 [.int (nI 0), .int (nI 0)] k0_S (by simp only [zr]; omega) (by simp only [zr]; omega) dX1_book_51 (fun q37 hq38 => z_nV (fun V39 hV40 => ?_))
                have hY41 := hY.mv (nw_u hV40 hq38) no_k
                have hB42 := hB.mv (nw_u hV40 hq38) no_k
                have hA43 := hA.mv (nw_u hV40 hq38) no_k
                have hT44 := hT.mv (nw_u hV40 hq38) no_k
                have hf46 := zUnc.none hU36 (fun h => h) hq38
                have hU45 := zUnc.new hU36 hV40 hq38
                have g47 := zup hV40 (zne_new hX hq38) hX
                have g48 : V39 q37 = some (.inr (6, [.int (nI 0), .int (nI 0)])) := zself hV40
                refine z_dup C dX1_book_54 rfl ?_
                refine z_iload_n C 3 rfl dX1_book_55 rfl ?_
                refine z_iload_n C 4 rfl dX1_book_56 rfl ?_
                refine z_callI C (rt := none) (As := [.int (nI (vN v2)), .int (nI (vN v3))]) (mX7_init g48) q1145 q91 q1143 q1144 rfl hd_X7_init rfl (Nat.le_of_ble_eq_true rfl) (by decide) (by decide) (by omega) (by omega) rfl dX1_book_57 (fun _ _ h => h.elim) (fun r49 V50 hP51 => ?_)
                obtain ⟨hsl52, hu53⟩ := hP51
                refine z_st (st' := [.ref q37]) rfl ?_
                have hun54 := zUnc.tr hU45 hu53 (fun a h => Or.inr (by rw [show a = q37 from h]; exact hf46))
                refine z_astore C [(5, .ref q37), (4, .ref (ba (vN v1))), (0, .ref x), (1, .int v1), (2, .int (nI (vN v2))), (3, .int (nI (vN v3)))] dX1_book_60 (by decide) rfl ?_
                refine z_aload_n C 2 rfl dX1_book_62 rfl ?_
                refine z_aload C 1 rfl dX1_book_63 ?_
                refine z_callV C k_Q (hun54.get (fun h => h) hX) (As := [.ref (ba (vN v1))]) (mX1_bookedFor (hun54.get (fun h => h) hX) (hY.mv hun54 no_k) (hB.mv hun54 no_k) (hA.mv hun54 no_k) (hT.mv hun54 no_k) hI hbb) (lw_V q551 q553 qs4 q58 q554) rfl hd_X1_bookedFor rfl (Nat.le_of_ble_eq_true rfl) (by decide) (by decide) (by omega) (by omega) rfl dX1_book_65 (fun _ _ h => h.elim) (fun r55 V56 hP57 => ?_)
                obtain ⟨hu59, hbk58⟩ := hP57
                rw [hbk58]
                refine z_st (st' := [va_rf ((qAin (qS st rch bx wt ins hld unt Y ap ab hr ln sa mv nw lf) (vN v1)).map aa)]) rfl ?_
                have hun60 := zUnc.tr hun54 hu59 (fun _ h => h.elim)
                have g61 := hu59.get (fun h => h) (hun54.get (fun h => h) hX)
                have g62 := hu59.get (fun h => h) hsl52
                rcases hqa : qAin (qS st rch bx wt ins hld unt Y ap ab hr ln sa mv nw lf) (vN v1) with _ | a0
                · skip
                  refine z_st (st' := [.null]) rfl ?_
                  refine z_ifnonnull_n C dX1_book_68 ?_
                  refine z_aload_n C 2 rfl dX1_book_71 rfl ?_
                  refine z_get C k_Q g61 4 (by decide) rfl q189 dX1_book_72 ?_
                  refine z_aload C 0 rfl dX1_book_75 ?_
                  obtain ⟨ft63, ht64⟩ := (hT.mv hun60 no_k).1.ob
                  refine z_callV C k_TM ht64 (As := [.ref q37]) (mJ4_containsKey_S (hT.mv hun60 no_k).1 g62 (cT_cmp (hA.mv hun60 no_k).2.2 (hT.mv hun60 no_k) (fun a ha => ⟨by have := (haa a ha).2.1; omega, by have := (haa a ha).2.2.1; omega⟩) g62 (by omega) (by omega)) (hT.mv hun60 no_k).2.1) (lw_V q1155 q1156 q1157 q64 q1158) rfl hd_J4_containsKey rfl (Nat.le_of_ble_eq_true rfl) (by decide) (by decide) (by omega) (by omega) rfl dX1_book_77 (fun _ _ h => h.elim) (fun r65 V66 hP67 => ?_)
                  have hbn68 := bin_has (hT.mv hun60 no_k) hI.2.2.2.1.2.2.2 hP67.2
                  rw [hP67.1, hbn68]
                  refine z_st (st' := [.int (zb (!(qBin (qS st rch bx wt ins hld unt Y ap ab hr ln sa mv nw lf) (vN v3) (vN v2)).isNone))]) rfl ?_
                  refine z_if_neB C 101 dX1_book_80 (by decide) (fun c80 => ?_) (fun c80 => ?_)
                  · skip
                    refine z_iconst C (v := (nI 0)) dX1_book_101 rfl ?_
                    refine z_st (st' := [.int (zb false)]) rfl ?_
                    refine z_callS C (As := [.int (zb false)]) (mX1_checkState) (lw_S q325 q326 q58 q327) hd_X1_checkState rfl (Nat.le_of_ble_eq_true rfl) (by decide) (by decide) (by omega) (by omega) rfl dX1_book_102 (fun E V9 hE9 => ?_) (fun r69 V70 hP71 => ?_)
                    · skip
                      obtain ⟨rfl, rfl, hf72⟩ := hE9
                      exact z_out C hQ (fun _ h => nomatch h) ⟨3, rfl, by rw [oBook_4 (S := (qS st rch bx wt ins hld unt Y ap ab hr ln sa mv nw lf)) hq9 hl9 hh3 c40 (Or.inr (Or.inl (fun h => by have h9 := c80; rw [h] at h9; cases h9)))], (show cR D _ x (qS st rch bx wt ins hld unt Y ap ab hr ln sa mv nw lf) from ⟨_, _, _, _, _, _, _, _, _, _, _, _, _, _, _, _, _, _, _, _, _, _, _, _, g61, (hY.mv hun60 no_k), (hB.mv hun60 no_k), (hA.mv hun60 no_k), (hT.mv hun60 no_k)⟩)⟩ (by omega) (by omega)
                    · skip
                      obtain ⟨-, hb⟩ := hP71
                      cases hb
                  · skip
                    refine z_aload_n C 2 rfl dX1_book_83 rfl ?_
                    refine z_get C k_Q g61 3 (by decide) rfl q188 dX1_book_84 ?_
                    refine z_callF C k_AL ((hA.mv hun60 no_k).1.1) (As := []) (mJ2_size (hA.mv hun60 no_k).1) (lw_app (lw_in _ [1160, 1163, 949, 62] (by decide +kernel) (by decide +kernel)) (lw_meth q950)) zf_1 hdi_List_size rfl (Nat.le_of_ble_eq_true rfl) (by decide) (by decide) (by omega) (by omega) rfl dX1_book_87 (fun _ _ h => h.elim) (fun r73 V74 hP75 => ?_)
                    rw [hP75.1, hP75.2]
                    refine z_st (st' := [.int (nI (((List.range ap).map aa).length))]) rfl ?_
                    refine z_top (v := .int (nI ap)) (by rw [rng_len]) ?_
                    refine z_bipush C (v := (nI 30)) dX1_book_92 rfl ?_
                    refine z_icmp_geN C 101 (by omega) (by omega) dX1_book_94 (by decide) (fun c94 => ?_) (fun c94 => ?_)
                    · skip
                      refine z_iconst C (v := (nI 0)) dX1_book_101 rfl ?_
                      refine z_st (st' := [.int (zb false)]) rfl ?_
                      refine z_callS C (As := [.int (zb false)]) (mX1_checkState) (lw_S q325 q326 q58 q327) hd_X1_checkState rfl (Nat.le_of_ble_eq_true rfl) (by decide) (by decide) (by omega) (by omega) rfl dX1_book_102 (fun E V9 hE9 => ?_) (fun r76 V77 hP78 => ?_)
                      · skip
                        obtain ⟨rfl, rfl, hf79⟩ := hE9
                        exact z_out C hQ (fun _ h => nomatch h) ⟨3, rfl, by rw [oBook_4 (S := (qS st rch bx wt ins hld unt Y ap ab hr ln sa mv nw lf)) hq9 hl9 hh3 c40 (Or.inr (Or.inr (show ap = 30 by have := c94; omega)))], (show cR D _ x (qS st rch bx wt ins hld unt Y ap ab hr ln sa mv nw lf) from ⟨_, _, _, _, _, _, _, _, _, _, _, _, _, _, _, _, _, _, _, _, _, _, _, _, g61, (hY.mv hun60 no_k), (hB.mv hun60 no_k), (hA.mv hun60 no_k), (hT.mv hun60 no_k)⟩)⟩ (by omega) (by omega)
                      · skip
                        obtain ⟨-, hb⟩ := hP78
                        cases hb
                    · skip
                      refine z_iconst C (v := (nI 1)) dX1_book_97 rfl ?_
                      refine z_goto C 102 dX1_book_98 (by decide) ?_
                      refine z_st (st' := [.int (zb true)]) rfl ?_
                      refine z_callS C (As := [.int (zb true)]) (mX1_checkState) (lw_S q325 q326 q58 q327) hd_X1_checkState rfl (Nat.le_of_ble_eq_true rfl) (by decide) (by decide) (by omega) (by omega) rfl dX1_book_102 (fun E V9 hE9 => ?_) (fun r80 V81 hP82 => ?_)
                      · skip
                        obtain ⟨-, -, hf⟩ := hE9
                        cases hf
                      · skip
                        obtain ⟨e9, hb83⟩ := hP82
                        rw [e9]
                        refine z_st (st' := []) rfl ?_
                        have hap30 : ap < 30 := c94
                        have hbn9 : qBin (qS st rch bx wt ins hld unt Y ap ab hr ln sa mv nw lf) (vN v3) (vN v2) = none := by have h9 := c80; cases e : qBin (qS st rch bx wt ins hld unt Y ap ab hr ln sa mv nw lf) (vN v3) (vN v2) with
                          | none => rfl
                          | some a => rw [e] at h9; cases h9
                        refine z_new C k_A q609 q1166 q92 [.int (nI 0), .null, .null, .int (nI 0)] k0_A (by simp only [zr]; omega) (by simp only [zr]; omega) dX1_book_105 (fun q84 hq85 => z_nV (fun V86 hV87 => ?_))
                        have hY88 := (hY.mv hun60 no_k).mv (nw_u hV87 hq85) no_k
                        have hB89 := (hB.mv hun60 no_k).mv (nw_u hV87 hq85) no_k
                        have hA90 := (hA.mv hun60 no_k).mv (nw_u hV87 hq85) no_k
                        have hT91 := (hT.mv hun60 no_k).mv (nw_u hV87 hq85) no_k
                        have hf93 := zUnc.none hun60 (fun h => h) hq85
                        have hU92 := zUnc.new hun60 hV87 hq85
                        have g94 := zup hV87 (zne_new g61 hq85) g61
                        have g95 := zup hV87 (zne_new g62 hq85) g62
                        have g96 := zup hV87 (zne_new ht64 hq85) ht64
                        have g97 : V86 q84 = some (.inr (7, [.int (nI 0), .null, .null, .int (nI 0)])) := zself hV87
                        refine z_dup C dX1_book_108 rfl ?_
                        refine z_aload_n C 2 rfl dX1_book_109 rfl ?_
                        refine z_get C k_Q g94 3 (by decide) rfl q188 dX1_book_110 ?_
                        refine z_callF C k_AL hA90.1.1 (As := []) (mJ2_size hA90.1) (lw_app (lw_in _ [1160, 1163, 949, 62] (by decide +kernel) (by decide +kernel)) (lw_meth q950)) zf_1 hdi_List_size rfl (Nat.le_of_ble_eq_true rfl) (by decide) (by decide) (by omega) (by omega) rfl dX1_book_113 (fun _ _ h => h.elim) (fun r98 V99 hP100 => ?_)
                        rw [hP100.1, hP100.2]
                        refine z_st (st' := [.int (nI (((List.range ap).map aa).length)), .ref q84, .ref q84]) rfl ?_
                        refine z_top (v := .int (nI ap)) (by rw [rng_len]) ?_
                        refine z_aload C 1 rfl dX1_book_118 ?_
                        refine z_aload C 0 rfl dX1_book_120 ?_
                        refine z_callI C (rt := none) (As := [.int (nI ap), .ref (ba (vN v1)), .ref q37]) (mX8_init g97) q1169 q92 q1167 q1168 rfl hd_X8_init rfl (Nat.le_of_ble_eq_true rfl) (by decide) (by decide) (by omega) (by omega) rfl dX1_book_122 (fun _ _ h => h.elim) (fun r101 V102 hP103 => ?_)
                        obtain ⟨hq2, hqu⟩ := hP103
                        refine z_st (st' := [.ref q84]) rfl ?_
                        have hun9 := zUnc.tr hU92 hqu (fun a h => Or.inr (by rw [show a = q84 from h]; exact hf93))
                        have hs19 := hqu.get (fun e => zne_cc g95 g97 (by decide) e) g95
                        refine z_astore C [(6, .ref q84), (5, .ref q37), (4, .ref (ba (vN v1))), (0, .ref x), (1, .int v1), (2, .int (nI (vN v2))), (3, .int (nI (vN v3)))] dX1_book_125 (by decide) rfl ?_
                        refine z_aload_n C 3 rfl dX1_book_127 rfl ?_
                        refine z_get C k_Q (hun9.get (fun h => h) hX) 3 (by decide) rfl q188 dX1_book_128 ?_
                        refine z_aload C 0 rfl dX1_book_131 ?_
                        have hel9 : ∀ y, y ∈ (List.range ap).map aa → ∃ vs, V102 y = some (.inr (7, vs)) := fun y hy => by obtain ⟨a, ha, rfl⟩ := List.mem_map.mp hy; exact ⟨_, (hA.mv hun9 no_k).2.1 a (List.mem_range.mp ha)⟩
                        refine z_callF C k_AL ((hA.mv hun9 no_k).1.1) (As := [.ref q84]) (mJ2_add (hA.mv hun9 no_k).1 hq2 hel9 (by rw [rng_len]; exact hap30)) (lw_app (lw_in _ [1189, 1192, 1194, 62] (by decide +kernel) (by decide +kernel)) (lw_meth q1196)) zf_2 hdi_List_add rfl (Nat.le_of_ble_eq_true rfl) (by decide) (by decide) (by omega) (by omega) rfl dX1_book_133 (fun _ _ h => h.elim) (fun r104 V105 hP106 => ?_)
                        obtain ⟨hrt, d2, cap2, f2, hL2, hU2⟩ := hP106
                        rw [hrt]
                        refine z_st (st' := [.int (zb true)]) rfl ?_
                        have hA9 := cA.add (hA.mv hun9 no_k) hL2 hU2 hs19 hq2
                        have hY107 := (hY.mv hun9 no_k).mv hU2 (al_k (hA.mv hun9 no_k).1 (by decide))
                        have hB108 := (hB.mv hun9 no_k).mv hU2 (al_k (hA.mv hun9 no_k).1 (by decide))
                        have hT109 := (hT.mv hun9 no_k).mv hU2 (al_k (hA.mv hun9 no_k).1 (by decide))
                        have hx9 := hU2.get (fun q => al_k (hA.mv hun9 no_k).1 (n := 0) (by decide) _ _ (hun9.get (fun h => h) hX) q rfl) (hun9.get (fun h => h) hX)
                        have hs29 := hA9.2.2 ap (Nat.lt_succ_self _)
                        rw [zvs, zvs, zvs] at hs29
                        have hq29 := hA9.2.1 ap (Nat.lt_succ_self _)
                        rw [zvs, zvs, zvs, zvs] at hq29
                        refine z_pop C dX1_book_138 rfl ?_
                        refine z_aload_n C 3 rfl dX1_book_139 rfl ?_
                        refine z_get C k_Q hx9 4 (by decide) rfl q189 dX1_book_140 ?_
                        refine z_aload C 1 rfl dX1_book_143 ?_
                        refine z_aload C 0 rfl dX1_book_145 ?_
                        obtain ⟨ft, hft⟩ := hT109.1.ob
                        have hslo : ∀ a, a < ap → hSl V105 (sl a) (hr a) (ln a) := fun a ha => by
                          have h9 := hA9.2.2 a (by omega)
                          rw [zvn (by omega), zvn (by omega), zvn (by omega)] at h9; exact h9
                        have hne9 : ∀ a, a < ap → sl a ≠ q37 := fun a ha => zne_new (hA.2.2 a ha) hf46
                        refine z_callV C k_TM hft (As := [.ref q37, .ref q84]) (mJ4_put_S hT109.1 hs29 (cT_cmp hslo hT109 (fun a ha => ⟨by have := (haa a ha).2.1; omega, by have := (haa a ha).2.2.1; omega⟩) hs29 (by omega) (by omega)) hT109.2.1 (mX7_compareTo hs29 hs29 (by omega) (by omega) (by omega) (by omega))) (lw_V q1213 q1011 q1693 q64 q1013) rfl hd_J4_put rfl (Nat.le_of_ble_eq_true rfl) (by decide) (by decide) (by omega) (by omega) rfl dX1_book_147 (fun _ _ h => h.elim) (fun r110 V111 hP112 => ?_)
                        rcases hP112 with ⟨j, q0, hj, hk0, -, -, -⟩ | ⟨hr0, e9, j, he9, hj, hM2, ho, hU3⟩
                        · exfalso; obtain ⟨a9, h91, -, -⟩ := bin_in hT109 hI.2.2.2.1.2.2.2 (List.mem_of_getElem? hj) hk0; have h92 : qBin (qS st rch bx wt ins hld unt Y ap ab hr ln sa mv nw lf) (vN v3) (vN v2) = some a9 := h91; rw [hbn9] at h92; cases h92
                        rw [hr0]
                        refine z_st (st' := [.null]) rfl ?_
                        have hY113 := hY107.mv hU3 (fun z e hz hs => by obtain ⟨e2, h2, h3⟩ := hT109.1.kd z hs; rw [hz] at h2; cases h2; rw [h3]; decide)
                        have hB114 := hB108.mv hU3 (fun z e hz hs => by obtain ⟨e2, h2, h3⟩ := hT109.1.kd z hs; rw [hz] at h2; cases h2; rw [h3]; decide)
                        have hA115 := hA9.mv hU3 (fun z e hz hs => by obtain ⟨e2, h2, h3⟩ := hT109.1.kd z hs; rw [hz] at h2; cases h2; rw [h3]; decide)
                        have hT10 := cT.add (sa := sa) (aa := aa) (q2 := q84) hT109 hne9 hj hM2 ho
                        have g116 := hU3.get (fun hs => by obtain ⟨e2, h2, h3⟩ := hT109.1.kd x hs; rw [hx9] at h2; cases h2; exact absurd (show (0 : Nat) = 4 from h3) (by decide)) hx9
                        have hq39 := hA115.2.1 ap (Nat.lt_succ_self _)
                        rw [zvs, zvs, zvs, zvs] at hq39
                        refine z_pop C dX1_book_150 rfl ?_
                        refine z_aload C 0 rfl dX1_book_151 ?_
                        refine z_getN C k_A hq39 0 (by decide) rfl q1172 dX1_book_153 ?_
                        have e1 : oBook (qS st rch bx wt ins hld unt Y ap ab hr ln sa mv nw lf) (vN v1) (vN v2) (vN v3) = (0, nI ap, sAp (qS st rch bx wt ins hld unt Y ap ab hr ln sa mv nw lf) (ap + 1) (va_up ab ap (vN v1)) (va_up hr ap (vN v2)) (va_up ln ap (vN v3)) (va_up sa ap (nI 98))) := oBook_0 (S := (qS st rch bx wt ins hld unt Y ap ab hr ln sa mv nw lf)) hq9 hl9 hh3 hheld hqa hbn9 (by show ¬ ap = 30; omega)
                        exact z_iret C hQ (nI ap) rfl ⟨by rw [e1], by rw [e1], by rw [e1]; exact (show cR D _ x (sAp (qS st rch bx wt ins hld unt Y ap ab hr ln sa mv nw lf) (ap + 1) (va_up ab ap (vN v1)) (va_up hr ap (vN v2)) (va_up ln ap (vN v3)) (va_up sa ap (nI 98))) from ⟨_, _, _, _, _, _, _, _, _, _, _, _, _, _, _, _, _, _, _, _, _, _, _, _, g116, hY113, hB114, hA115, hT10⟩)⟩ (by omega) (by omega) dX1_book_156
                · skip
                  refine z_st (st' := [.ref (aa a0)]) rfl ?_
                  refine z_ifnonnull_r C 101 dX1_book_68 (by decide) ?_
                  refine z_iconst C (v := (nI 0)) dX1_book_101 rfl ?_
                  refine z_st (st' := [.int (zb false)]) rfl ?_
                  refine z_callS C (As := [.int (zb false)]) (mX1_checkState) (lw_S q325 q326 q58 q327) hd_X1_checkState rfl (Nat.le_of_ble_eq_true rfl) (by decide) (by decide) (by omega) (by omega) rfl dX1_book_102 (fun E V9 hE9 => ?_) (fun r117 V118 hP119 => ?_)
                  · skip
                    obtain ⟨rfl, rfl, hf120⟩ := hE9
                    exact z_out C hQ (fun _ h => nomatch h) ⟨3, rfl, by rw [oBook_4 (S := (qS st rch bx wt ins hld unt Y ap ab hr ln sa mv nw lf)) hq9 hl9 hh3 c40 (Or.inl (by rw [hqa]; simp))], (show cR D _ x (qS st rch bx wt ins hld unt Y ap ab hr ln sa mv nw lf) from ⟨_, _, _, _, _, _, _, _, _, _, _, _, _, _, _, _, _, _, _, _, _, _, _, _, g61, (hY.mv hun60 no_k), (hB.mv hun60 no_k), (hA.mv hun60 no_k), (hT.mv hun60 no_k)⟩)⟩ (by omega) (by omega)
                  · skip
                    obtain ⟨-, hb⟩ := hP119
                    cases hb
