/-! COMPONENT: reading -/
set_option maxRecDepth 100000
theorem hBx.inj {V : ZV} {ba : Nat → Nat} {nb : Nat} {wt : Nat → Nat} {hld : Nat → Int32} {unt : Nat → Nat} (h : hBx V ba nb wt hld unt) (hn : nb ≤ 20) {b c : Nat} (hb : b < nb) (hc : c < nb) (e : ba b = ba c) : b = c := by
  have h1 := h b hb
  rw [e, h c hc] at h1
  unfold oBox at h1
  simp only [Option.some.injEq, Sum.inr.injEq, Prod.mk.injEq, List.cons.injEq, Value.int.injEq] at h1
  have h2 := vN_nI (k := b) (by omega)
  rw [← h1.2.1, vN_nI (by omega)] at h2
  exact h2.symm
theorem yIn_of {st bx : Nat} {ins : Nat → Bool} {Y : YD} (hg : yGood st bx ins Y) (hst : st ≤ 4) {V : ZV} {ba : Nat → Nat} {wt : Nat → Nat} {hld : Nat → Int32} {unt : Nat → Nat} (hB : hBx V ba bx wt hld unt) (hbx : bx ≤ 20) {b : Nat} (hb : b < bx) (hi : ins b = true) : yIn ba Y b (yPl Y b) := by
  obtain ⟨p0, hb0⟩ := hg.2.1 _ hb hi
  have hp := yPl_eq hg.1 hst hb0
  rw [hp]
  exact ⟨by have := hg.1.lt hb0; omega, hb0, fun s hs => hg.1.2.2.2.2 s p0 b hs hb0, fun s c hc e => hB.inj hbx ((hg.2.2 s c hc).1) hb e, hg.1.1⟩
theorem oBx_t {S : QS} {b : Nat} {r : Int32} (h : qIs S b = true) : oBx S b r = (0, r, S) := by unfold oBx; rw [if_pos h]
theorem oBx_f {S : QS} {b : Nat} {r : Int32} (h : qIs S b = false) : oBx S b r = (1, 0, S) := by unfold oBx; rw [if_neg (by rw [h]; decide)]
theorem tM.ob {V : ZV} {t : Nat} {L : List Nat} {C : List (Nat × Nat)} {mc : Int32} (h : tM V t L C mc) : ∃ f, V t = some (.inr (9, f)) := by
  obtain ⟨ky, vl, ⟨rt, lf, rg, pa, cl, ps, lo, hi, hI, hW⟩, _⟩ := h
  exact ⟨_, hW.1⟩

set_option maxHeartbeats 4000000 in
set_option maxRecDepth 100000 in
theorem mX1_isPresent {l : Launch} {D : ZD} {V : ZV} {kk x y yb yh rr bb al t d cap : Nat} {fb : Nat → Option Nat} {fh fr : Nat → Int32} {fB : Nat → Option Nat} {ba : Nat → Nat} {hc : Nat → Int32} {uc : Nat → Nat} {fa : Nat → Option Nat} {ma : Int32} {aa sl : Nat → Nat} {Lb : List Nat} {Ct : List (Nat × Nat)} {mb : Int32} {kc : Nat → List Nat} {st : Nat} {rch : Nat → Nat} {bx : Nat} {wt : Nat → Nat} {ins : Nat → Bool} {hld : Nat → Int32} {unt : Nat → Nat} {Y : YD} {ap : Nat} {ab hr ln : Nat → Nat} {sa : Nat → Int32} {mv : Int32} {nw : Nat} {lf : Int64} (hX : V x = some (.inr (0, [.ref y, .ref rr, .ref bb, .ref al, .ref t, .int (nI st), .int (nI bx), .int (nI (fC ins bx)), .int mv, .int (nI nw), .long lf]))) (hY : cY D V y yb yh rr fb fh fr ba bx st rch Y) (hB : cB D V bb fB ba bx wt ins hld unt hc uc) (hA : cA D V al d cap fa ma ba ap ab hr ln sa aa sl) (hT : cT V t Lb Ct mb kc ap hr ln sa aa sl) (hI : qI kk (qS st rch bx wt ins hld unt Y ap ab hr ln sa mv nw lf)) {v1 : Int32} : ZM l D yX1_isPresent (ws_ yX1_isPresent cX1_isPresent 2 (some .boolean)) 2 0 0 eB V [.ref x, .int v1] (fun r V' => V' = V ∧ r = qIs (qS st rch bx wt ins hld unt Y ap ab hr ln sa mv nw lf) (vN v1)) zno_x := by
  refine z_enter (by decide +kernel) [(0, .ref x), (1, .int v1)] rfl (Nat.le_of_ble_eq_true rfl) (zcat_cons rfl (zcat_cons rfl zcat_nil)) (fun Γ C hQ => ?_)
  have hst : st ≤ 4 := hI.1.1
  have hbx : bx ≤ 20 := hI.1.2.1
  have hrc : ∀ s, s < st → rch s ≤ 4 := fun s hs => (hI.1.2.2.1 s hs).2
  have hwt : ∀ b, b < bx → wt b < 1000 := fun b hb => by have h9 : wt b ≤ 30 := (hI.1.2.2.2 b hb).2; omega
  have hg : yGood st bx ins Y := hI.2.1.1
  have hht : ∀ s, s < st → (Y s).length ≤ rch s := hI.2.1.2.1
  have hf8 : fC ins bx ≤ 8 := hI.2.1.2.2
  have hu1 : ∀ b, unt b ≤ 1000 := hI.2.2.1.2.1
  have hhl : ∀ b, b < bx → hld b = nI 45 ∨ hld b = nI 112 ∨ hld b = nI 108 := hI.2.2.1.2.2
  have hap : ap ≤ 30 := hI.2.2.2.1.1
  have haa : ∀ a, a < ap → ab a < bx ∧ hr a ≤ 999 ∧ ln a < 3 ∧ (sa a = nI 98 ∨ sa a = nI 99 ∨ sa a = nI 103 ∨ sa a = nI 100 ∨ sa a = nI 109) := hI.2.2.2.1.2.1
  have hnw : nw ≤ 999 := hI.2.2.2.2
  have hY4 : ∀ s, (Y s).length ≤ 4 := hg.1.1
  have hmm : ∀ s, ∀ c ∈ Y s, c < bx := fun s c hc => (hg.2.2 s c hc).1
  refine z_iload_n C 1 rfl dX1_isPresent_0 rfl ?_
  refine z_iconst C (v := (nI 0)) dX1_isPresent_1 rfl ?_
  refine z_aload_n C 0 rfl dX1_isPresent_2 rfl ?_
  refine z_get C k_Q hX 6 (by decide) rfl q191 dX1_isPresent_3 ?_
  refine z_iconst C (v := (nI 1)) dX1_isPresent_6 rfl ?_
  refine z_isub C dX1_isPresent_7 ?_
  refine z_callS C (As := [.int v1, .int (nI 0), .int ((nI bx) - (nI 1))]) (mX1_isBetween) (lw_S q231 q232 q58 q233) hd_X1_isBetween rfl (Nat.le_of_ble_eq_true rfl) (by decide) (by decide) (by omega) (by omega) rfl dX1_isPresent_8 (fun _ _ h => h.elim) (fun r1 V2 hP3 => ?_)
  have hq4 : r1 = decide (0 ≤ vN v1 ∧ vN v1 < bx) := hP3.2.trans (in_lt (by omega) (by omega))
  rw [hP3.1, hq4]
  refine z_st (st' := [.int (zb (decide (0 ≤ vN v1 ∧ vN v1 < bx)))]) rfl ?_
  refine z_if_eqB C 27 dX1_isPresent_11 (by decide) (fun c11 => ?_) (fun c11 => ?_)
  · skip
    refine z_iconst C (v := (nI 0)) dX1_isPresent_27 rfl ?_
    exact z_zret C hQ false rfl rfl ⟨rfl, by unfold qIs; rw [show decide (vN v1 < qbx (qS st rch bx wt ins hld unt Y ap ab hr ln sa mv nw lf)) = false from decide_eq_false (by show ¬ vN v1 < bx; simpa using c11)]; rfl⟩ (by omega) (by omega) dX1_isPresent_28
  · skip
    have hlt : vN v1 < bx := by simpa using c11
    have hv5 := vN_of (v := v1) hlt (by omega)
    have e6 : (.int v1 : Value) = .int (nI (vN v1)) := (congrArg Value.int hv5)
    refine z_lv (lv' := [(0, .ref x), (1, .int (nI (vN v1)))]) (by rw [e6]) ?_
    refine z_aload_n C 0 rfl dX1_isPresent_14 rfl ?_
    refine z_get C k_Q hX 2 (by decide) rfl q187 dX1_isPresent_15 ?_
    refine z_iload_n C 1 rfl dX1_isPresent_18 rfl ?_
    refine z_aald C 1 (by decide) hB.1 (by omega) (by omega) rfl dX1_isPresent_19 ?_
    refine z_ifnullQ C 27 dX1_isPresent_20 (by decide) (fun hn8 => ?_) (fun a7 hs9 => ?_)
    · skip
      refine z_iconst C (v := (nI 0)) dX1_isPresent_27 rfl ?_
      have hfB := hB.2.1 (vN v1) (by omega)
      rw [hn8] at hfB
      exact z_zret C hQ false rfl rfl ⟨rfl, by unfold qIs; by_cases hi : ins (vN v1) = true; rw [if_pos ⟨hlt, hi⟩] at hfB; cases hfB; simp [qbx, qins, hlt, hi]⟩ (by omega) (by omega) dX1_isPresent_28
    · skip
      refine z_iconst C (v := (nI 1)) dX1_isPresent_23 rfl ?_
      refine z_goto C 28 dX1_isPresent_24 (by decide) ?_
      have hfB := hB.2.1 (vN v1) (by omega)
      rw [hs9] at hfB
      exact z_zret C hQ true rfl rfl ⟨rfl, by unfold qIs; by_cases hi : ins (vN v1) = true; simp [qbx, qins, hlt, hi]; rw [if_neg (fun q => hi q.2)] at hfB; cases hfB⟩ (by omega) (by omega) dX1_isPresent_28
set_option maxHeartbeats 4000000 in
set_option maxRecDepth 100000 in
theorem mX1_boxWith {l : Launch} {D : ZD} {V : ZV} {kk x y yb yh rr bb al t d cap : Nat} {fb : Nat → Option Nat} {fh fr : Nat → Int32} {fB : Nat → Option Nat} {ba : Nat → Nat} {hc : Nat → Int32} {uc : Nat → Nat} {fa : Nat → Option Nat} {ma : Int32} {aa sl : Nat → Nat} {Lb : List Nat} {Ct : List (Nat × Nat)} {mb : Int32} {kc : Nat → List Nat} {st : Nat} {rch : Nat → Nat} {bx : Nat} {wt : Nat → Nat} {ins : Nat → Bool} {hld : Nat → Int32} {unt : Nat → Nat} {Y : YD} {ap : Nat} {ab hr ln : Nat → Nat} {sa : Nat → Int32} {mv : Int32} {nw : Nat} {lf : Int64} (hX : V x = some (.inr (0, [.ref y, .ref rr, .ref bb, .ref al, .ref t, .int (nI st), .int (nI bx), .int (nI (fC ins bx)), .int mv, .int (nI nw), .long lf]))) (hY : cY D V y yb yh rr fb fh fr ba bx st rch Y) (hB : cB D V bb fB ba bx wt ins hld unt hc uc) (hA : cA D V al d cap fa ma ba ap ab hr ln sa aa sl) (hT : cT V t Lb Ct mb kc ap hr ln sa aa sl) (hI : qI kk (qS st rch bx wt ins hld unt Y ap ab hr ln sa mv nw lf)) {v1 : Int32} : ZM l D yX1_boxWith (ws_ yX1_boxWith cX1_boxWith 2 (some (.object "Quaylock$Box"))) 7 1 6 eR V [.ref x, .int v1] (fun r V' => V' = V ∧ qIs (qS st rch bx wt ins hld unt Y ap ab hr ln sa mv nw lf) (vN v1) = true ∧ r = ba (vN v1)) (fun E V' => E = "java/lang/IndexOutOfBoundsException" ∧ V' = V ∧ qIs (qS st rch bx wt ins hld unt Y ap ab hr ln sa mv nw lf) (vN v1) = false) := by
  refine z_enter (by decide +kernel) [(0, .ref x), (1, .int v1)] rfl (Nat.le_of_ble_eq_true rfl) (zcat_cons rfl (zcat_cons rfl zcat_nil)) (fun Γ C hQ => ?_)
  have hst : st ≤ 4 := hI.1.1
  have hbx : bx ≤ 20 := hI.1.2.1
  have hrc : ∀ s, s < st → rch s ≤ 4 := fun s hs => (hI.1.2.2.1 s hs).2
  have hwt : ∀ b, b < bx → wt b < 1000 := fun b hb => by have h9 : wt b ≤ 30 := (hI.1.2.2.2 b hb).2; omega
  have hg : yGood st bx ins Y := hI.2.1.1
  have hht : ∀ s, s < st → (Y s).length ≤ rch s := hI.2.1.2.1
  have hf8 : fC ins bx ≤ 8 := hI.2.1.2.2
  have hu1 : ∀ b, unt b ≤ 1000 := hI.2.2.1.2.1
  have hhl : ∀ b, b < bx → hld b = nI 45 ∨ hld b = nI 112 ∨ hld b = nI 108 := hI.2.2.1.2.2
  have hap : ap ≤ 30 := hI.2.2.2.1.1
  have haa : ∀ a, a < ap → ab a < bx ∧ hr a ≤ 999 ∧ ln a < 3 ∧ (sa a = nI 98 ∨ sa a = nI 99 ∨ sa a = nI 103 ∨ sa a = nI 100 ∨ sa a = nI 109) := hI.2.2.2.1.2.1
  have hnw : nw ≤ 999 := hI.2.2.2.2
  have hY4 : ∀ s, (Y s).length ≤ 4 := hg.1.1
  have hmm : ∀ s, ∀ c ∈ Y s, c < bx := fun s c hc => (hg.2.2 s c hc).1
  refine z_aload_n C 0 rfl dX1_boxWith_0 rfl ?_
  refine z_iload_n C 1 rfl dX1_boxWith_1 rfl ?_
  refine z_callV C k_Q hX (As := [.int v1]) (mX1_isPresent hX hY hB hA hT hI) (lw_V q227 q229 qs0 q58 q230) rfl hd_X1_isPresent rfl (Nat.le_of_ble_eq_true rfl) (by decide) (by decide) (by omega) (by omega) rfl dX1_boxWith_2 (fun _ _ h => h.elim) (fun r1 V2 hP3 => ?_)
  rw [hP3.1, hP3.2]
  refine z_st (st' := [.int (zb (qIs (qS st rch bx wt ins hld unt Y ap ab hr ln sa mv nw lf) (vN v1)))]) rfl ?_
  refine z_callS C (As := [.int (zb (qIs (qS st rch bx wt ins hld unt Y ap ab hr ln sa mv nw lf) (vN v1)))]) (mX1_checkIndex) (lw_S q388 q389 q58 q390) hd_X1_checkIndex rfl (Nat.le_of_ble_eq_true rfl) (by decide) (by decide) (by omega) (by omega) rfl dX1_boxWith_5 (fun E V9 hE9 => ?_) (fun r4 V5 hP6 => ?_)
  · skip
    obtain ⟨rfl, rfl, hf7⟩ := hE9
    exact z_out C hQ (fun _ h => nomatch h) ⟨rfl, rfl, hf7⟩ (by omega) (by omega)
  · skip
    obtain ⟨e9, hb8⟩ := hP6
    rw [e9]
    refine z_st (st' := []) rfl ?_
    obtain ⟨hbb, hbi⟩ := qIs_t (S := (qS st rch bx wt ins hld unt Y ap ab hr ln sa mv nw lf)) hb8
    have hbb : vN v1 < bx := hbb
    have hbi : ins (vN v1) = true := hbi
    have hv9 := vN_of (v := v1) hbb (by omega)
    have e10 : (.int v1 : Value) = .int (nI (vN v1)) := (congrArg Value.int hv9)
    refine z_lv (lv' := [(0, .ref x), (1, .int (nI (vN v1)))]) (by rw [e10]) ?_
    refine z_aload_n C 0 rfl dX1_boxWith_8 rfl ?_
    refine z_get C k_Q hX 2 (by decide) rfl q187 dX1_boxWith_9 ?_
    refine z_iload_n C 1 rfl dX1_boxWith_12 rfl ?_
    refine z_aaldR C 1 (by decide) hB.1 (by omega) (by omega) (by rw [hB.2.1 (vN v1) (by omega), if_pos ⟨hbb, hbi⟩]) dX1_boxWith_13 ?_
    exact z_aret C hQ (ba (vN v1)) rfl (Or.inl ⟨_, rfl⟩) ⟨rfl, hb8, rfl⟩ (by omega) (by omega) dX1_boxWith_14
set_option maxHeartbeats 4000000 in
set_option maxRecDepth 100000 in
theorem mX1_checkStack {l : Launch} {D : ZD} {V : ZV} {kk x y yb yh rr bb al t d cap : Nat} {fb : Nat → Option Nat} {fh fr : Nat → Int32} {fB : Nat → Option Nat} {ba : Nat → Nat} {hc : Nat → Int32} {uc : Nat → Nat} {fa : Nat → Option Nat} {ma : Int32} {aa sl : Nat → Nat} {Lb : List Nat} {Ct : List (Nat × Nat)} {mb : Int32} {kc : Nat → List Nat} {st : Nat} {rch : Nat → Nat} {bx : Nat} {wt : Nat → Nat} {ins : Nat → Bool} {hld : Nat → Int32} {unt : Nat → Nat} {Y : YD} {ap : Nat} {ab hr ln : Nat → Nat} {sa : Nat → Int32} {mv : Int32} {nw : Nat} {lf : Int64} (hX : V x = some (.inr (0, [.ref y, .ref rr, .ref bb, .ref al, .ref t, .int (nI st), .int (nI bx), .int (nI (fC ins bx)), .int mv, .int (nI nw), .long lf]))) (hY : cY D V y yb yh rr fb fh fr ba bx st rch Y) (hB : cB D V bb fB ba bx wt ins hld unt hc uc) (hA : cA D V al d cap fa ma ba ap ab hr ln sa aa sl) (hT : cT V t Lb Ct mb kc ap hr ln sa aa sl) (hI : qI kk (qS st rch bx wt ins hld unt Y ap ab hr ln sa mv nw lf)) {v1 : Int32} : ZM l D yX1_checkStack (ws_ yX1_checkStack cX1_checkStack 2 none) 7 1 6 eU V [.ref x, .int v1] (fun r V' => V' = V ∧ vN v1 < st) (fun E V' => E = "java/lang/IndexOutOfBoundsException" ∧ V' = V ∧ ¬ vN v1 < st) := by
  refine z_enter (by decide +kernel) [(0, .ref x), (1, .int v1)] rfl (Nat.le_of_ble_eq_true rfl) (zcat_cons rfl (zcat_cons rfl zcat_nil)) (fun Γ C hQ => ?_)
  have hst : st ≤ 4 := hI.1.1
  have hbx : bx ≤ 20 := hI.1.2.1
  have hrc : ∀ s, s < st → rch s ≤ 4 := fun s hs => (hI.1.2.2.1 s hs).2
  have hwt : ∀ b, b < bx → wt b < 1000 := fun b hb => by have h9 : wt b ≤ 30 := (hI.1.2.2.2 b hb).2; omega
  have hg : yGood st bx ins Y := hI.2.1.1
  have hht : ∀ s, s < st → (Y s).length ≤ rch s := hI.2.1.2.1
  have hf8 : fC ins bx ≤ 8 := hI.2.1.2.2
  have hu1 : ∀ b, unt b ≤ 1000 := hI.2.2.1.2.1
  have hhl : ∀ b, b < bx → hld b = nI 45 ∨ hld b = nI 112 ∨ hld b = nI 108 := hI.2.2.1.2.2
  have hap : ap ≤ 30 := hI.2.2.2.1.1
  have haa : ∀ a, a < ap → ab a < bx ∧ hr a ≤ 999 ∧ ln a < 3 ∧ (sa a = nI 98 ∨ sa a = nI 99 ∨ sa a = nI 103 ∨ sa a = nI 100 ∨ sa a = nI 109) := hI.2.2.2.1.2.1
  have hnw : nw ≤ 999 := hI.2.2.2.2
  have hY4 : ∀ s, (Y s).length ≤ 4 := hg.1.1
  have hmm : ∀ s, ∀ c ∈ Y s, c < bx := fun s c hc => (hg.2.2 s c hc).1
  refine z_iload_n C 1 rfl dX1_checkStack_0 rfl ?_
  refine z_iconst C (v := (nI 0)) dX1_checkStack_1 rfl ?_
  refine z_aload_n C 0 rfl dX1_checkStack_2 rfl ?_
  refine z_get C k_Q hX 5 (by decide) rfl q190 dX1_checkStack_3 ?_
  refine z_iconst C (v := (nI 1)) dX1_checkStack_6 rfl ?_
  refine z_isub C dX1_checkStack_7 ?_
  refine z_callS C (As := [.int v1, .int (nI 0), .int ((nI st) - (nI 1))]) (mX1_isBetween) (lw_S q231 q232 q58 q233) hd_X1_isBetween rfl (Nat.le_of_ble_eq_true rfl) (by decide) (by decide) (by omega) (by omega) rfl dX1_checkStack_8 (fun _ _ h => h.elim) (fun r1 V2 hP3 => ?_)
  have hq4 : r1 = decide (0 ≤ vN v1 ∧ vN v1 < st) := hP3.2.trans (in_lt (by omega) (by omega))
  rw [hP3.1, hq4]
  refine z_st (st' := [.int (zb (decide (0 ≤ vN v1 ∧ vN v1 < st)))]) rfl ?_
  refine z_callS C (As := [.int (zb (decide (0 ≤ vN v1 ∧ vN v1 < st)))]) (mX1_checkIndex) (lw_S q388 q389 q58 q390) hd_X1_checkIndex rfl (Nat.le_of_ble_eq_true rfl) (by decide) (by decide) (by omega) (by omega) rfl dX1_checkStack_11 (fun E V9 hE9 => ?_) (fun r5 V6 hP7 => ?_)
  · skip
    obtain ⟨rfl, rfl, hf8⟩ := hE9
    exact z_out C hQ (fun _ h => nomatch h) ⟨rfl, rfl, by simpa using hf8⟩ (by omega) (by omega)
  · skip
    obtain ⟨e9, hb9⟩ := hP7
    rw [e9]
    refine z_st (st' := []) rfl ?_
    exact z_vret C hQ () rfl ⟨rfl, by simpa using hb9⟩ (by omega) (by omega) dX1_checkStack_14
set_option maxHeartbeats 4000000 in
set_option maxRecDepth 100000 in
theorem mX1_checkLane {l : Launch} {D : ZD} {V : ZV} {v1 : Int32} : ZM l D yX1_checkLane (ws_ yX1_checkLane cX1_checkLane 1 none) 7 1 6 eU V [.int v1] (fun r V' => V' = V ∧ vN v1 ≤ 2) (fun E V' => E = "java/lang/IndexOutOfBoundsException" ∧ V' = V ∧ ¬ vN v1 ≤ 2) := by
  refine z_enter (by decide +kernel) [(0, .int v1)] rfl (Nat.le_of_ble_eq_true rfl) (zcat_cons rfl zcat_nil) (fun Γ C hQ => ?_)
  refine z_iload_n C 0 rfl dX1_checkLane_0 rfl ?_
  refine z_iconst C (v := (nI 0)) dX1_checkLane_1 rfl ?_
  refine z_iconst C (v := (nI 2)) dX1_checkLane_2 rfl ?_
  refine z_callS C (As := [.int v1, .int (nI 0), .int (nI 2)]) (mX1_isBetween) (lw_S q231 q232 q58 q233) hd_X1_isBetween rfl (Nat.le_of_ble_eq_true rfl) (by decide) (by decide) (by omega) (by omega) rfl dX1_checkLane_3 (fun _ _ h => h.elim) (fun r1 V2 hP3 => ?_)
  have hq4 : r1 = decide (0 ≤ vN v1 ∧ vN v1 ≤ 2) := hP3.2.trans (in_le (by omega) (by omega))
  rw [hP3.1, hq4]
  refine z_st (st' := [.int (zb (decide (0 ≤ vN v1 ∧ vN v1 ≤ 2)))]) rfl ?_
  refine z_callS C (As := [.int (zb (decide (0 ≤ vN v1 ∧ vN v1 ≤ 2)))]) (mX1_checkIndex) (lw_S q388 q389 q58 q390) hd_X1_checkIndex rfl (Nat.le_of_ble_eq_true rfl) (by decide) (by decide) (by omega) (by omega) rfl dX1_checkLane_6 (fun E V9 hE9 => ?_) (fun r5 V6 hP7 => ?_)
  · skip
    obtain ⟨rfl, rfl, hf8⟩ := hE9
    exact z_out C hQ (fun _ h => nomatch h) ⟨rfl, rfl, by simpa using hf8⟩ (by omega) (by omega)
  · skip
    obtain ⟨e9, hb9⟩ := hP7
    rw [e9]
    refine z_st (st' := []) rfl ?_
    exact z_vret C hQ () rfl ⟨rfl, by simpa using hb9⟩ (by decide) (by decide) dX1_checkLane_9
set_option maxHeartbeats 4000000 in
set_option maxRecDepth 100000 in
theorem mX1_weight {l : Launch} {D : ZD} {V : ZV} {x kk : Nat} {st : Nat} {rch : Nat → Nat} {bx : Nat} {wt : Nat → Nat} {ins : Nat → Bool} {hld : Nat → Int32} {unt : Nat → Nat} {Y : YD} {ap : Nat} {ab hr ln : Nat → Nat} {sa : Nat → Int32} {mv : Int32} {nw : Nat} {lf : Int64} (hC : cR D V x (qS st rch bx wt ins hld unt Y ap ab hr ln sa mv nw lf)) (hI : qI kk (qS st rch bx wt ins hld unt Y ap ab hr ln sa mv nw lf)) {v1 : Int32} : ZM l D yX1_weight (ws_ yX1_weight cX1_weight 2 (some .int)) 8 1 6 eI V [.ref x, .int v1] (fun r V' => (oWeight (qS st rch bx wt ins hld unt Y ap ab hr ln sa mv nw lf) (vN v1)).1 = 0 ∧ r = (oWeight (qS st rch bx wt ins hld unt Y ap ab hr ln sa mv nw lf) (vN v1)).2.1 ∧ cR D V' x (oWeight (qS st rch bx wt ins hld unt Y ap ab hr ln sa mv nw lf) (vN v1)).2.2) (fun E V' => ∃ k, (["java/lang/IndexOutOfBoundsException"] : List String)[k]? = some E ∧ (oWeight (qS st rch bx wt ins hld unt Y ap ab hr ln sa mv nw lf) (vN v1)).1 = k + 1 ∧ cR D V' x (qS st rch bx wt ins hld unt Y ap ab hr ln sa mv nw lf)) := by
  refine z_enter (by decide +kernel) [(0, .ref x), (1, .int v1)] rfl (Nat.le_of_ble_eq_true rfl) (zcat_cons rfl (zcat_cons rfl zcat_nil)) (fun Γ C hQ => ?_)
  have hC0 := hC
  obtain ⟨y, yb, yh, rr, bb, al, t, d, cap, fb, fh, fr, fB, ba, hc, uc, fa, ma, aa, sl, Lb, Ct, mb, kc, hX, hY, hB, hA, hT⟩ := hC
  have hX : V x = some (.inr (0, [.ref y, .ref rr, .ref bb, .ref al, .ref t, .int (nI st), .int (nI bx), .int (nI (fC ins bx)), .int mv, .int (nI nw), .long lf])) := hX
  have hY : cY D V y yb yh rr fb fh fr ba bx st rch Y := hY
  have hB : cB D V bb fB ba bx wt ins hld unt hc uc := hB
  have hA : cA D V al d cap fa ma ba ap ab hr ln sa aa sl := hA
  have hT : cT V t Lb Ct mb kc ap hr ln sa aa sl := hT
  have hst : st ≤ 4 := hI.1.1
  have hbx : bx ≤ 20 := hI.1.2.1
  have hrc : ∀ s, s < st → rch s ≤ 4 := fun s hs => (hI.1.2.2.1 s hs).2
  have hwt : ∀ b, b < bx → wt b < 1000 := fun b hb => by have h9 : wt b ≤ 30 := (hI.1.2.2.2 b hb).2; omega
  have hg : yGood st bx ins Y := hI.2.1.1
  have hht : ∀ s, s < st → (Y s).length ≤ rch s := hI.2.1.2.1
  have hf8 : fC ins bx ≤ 8 := hI.2.1.2.2
  have hu1 : ∀ b, unt b ≤ 1000 := hI.2.2.1.2.1
  have hhl : ∀ b, b < bx → hld b = nI 45 ∨ hld b = nI 112 ∨ hld b = nI 108 := hI.2.2.1.2.2
  have hap : ap ≤ 30 := hI.2.2.2.1.1
  have haa : ∀ a, a < ap → ab a < bx ∧ hr a ≤ 999 ∧ ln a < 3 ∧ (sa a = nI 98 ∨ sa a = nI 99 ∨ sa a = nI 103 ∨ sa a = nI 100 ∨ sa a = nI 109) := hI.2.2.2.1.2.1
  have hnw : nw ≤ 999 := hI.2.2.2.2
  have hY4 : ∀ s, (Y s).length ≤ 4 := hg.1.1
  have hmm : ∀ s, ∀ c ∈ Y s, c < bx := fun s c hc => (hg.2.2 s c hc).1
  refine z_aload_n C 0 rfl dX1_weight_0 rfl ?_
  refine z_iload_n C 1 rfl dX1_weight_1 rfl ?_
  refine z_callV C k_Q hX (As := [.int v1]) (mX1_boxWith hX hY hB hA hT hI) (lw_V q471 q473 qs3 q58 q474) rfl hd_X1_boxWith rfl (Nat.le_of_ble_eq_true rfl) (by decide) (by decide) (by omega) (by omega) rfl dX1_weight_2 (fun E V9 hE9 => ?_) (fun r1 V2 hP3 => ?_)
  · skip
    obtain ⟨rfl, rfl, hf4⟩ := hE9
    exact z_out C hQ (fun _ h => nomatch h) ⟨0, rfl, by unfold oWeight; rw [oBx_f hf4], hC0⟩ (by omega) (by omega)
  · skip
    obtain ⟨e9, hq9, e8⟩ := hP3
    rw [e9, e8]
    refine z_st (st' := [.ref (ba (vN v1))]) rfl ?_
    obtain ⟨hbb, hbi⟩ := qIs_t (S := (qS st rch bx wt ins hld unt Y ap ab hr ln sa mv nw lf)) hq9
    have hbb : vN v1 < bx := hbb
    have hbi : ins (vN v1) = true := hbi
    refine z_getN C k_B (hB.2.2.1 (vN v1) hbb) 1 (by decide) rfl q416 dX1_weight_5 ?_
    exact z_iret C hQ (nI (wt (vN v1))) rfl ⟨by unfold oWeight; rw [oBx_t hq9], by unfold oWeight; rw [oBx_t hq9]; rfl, by unfold oWeight; rw [oBx_t hq9]; exact hC0⟩ (by omega) (by omega) dX1_weight_8
set_option maxHeartbeats 4000000 in
set_option maxRecDepth 100000 in
theorem mX1_stackOf {l : Launch} {D : ZD} {V : ZV} {x kk : Nat} {st : Nat} {rch : Nat → Nat} {bx : Nat} {wt : Nat → Nat} {ins : Nat → Bool} {hld : Nat → Int32} {unt : Nat → Nat} {Y : YD} {ap : Nat} {ab hr ln : Nat → Nat} {sa : Nat → Int32} {mv : Int32} {nw : Nat} {lf : Int64} (hC : cR D V x (qS st rch bx wt ins hld unt Y ap ab hr ln sa mv nw lf)) (hI : qI kk (qS st rch bx wt ins hld unt Y ap ab hr ln sa mv nw lf)) {v1 : Int32} : ZM l D yX1_stackOf (ws_ yX1_stackOf cX1_stackOf 2 (some .int)) 8 1 6 eI V [.ref x, .int v1] (fun r V' => (oStackOf (qS st rch bx wt ins hld unt Y ap ab hr ln sa mv nw lf) (vN v1)).1 = 0 ∧ r = (oStackOf (qS st rch bx wt ins hld unt Y ap ab hr ln sa mv nw lf) (vN v1)).2.1 ∧ cR D V' x (oStackOf (qS st rch bx wt ins hld unt Y ap ab hr ln sa mv nw lf) (vN v1)).2.2) (fun E V' => ∃ k, (["java/lang/IndexOutOfBoundsException"] : List String)[k]? = some E ∧ (oStackOf (qS st rch bx wt ins hld unt Y ap ab hr ln sa mv nw lf) (vN v1)).1 = k + 1 ∧ cR D V' x (qS st rch bx wt ins hld unt Y ap ab hr ln sa mv nw lf)) := by
  refine z_enter (by decide +kernel) [(0, .ref x), (1, .int v1)] rfl (Nat.le_of_ble_eq_true rfl) (zcat_cons rfl (zcat_cons rfl zcat_nil)) (fun Γ C hQ => ?_)
  have hC0 := hC
  obtain ⟨y, yb, yh, rr, bb, al, t, d, cap, fb, fh, fr, fB, ba, hc, uc, fa, ma, aa, sl, Lb, Ct, mb, kc, hX, hY, hB, hA, hT⟩ := hC
  have hX : V x = some (.inr (0, [.ref y, .ref rr, .ref bb, .ref al, .ref t, .int (nI st), .int (nI bx), .int (nI (fC ins bx)), .int mv, .int (nI nw), .long lf])) := hX
  have hY : cY D V y yb yh rr fb fh fr ba bx st rch Y := hY
  have hB : cB D V bb fB ba bx wt ins hld unt hc uc := hB
  have hA : cA D V al d cap fa ma ba ap ab hr ln sa aa sl := hA
  have hT : cT V t Lb Ct mb kc ap hr ln sa aa sl := hT
  have hst : st ≤ 4 := hI.1.1
  have hbx : bx ≤ 20 := hI.1.2.1
  have hrc : ∀ s, s < st → rch s ≤ 4 := fun s hs => (hI.1.2.2.1 s hs).2
  have hwt : ∀ b, b < bx → wt b < 1000 := fun b hb => by have h9 : wt b ≤ 30 := (hI.1.2.2.2 b hb).2; omega
  have hg : yGood st bx ins Y := hI.2.1.1
  have hht : ∀ s, s < st → (Y s).length ≤ rch s := hI.2.1.2.1
  have hf8 : fC ins bx ≤ 8 := hI.2.1.2.2
  have hu1 : ∀ b, unt b ≤ 1000 := hI.2.2.1.2.1
  have hhl : ∀ b, b < bx → hld b = nI 45 ∨ hld b = nI 112 ∨ hld b = nI 108 := hI.2.2.1.2.2
  have hap : ap ≤ 30 := hI.2.2.2.1.1
  have haa : ∀ a, a < ap → ab a < bx ∧ hr a ≤ 999 ∧ ln a < 3 ∧ (sa a = nI 98 ∨ sa a = nI 99 ∨ sa a = nI 103 ∨ sa a = nI 100 ∨ sa a = nI 109) := hI.2.2.2.1.2.1
  have hnw : nw ≤ 999 := hI.2.2.2.2
  have hY4 : ∀ s, (Y s).length ≤ 4 := hg.1.1
  have hmm : ∀ s, ∀ c ∈ Y s, c < bx := fun s c hc => (hg.2.2 s c hc).1
  refine z_aload_n C 0 rfl dX1_stackOf_0 rfl ?_
  refine z_get C k_Q hX 0 (by decide) rfl q185 dX1_stackOf_1 ?_
  refine z_aload_n C 0 rfl dX1_stackOf_4 rfl ?_
  refine z_iload_n C 1 rfl dX1_stackOf_5 rfl ?_
  refine z_callV C k_Q hX (As := [.int v1]) (mX1_boxWith hX hY hB hA hT hI) (lw_V q471 q473 qs3 q58 q474) rfl hd_X1_boxWith rfl (Nat.le_of_ble_eq_true rfl) (by decide) (by decide) (by omega) (by omega) rfl dX1_stackOf_6 (fun E V9 hE9 => ?_) (fun r1 V2 hP3 => ?_)
  · skip
    obtain ⟨rfl, rfl, hf4⟩ := hE9
    exact z_out C hQ (fun _ h => nomatch h) ⟨0, rfl, by unfold oStackOf; rw [oBx_f hf4], hC0⟩ (by omega) (by omega)
  · skip
    obtain ⟨e9, hq9, e8⟩ := hP3
    rw [e9, e8]
    refine z_st (st' := [.ref (ba (vN v1)), .ref y]) rfl ?_
    obtain ⟨hbb, hbi⟩ := qIs_t (S := (qS st rch bx wt ins hld unt Y ap ab hr ln sa mv nw lf)) hq9
    have hbb : vN v1 < bx := hbb
    have hbi : ins (vN v1) = true := hbi
    obtain ⟨p0, hb0⟩ := hg.2.1 _ hbb hbi
    have hb : vN v1 ∈ Y (yPl Y (vN v1)) := by rw [yPl_eq hg.1 hst hb0]; exact hb0
    have hpst := hg.1.lt hb
    have hyi := yIn_of hg hst hB.2.2.1 hbx hbb hbi
    obtain ⟨hk, hkl, hab⟩ := yAb_at hg.1 hst hb
    have hl4 := hY4 (yPl Y (vN v1))
    have hnd := hg.1.2.2.2.1 (yPl Y (vN v1))
    refine z_callV C k_Y hY.1.1 (As := [.ref (ba (vN v1))]) (mX2_stackOf hY.1 hY.2.1 hyi) (lw_V q482 q483 q484 q59 q485) rfl hd_X2_stackOf rfl (Nat.le_of_ble_eq_true rfl) (by decide) (by decide) (by omega) (by omega) rfl dX1_stackOf_9 (fun _ _ h => h.elim) (fun r5 V6 hP7 => ?_)
    rw [hP7.1, hP7.2]
    refine z_st (st' := [.int (nI (yPl Y (vN v1)))]) rfl ?_
    exact z_iret C hQ (nI (yPl Y (vN v1))) rfl ⟨by unfold oStackOf; rw [oBx_t hq9], by unfold oStackOf; rw [oBx_t hq9]; rfl, by unfold oStackOf; rw [oBx_t hq9]; exact hC0⟩ (by omega) (by omega) dX1_stackOf_12
set_option maxHeartbeats 4000000 in
set_option maxRecDepth 100000 in
theorem mX1_level {l : Launch} {D : ZD} {V : ZV} {x kk : Nat} {st : Nat} {rch : Nat → Nat} {bx : Nat} {wt : Nat → Nat} {ins : Nat → Bool} {hld : Nat → Int32} {unt : Nat → Nat} {Y : YD} {ap : Nat} {ab hr ln : Nat → Nat} {sa : Nat → Int32} {mv : Int32} {nw : Nat} {lf : Int64} (hC : cR D V x (qS st rch bx wt ins hld unt Y ap ab hr ln sa mv nw lf)) (hI : qI kk (qS st rch bx wt ins hld unt Y ap ab hr ln sa mv nw lf)) {v1 : Int32} : ZM l D yX1_level (ws_ yX1_level cX1_level 2 (some .int)) 8 1 6 eI V [.ref x, .int v1] (fun r V' => (oLevel (qS st rch bx wt ins hld unt Y ap ab hr ln sa mv nw lf) (vN v1)).1 = 0 ∧ r = (oLevel (qS st rch bx wt ins hld unt Y ap ab hr ln sa mv nw lf) (vN v1)).2.1 ∧ cR D V' x (oLevel (qS st rch bx wt ins hld unt Y ap ab hr ln sa mv nw lf) (vN v1)).2.2) (fun E V' => ∃ k, (["java/lang/IndexOutOfBoundsException"] : List String)[k]? = some E ∧ (oLevel (qS st rch bx wt ins hld unt Y ap ab hr ln sa mv nw lf) (vN v1)).1 = k + 1 ∧ cR D V' x (qS st rch bx wt ins hld unt Y ap ab hr ln sa mv nw lf)) := by
  refine z_enter (by decide +kernel) [(0, .ref x), (1, .int v1)] rfl (Nat.le_of_ble_eq_true rfl) (zcat_cons rfl (zcat_cons rfl zcat_nil)) (fun Γ C hQ => ?_)
  have hC0 := hC
  obtain ⟨y, yb, yh, rr, bb, al, t, d, cap, fb, fh, fr, fB, ba, hc, uc, fa, ma, aa, sl, Lb, Ct, mb, kc, hX, hY, hB, hA, hT⟩ := hC
  have hX : V x = some (.inr (0, [.ref y, .ref rr, .ref bb, .ref al, .ref t, .int (nI st), .int (nI bx), .int (nI (fC ins bx)), .int mv, .int (nI nw), .long lf])) := hX
  have hY : cY D V y yb yh rr fb fh fr ba bx st rch Y := hY
  have hB : cB D V bb fB ba bx wt ins hld unt hc uc := hB
  have hA : cA D V al d cap fa ma ba ap ab hr ln sa aa sl := hA
  have hT : cT V t Lb Ct mb kc ap hr ln sa aa sl := hT
  have hst : st ≤ 4 := hI.1.1
  have hbx : bx ≤ 20 := hI.1.2.1
  have hrc : ∀ s, s < st → rch s ≤ 4 := fun s hs => (hI.1.2.2.1 s hs).2
  have hwt : ∀ b, b < bx → wt b < 1000 := fun b hb => by have h9 : wt b ≤ 30 := (hI.1.2.2.2 b hb).2; omega
  have hg : yGood st bx ins Y := hI.2.1.1
  have hht : ∀ s, s < st → (Y s).length ≤ rch s := hI.2.1.2.1
  have hf8 : fC ins bx ≤ 8 := hI.2.1.2.2
  have hu1 : ∀ b, unt b ≤ 1000 := hI.2.2.1.2.1
  have hhl : ∀ b, b < bx → hld b = nI 45 ∨ hld b = nI 112 ∨ hld b = nI 108 := hI.2.2.1.2.2
  have hap : ap ≤ 30 := hI.2.2.2.1.1
  have haa : ∀ a, a < ap → ab a < bx ∧ hr a ≤ 999 ∧ ln a < 3 ∧ (sa a = nI 98 ∨ sa a = nI 99 ∨ sa a = nI 103 ∨ sa a = nI 100 ∨ sa a = nI 109) := hI.2.2.2.1.2.1
  have hnw : nw ≤ 999 := hI.2.2.2.2
  have hY4 : ∀ s, (Y s).length ≤ 4 := hg.1.1
  have hmm : ∀ s, ∀ c ∈ Y s, c < bx := fun s c hc => (hg.2.2 s c hc).1
  refine z_aload_n C 0 rfl dX1_level_0 rfl ?_
  refine z_get C k_Q hX 0 (by decide) rfl q185 dX1_level_1 ?_
  refine z_aload_n C 0 rfl dX1_level_4 rfl ?_
  refine z_iload_n C 1 rfl dX1_level_5 rfl ?_
  refine z_callV C k_Q hX (As := [.int v1]) (mX1_boxWith hX hY hB hA hT hI) (lw_V q471 q473 qs3 q58 q474) rfl hd_X1_boxWith rfl (Nat.le_of_ble_eq_true rfl) (by decide) (by decide) (by omega) (by omega) rfl dX1_level_6 (fun E V9 hE9 => ?_) (fun r1 V2 hP3 => ?_)
  · skip
    obtain ⟨rfl, rfl, hf4⟩ := hE9
    exact z_out C hQ (fun _ h => nomatch h) ⟨0, rfl, by unfold oLevel; rw [oBx_f hf4], hC0⟩ (by omega) (by omega)
  · skip
    obtain ⟨e9, hq9, e8⟩ := hP3
    rw [e9, e8]
    refine z_st (st' := [.ref (ba (vN v1)), .ref y]) rfl ?_
    obtain ⟨hbb, hbi⟩ := qIs_t (S := (qS st rch bx wt ins hld unt Y ap ab hr ln sa mv nw lf)) hq9
    have hbb : vN v1 < bx := hbb
    have hbi : ins (vN v1) = true := hbi
    obtain ⟨p0, hb0⟩ := hg.2.1 _ hbb hbi
    have hb : vN v1 ∈ Y (yPl Y (vN v1)) := by rw [yPl_eq hg.1 hst hb0]; exact hb0
    have hpst := hg.1.lt hb
    have hyi := yIn_of hg hst hB.2.2.1 hbx hbb hbi
    obtain ⟨hk, hkl, hab⟩ := yAb_at hg.1 hst hb
    have hl4 := hY4 (yPl Y (vN v1))
    have hnd := hg.1.2.2.2.1 (yPl Y (vN v1))
    refine z_callV C k_Y hY.1.1 (As := [.ref (ba (vN v1))]) (mX2_levelOf hY.1 hY.2.1 hyi hk hnd) (lw_V q493 q494 q495 q59 q496) rfl hd_X2_levelOf rfl (Nat.le_of_ble_eq_true rfl) (by decide) (by decide) (by omega) (by omega) rfl dX1_level_9 (fun _ _ h => h.elim) (fun r5 V6 hP7 => ?_)
    rw [hP7.1, hP7.2]
    refine z_st (st' := [.int (nI ((Y (yPl Y (vN v1))).idxOf (vN v1)))]) rfl ?_
    exact z_iret C hQ (nI ((Y (yPl Y (vN v1))).idxOf (vN v1))) rfl ⟨by unfold oLevel; rw [oBx_t hq9], by unfold oLevel; rw [oBx_t hq9]; rfl, by unfold oLevel; rw [oBx_t hq9]; exact hC0⟩ (by omega) (by omega) dX1_level_12
set_option maxHeartbeats 4000000 in
set_option maxRecDepth 100000 in
theorem mX1_above {l : Launch} {D : ZD} {V : ZV} {x kk : Nat} {st : Nat} {rch : Nat → Nat} {bx : Nat} {wt : Nat → Nat} {ins : Nat → Bool} {hld : Nat → Int32} {unt : Nat → Nat} {Y : YD} {ap : Nat} {ab hr ln : Nat → Nat} {sa : Nat → Int32} {mv : Int32} {nw : Nat} {lf : Int64} (hC : cR D V x (qS st rch bx wt ins hld unt Y ap ab hr ln sa mv nw lf)) (hI : qI kk (qS st rch bx wt ins hld unt Y ap ab hr ln sa mv nw lf)) {v1 : Int32} : ZM l D yX1_above (ws_ yX1_above cX1_above 2 (some .int)) 8 1 6 eI V [.ref x, .int v1] (fun r V' => (oAbove (qS st rch bx wt ins hld unt Y ap ab hr ln sa mv nw lf) (vN v1)).1 = 0 ∧ r = (oAbove (qS st rch bx wt ins hld unt Y ap ab hr ln sa mv nw lf) (vN v1)).2.1 ∧ cR D V' x (oAbove (qS st rch bx wt ins hld unt Y ap ab hr ln sa mv nw lf) (vN v1)).2.2) (fun E V' => ∃ k, (["java/lang/IndexOutOfBoundsException"] : List String)[k]? = some E ∧ (oAbove (qS st rch bx wt ins hld unt Y ap ab hr ln sa mv nw lf) (vN v1)).1 = k + 1 ∧ cR D V' x (qS st rch bx wt ins hld unt Y ap ab hr ln sa mv nw lf)) := by
  refine z_enter (by decide +kernel) [(0, .ref x), (1, .int v1)] rfl (Nat.le_of_ble_eq_true rfl) (zcat_cons rfl (zcat_cons rfl zcat_nil)) (fun Γ C hQ => ?_)
  have hC0 := hC
  obtain ⟨y, yb, yh, rr, bb, al, t, d, cap, fb, fh, fr, fB, ba, hc, uc, fa, ma, aa, sl, Lb, Ct, mb, kc, hX, hY, hB, hA, hT⟩ := hC
  have hX : V x = some (.inr (0, [.ref y, .ref rr, .ref bb, .ref al, .ref t, .int (nI st), .int (nI bx), .int (nI (fC ins bx)), .int mv, .int (nI nw), .long lf])) := hX
  have hY : cY D V y yb yh rr fb fh fr ba bx st rch Y := hY
  have hB : cB D V bb fB ba bx wt ins hld unt hc uc := hB
  have hA : cA D V al d cap fa ma ba ap ab hr ln sa aa sl := hA
  have hT : cT V t Lb Ct mb kc ap hr ln sa aa sl := hT
  have hst : st ≤ 4 := hI.1.1
  have hbx : bx ≤ 20 := hI.1.2.1
  have hrc : ∀ s, s < st → rch s ≤ 4 := fun s hs => (hI.1.2.2.1 s hs).2
  have hwt : ∀ b, b < bx → wt b < 1000 := fun b hb => by have h9 : wt b ≤ 30 := (hI.1.2.2.2 b hb).2; omega
  have hg : yGood st bx ins Y := hI.2.1.1
  have hht : ∀ s, s < st → (Y s).length ≤ rch s := hI.2.1.2.1
  have hf8 : fC ins bx ≤ 8 := hI.2.1.2.2
  have hu1 : ∀ b, unt b ≤ 1000 := hI.2.2.1.2.1
  have hhl : ∀ b, b < bx → hld b = nI 45 ∨ hld b = nI 112 ∨ hld b = nI 108 := hI.2.2.1.2.2
  have hap : ap ≤ 30 := hI.2.2.2.1.1
  have haa : ∀ a, a < ap → ab a < bx ∧ hr a ≤ 999 ∧ ln a < 3 ∧ (sa a = nI 98 ∨ sa a = nI 99 ∨ sa a = nI 103 ∨ sa a = nI 100 ∨ sa a = nI 109) := hI.2.2.2.1.2.1
  have hnw : nw ≤ 999 := hI.2.2.2.2
  have hY4 : ∀ s, (Y s).length ≤ 4 := hg.1.1
  have hmm : ∀ s, ∀ c ∈ Y s, c < bx := fun s c hc => (hg.2.2 s c hc).1
  refine z_aload_n C 0 rfl dX1_above_0 rfl ?_
  refine z_get C k_Q hX 0 (by decide) rfl q185 dX1_above_1 ?_
  refine z_aload_n C 0 rfl dX1_above_4 rfl ?_
  refine z_iload_n C 1 rfl dX1_above_5 rfl ?_
  refine z_callV C k_Q hX (As := [.int v1]) (mX1_boxWith hX hY hB hA hT hI) (lw_V q471 q473 qs3 q58 q474) rfl hd_X1_boxWith rfl (Nat.le_of_ble_eq_true rfl) (by decide) (by decide) (by omega) (by omega) rfl dX1_above_6 (fun E V9 hE9 => ?_) (fun r1 V2 hP3 => ?_)
  · skip
    obtain ⟨rfl, rfl, hf4⟩ := hE9
    exact z_out C hQ (fun _ h => nomatch h) ⟨0, rfl, by unfold oAbove; rw [oBx_f hf4], hC0⟩ (by omega) (by omega)
  · skip
    obtain ⟨e9, hq9, e8⟩ := hP3
    rw [e9, e8]
    refine z_st (st' := [.ref (ba (vN v1)), .ref y]) rfl ?_
    obtain ⟨hbb, hbi⟩ := qIs_t (S := (qS st rch bx wt ins hld unt Y ap ab hr ln sa mv nw lf)) hq9
    have hbb : vN v1 < bx := hbb
    have hbi : ins (vN v1) = true := hbi
    obtain ⟨p0, hb0⟩ := hg.2.1 _ hbb hbi
    have hb : vN v1 ∈ Y (yPl Y (vN v1)) := by rw [yPl_eq hg.1 hst hb0]; exact hb0
    have hpst := hg.1.lt hb
    have hyi := yIn_of hg hst hB.2.2.1 hbx hbb hbi
    obtain ⟨hk, hkl, hab⟩ := yAb_at hg.1 hst hb
    have hl4 := hY4 (yPl Y (vN v1))
    have hnd := hg.1.2.2.2.1 (yPl Y (vN v1))
    refine z_callV C k_Y hY.1.1 (As := [.ref (ba (vN v1))]) (mX2_above hY.1 hY.2.1 hyi hk hnd) (lw_V q505 q506 q507 q59 q508) rfl hd_X2_above rfl (Nat.le_of_ble_eq_true rfl) (by decide) (by decide) (by omega) (by omega) rfl dX1_above_9 (fun _ _ h => h.elim) (fun r5 V6 hP7 => ?_)
    rw [hP7.1, hP7.2]
    refine z_st (st' := [.int (nI ((Y (yPl Y (vN v1))).length - 1 - (Y (yPl Y (vN v1))).idxOf (vN v1)))]) rfl ?_
    exact z_iret C hQ (nI ((Y (yPl Y (vN v1))).length - 1 - (Y (yPl Y (vN v1))).idxOf (vN v1))) rfl ⟨by unfold oAbove; rw [oBx_t hq9], by unfold oAbove; rw [oBx_t hq9]; exact congrArg nI (by show _ = yAb Y (vN v1); omega), by unfold oAbove; rw [oBx_t hq9]; exact hC0⟩ (by omega) (by omega) dX1_above_12
set_option maxHeartbeats 4000000 in
set_option maxRecDepth 100000 in
theorem mX1_holdOf {l : Launch} {D : ZD} {V : ZV} {x kk : Nat} {st : Nat} {rch : Nat → Nat} {bx : Nat} {wt : Nat → Nat} {ins : Nat → Bool} {hld : Nat → Int32} {unt : Nat → Nat} {Y : YD} {ap : Nat} {ab hr ln : Nat → Nat} {sa : Nat → Int32} {mv : Int32} {nw : Nat} {lf : Int64} (hC : cR D V x (qS st rch bx wt ins hld unt Y ap ab hr ln sa mv nw lf)) (hI : qI kk (qS st rch bx wt ins hld unt Y ap ab hr ln sa mv nw lf)) {v1 : Int32} : ZM l D yX1_holdOf (ws_ yX1_holdOf cX1_holdOf 2 (some .char)) 8 1 6 eI V [.ref x, .int v1] (fun r V' => (oHoldOf (qS st rch bx wt ins hld unt Y ap ab hr ln sa mv nw lf) (vN v1)).1 = 0 ∧ r = (oHoldOf (qS st rch bx wt ins hld unt Y ap ab hr ln sa mv nw lf) (vN v1)).2.1 ∧ cR D V' x (oHoldOf (qS st rch bx wt ins hld unt Y ap ab hr ln sa mv nw lf) (vN v1)).2.2) (fun E V' => ∃ k, (["java/lang/IndexOutOfBoundsException"] : List String)[k]? = some E ∧ (oHoldOf (qS st rch bx wt ins hld unt Y ap ab hr ln sa mv nw lf) (vN v1)).1 = k + 1 ∧ cR D V' x (qS st rch bx wt ins hld unt Y ap ab hr ln sa mv nw lf)) := by
  refine z_enter (by decide +kernel) [(0, .ref x), (1, .int v1)] rfl (Nat.le_of_ble_eq_true rfl) (zcat_cons rfl (zcat_cons rfl zcat_nil)) (fun Γ C hQ => ?_)
  have hC0 := hC
  obtain ⟨y, yb, yh, rr, bb, al, t, d, cap, fb, fh, fr, fB, ba, hc, uc, fa, ma, aa, sl, Lb, Ct, mb, kc, hX, hY, hB, hA, hT⟩ := hC
  have hX : V x = some (.inr (0, [.ref y, .ref rr, .ref bb, .ref al, .ref t, .int (nI st), .int (nI bx), .int (nI (fC ins bx)), .int mv, .int (nI nw), .long lf])) := hX
  have hY : cY D V y yb yh rr fb fh fr ba bx st rch Y := hY
  have hB : cB D V bb fB ba bx wt ins hld unt hc uc := hB
  have hA : cA D V al d cap fa ma ba ap ab hr ln sa aa sl := hA
  have hT : cT V t Lb Ct mb kc ap hr ln sa aa sl := hT
  have hst : st ≤ 4 := hI.1.1
  have hbx : bx ≤ 20 := hI.1.2.1
  have hrc : ∀ s, s < st → rch s ≤ 4 := fun s hs => (hI.1.2.2.1 s hs).2
  have hwt : ∀ b, b < bx → wt b < 1000 := fun b hb => by have h9 : wt b ≤ 30 := (hI.1.2.2.2 b hb).2; omega
  have hg : yGood st bx ins Y := hI.2.1.1
  have hht : ∀ s, s < st → (Y s).length ≤ rch s := hI.2.1.2.1
  have hf8 : fC ins bx ≤ 8 := hI.2.1.2.2
  have hu1 : ∀ b, unt b ≤ 1000 := hI.2.2.1.2.1
  have hhl : ∀ b, b < bx → hld b = nI 45 ∨ hld b = nI 112 ∨ hld b = nI 108 := hI.2.2.1.2.2
  have hap : ap ≤ 30 := hI.2.2.2.1.1
  have haa : ∀ a, a < ap → ab a < bx ∧ hr a ≤ 999 ∧ ln a < 3 ∧ (sa a = nI 98 ∨ sa a = nI 99 ∨ sa a = nI 103 ∨ sa a = nI 100 ∨ sa a = nI 109) := hI.2.2.2.1.2.1
  have hnw : nw ≤ 999 := hI.2.2.2.2
  have hY4 : ∀ s, (Y s).length ≤ 4 := hg.1.1
  have hmm : ∀ s, ∀ c ∈ Y s, c < bx := fun s c hc => (hg.2.2 s c hc).1
  refine z_aload_n C 0 rfl dX1_holdOf_0 rfl ?_
  refine z_iload_n C 1 rfl dX1_holdOf_1 rfl ?_
  refine z_callV C k_Q hX (As := [.int v1]) (mX1_boxWith hX hY hB hA hT hI) (lw_V q471 q473 qs3 q58 q474) rfl hd_X1_boxWith rfl (Nat.le_of_ble_eq_true rfl) (by decide) (by decide) (by omega) (by omega) rfl dX1_holdOf_2 (fun E V9 hE9 => ?_) (fun r1 V2 hP3 => ?_)
  · skip
    obtain ⟨rfl, rfl, hf4⟩ := hE9
    exact z_out C hQ (fun _ h => nomatch h) ⟨0, rfl, by unfold oHoldOf; rw [oBx_f hf4], hC0⟩ (by omega) (by omega)
  · skip
    obtain ⟨e9, hq9, e8⟩ := hP3
    rw [e9, e8]
    refine z_st (st' := [.ref (ba (vN v1))]) rfl ?_
    obtain ⟨hbb, hbi⟩ := qIs_t (S := (qS st rch bx wt ins hld unt Y ap ab hr ln sa mv nw lf)) hq9
    have hbb : vN v1 < bx := hbb
    have hbi : ins (vN v1) = true := hbi
    have hhc : hc (vN v1) = hld (vN v1) := (hB.2.2.2 _ hbb hbi).1
    refine z_getN C k_B (hB.2.2.1 (vN v1) hbb) 2 (by decide) rfl q418 dX1_holdOf_5 ?_
    exact z_zret C hQ (hc (vN v1)) rfl (by rw [hhc]; rcases hhl (vN v1) hbb with e | e | e <;> rw [e] <;> rfl) ⟨by unfold oHoldOf; rw [oBx_t hq9], by unfold oHoldOf; rw [oBx_t hq9]; exact (hB.2.2.2 _ hbb hbi).1, by unfold oHoldOf; rw [oBx_t hq9]; exact hC0⟩ (by omega) (by omega) dX1_holdOf_8
