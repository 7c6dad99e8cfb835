/-! MODEL: release .. move -/
set_option maxRecDepth 100000
set_option maxHeartbeats 4000000 in
set_option maxRecDepth 100000 in
theorem mX3_release {l : Launch} {D : ZD} {V : ZV} {kk m : Nat} {A : Nat → Nat} {F : Nat → Nat → Int32} {cd : Int32} {st : Nat} {rch : Nat → Nat} {bx : Nat} {wt : Nat → Nat} {ins : Nat → Bool} {hld : Nat → Int32} {unt : Nat → Nat} {Y : YD} {ap : Nat} {ab hr ln : Nat → Nat} {sa : Nat → Int32} {mv : Int32} {nw : Nat} {lf : Int64} (hR : mR D V m A F cd (qS st rch bx wt ins hld unt Y ap ab hr ln sa mv nw lf)) (hI : qI kk (qS st rch bx wt ins hld unt Y ap ab hr ln sa mv nw lf)) {v1 : Int32} : ZM l D yX3_release (ws_ yX3_release cX3_release 2 (some .int)) 3 0 0 eI V [.ref m, .int v1] (fun r V' => ∃ F2, mR D V' m A F2 (nI (oRelease (qS st rch bx wt ins hld unt Y ap ab hr ln sa mv nw lf) (vN v1)).1) (oRelease (qS st rch bx wt ins hld unt Y ap ab hr ln sa mv nw lf) (vN v1)).2.2 ∧ ((oRelease (qS st rch bx wt ins hld unt Y ap ab hr ln sa mv nw lf) (vN v1)).1 = 0 → r = (oRelease (qS st rch bx wt ins hld unt Y ap ab hr ln sa mv nw lf) (vN v1)).2.1)) zno_x := by
  refine z_enter (by decide +kernel) [(0, .ref m), (1, .int v1)] rfl (Nat.le_of_ble_eq_true rfl) (zcat_cons rfl (zcat_cons rfl zcat_nil)) (fun Γ C hQ => ?_)
  have hM : MX D V m A F cd nw st bx mv ap lf := hR.1
  have hE : mE F st bx rch wt ins hld := hR.2.1
  have hU : ∀ b, b < 20 → F 4 b = nI (unt b) := hR.2.2.1
  have hy : mY F 0 Y := hR.2.2.2.1
  have hA : ∀ a, a < ap → F 8 a = nI (ab a) ∧ F 9 a = nI (hr a) ∧ F 10 a = nI (ln a) ∧ F 11 a = sa a := hR.2.2.2.2
  have hst : st ≤ 4 := hI.1.1
  have hbx : bx ≤ 20 := hI.1.2.1
  have hrc : ∀ s, s < st → rch s ≤ 4 := fun s hs => (hI.1.2.2.1 s hs).2
  have hwt : ∀ b, b < bx → wt b < 1000 := fun b hb => by have h9 : wt b ≤ 30 := (hI.1.2.2.2 b hb).2; omega
  have hg : yGood st bx ins Y := hI.2.1.1
  have hht : ∀ s, s < st → (Y s).length ≤ rch s := hI.2.1.2.1
  have hu1 : ∀ b, unt b ≤ 1000 := hI.2.2.1.2.1
  have hhl : ∀ b, b < bx → hld b = nI 45 ∨ hld b = nI 112 ∨ hld b = nI 108 := hI.2.2.1.2.2
  have hap : ap ≤ 30 := hI.2.2.2.1.1
  have haa : ∀ a, a < ap → ab a < bx ∧ hr a ≤ 999 ∧ ln a < 3 ∧ (sa a = nI 98 ∨ sa a = nI 99 ∨ sa a = nI 103 ∨ sa a = nI 100 ∨ sa a = nI 109) := hI.2.2.2.1.2.1
  have hnw : nw ≤ 999 := hI.2.2.2.2
  have hY4 : ∀ s, (Y s).length ≤ 4 := hg.1.1
  have hmm : ∀ s, ∀ c ∈ Y s, c < bx := fun s c hc => (hg.2.2 s c hc).1
  refine z_aload_n C 0 rfl dX3_release_0 rfl ?_
  refine z_iconst C (v := (nI 0)) dX3_release_1 rfl ?_
  refine z_put C k_M hM.1 0 (by decide) [.int (nI 0), .int (nI nw), .int (nI st), .ref (A 0), .int (nI bx), .ref (A 1), .ref (A 2), .ref (A 3), .ref (A 4), .ref (A 5), .ref (A 6), .ref (A 7), .int mv, .int (nI ap), .ref (A 8), .ref (A 9), .ref (A 10), .ref (A 11), .long lf] rfl (Nat.le_of_ble_eq_true rfl) rfl rfl rfl q1387 dX3_release_2 (z_nV (fun V1 hV2 => ?_))
  have hM3 := MX.ob (cd2 := (nI 0)) (nw2 := nw) (st2 := st) (bx2 := bx) (mv2 := mv) (ap2 := ap) (lf2 := lf) hM hV2
  refine z_aload_n C 0 rfl dX3_release_5 rfl ?_
  refine z_iload_n C 1 rfl dX3_release_6 rfl ?_
  refine z_callV C k_M hM3.1 (As := [.int v1]) (mX3_isBox (show mR D _ m A _ _ (qS st rch bx wt ins hld unt Y ap ab hr ln sa mv nw lf) from ⟨hM3, hE, hU, hy, hA⟩) hI) (lw_V q1494 q1496 qs37 q65 q1497) rfl hd_X3_isBox rfl (Nat.le_of_ble_eq_true rfl) (by decide) (by decide) (by decide) (by decide) rfl dX3_release_7 (fun _ _ h => h.elim) (fun r4 V5 hP6 => ?_)
  rw [hP6.1, hP6.2]
  refine z_st (st' := [.int (zb (qIs (qS st rch bx wt ins hld unt Y ap ab hr ln sa mv nw lf) (vN v1)))]) rfl ?_
  refine z_if_neB C 19 dX3_release_10 (by decide) (fun c10 => ?_) (fun c10 => ?_)
  · skip
    have hq : qIs (qS st rch bx wt ins hld unt Y ap ab hr ln sa mv nw lf) (vN v1) = true := by simpa using c10
    obtain ⟨hbb, hbi⟩ := qIs_t (S := (qS st rch bx wt ins hld unt Y ap ab hr ln sa mv nw lf)) (by simpa using c10)
    have hbb : vN v1 < bx := hbb
    have hbi : ins (vN v1) = true := hbi
    have hv7 := vN_of (v := v1) hbb (by omega)
    have e8 : (.int v1 : Value) = .int (nI (vN v1)) := (congrArg Value.int hv7)
    refine z_lv (lv' := [(0, .ref m), (1, .int (nI (vN v1)))]) (by rw [e8]) ?_
    obtain ⟨p0, hb0⟩ := hg.2.1 _ hbb hbi
    have hb : vN v1 ∈ Y (yPl Y (vN v1)) := by rw [yPl_eq hg.1 hst hb0]; exact hb0
    have hpst := hg.1.lt hb
    have hq0 : ¬ qIs (qS st rch bx wt ins hld unt Y ap ab hr ln sa mv nw lf) (vN v1) = false := by rw [hq]; decide
    refine z_aload_n C 0 rfl dX3_release_19 rfl ?_
    refine z_get C k_M hM3.1 7 (by decide) rfl q1394 dX3_release_20 ?_
    refine z_iload_n C 1 rfl dX3_release_23 rfl ?_
    have ga9 : V1 (A 3) = some (.inl (D.arr 4, 20, .inl (F 3))) := hM3.2.1 3 (by decide)
    refine z_cald C ga9 (by omega) (by omega) (v := (hld (vN v1))) (hE.2.2.2 (vN v1) (by omega)) dX3_release_24 ?_
    refine z_bipush C (v := (nI 45)) dX3_release_25 rfl ?_
    refine z_icmp_ne C 36 dX3_release_27 (by decide) (fun c27 => ?_) (fun c27 => ?_)
    · skip
      have e1 : oRelease (qS st rch bx wt ins hld unt Y ap ab hr ln sa mv nw lf) (vN v1) = (0, nI (unt (vN v1)), (qS st rch bx wt ins (va_up hld (vN v1) (nI 45)) unt Y ap ab hr ln sa mv nw lf)) := (if_neg hq0).trans (if_neg c27)
      refine z_aload_n C 0 rfl dX3_release_36 rfl ?_
      refine z_get C k_M hM3.1 7 (by decide) rfl q1394 dX3_release_37 ?_
      refine z_iload_n C 1 rfl dX3_release_40 rfl ?_
      refine z_bipush C (v := (nI 45)) dX3_release_41 rfl ?_
      refine z_cast C ga9 (by omega) (by omega) (by decide) dX3_release_43 (z_nV (fun V10 hV11 => ?_))
      have hM12 := MX.st hM3 3 (by decide) (f := va_up (F 3) (vN v1) (nI 45)) hV11
      refine z_aload_n C 0 rfl dX3_release_44 rfl ?_
      refine z_get C k_M hM12.1 8 (by decide) rfl q1395 dX3_release_45 ?_
      refine z_iload_n C 1 rfl dX3_release_48 rfl ?_
      have ga13 : V10 (A 4) = some (.inl (D.arr 0, 20, .inl (F 4))) := hM12.2.1 4 (by decide)
      refine z_iald C ga13 (by omega) (by omega) (v := (nI (unt (vN v1)))) (hU (vN v1) (by omega)) dX3_release_49 ?_
      exact z_iret C hQ (nI (unt (vN v1))) rfl ⟨_, by rw [e1]; exact ⟨hM12, mE_hld hE rfl rfl rfl rfl, hU, hy, hA⟩, fun _ => oRes e1⟩ (by decide) (by decide) dX3_release_50
    · skip
      have e1 : oRelease (qS st rch bx wt ins hld unt Y ap ab hr ln sa mv nw lf) (vN v1) = (2, 0, (qS st rch bx wt ins hld unt Y ap ab hr ln sa mv nw lf)) := (if_neg hq0).trans (if_pos c27)
      refine z_aload_n C 0 rfl dX3_release_30 rfl ?_
      refine z_iconst C (v := (nI 2)) dX3_release_31 rfl ?_
      refine z_callV C k_M hM3.1 (As := [.int (nI 2)]) (mX3_fails hM3 hst hbx) (lw_V q1458 q1460 qs31 q65 q1461) rfl hd_X3_fails rfl (Nat.le_of_ble_eq_true rfl) (by decide) (by decide) (by decide) (by decide) rfl dX3_release_32 (fun _ _ h => h.elim) (fun r14 V15 hP16 => ?_)
      obtain ⟨hM17, rfl⟩ := hP16
      refine z_st (st' := [.int 0]) rfl ?_
      exact z_iret C hQ 0 rfl ⟨F, by rw [e1]; exact (show mR D _ m A _ _ (qS st rch bx wt ins hld unt Y ap ab hr ln sa mv nw lf) from ⟨hM17, hE, hU, hy, hA⟩), fun _ => oRes e1⟩ (by decide) (by decide) dX3_release_35
  · skip
    have hq : qIs (qS st rch bx wt ins hld unt Y ap ab hr ln sa mv nw lf) (vN v1) = false := by simpa using c10
    have e1 : oRelease (qS st rch bx wt ins hld unt Y ap ab hr ln sa mv nw lf) (vN v1) = (1, 0, (qS st rch bx wt ins hld unt Y ap ab hr ln sa mv nw lf)) := if_pos hq
    refine z_aload_n C 0 rfl dX3_release_13 rfl ?_
    refine z_iconst C (v := (nI 1)) dX3_release_14 rfl ?_
    refine z_callV C k_M hM3.1 (As := [.int (nI 1)]) (mX3_fails hM3 hst hbx) (lw_V q1458 q1460 qs31 q65 q1461) rfl hd_X3_fails rfl (Nat.le_of_ble_eq_true rfl) (by decide) (by decide) (by decide) (by decide) rfl dX3_release_15 (fun _ _ h => h.elim) (fun r18 V19 hP20 => ?_)
    obtain ⟨hM21, rfl⟩ := hP20
    refine z_st (st' := [.int 0]) rfl ?_
    exact z_iret C hQ 0 rfl ⟨F, by rw [e1]; exact (show mR D _ m A _ _ (qS st rch bx wt ins hld unt Y ap ab hr ln sa mv nw lf) from ⟨hM21, hE, hU, hy, hA⟩), fun _ => oRes e1⟩ (by decide) (by decide) dX3_release_18
set_option maxHeartbeats 4000000 in
set_option maxRecDepth 100000 in
theorem mX3_heldUntil {l : Launch} {D : ZD} {V : ZV} {kk m : Nat} {A : Nat → Nat} {F : Nat → Nat → Int32} {cd : Int32} {st : Nat} {rch : Nat → Nat} {bx : Nat} {wt : Nat → Nat} {ins : Nat → Bool} {hld : Nat → Int32} {unt : Nat → Nat} {Y : YD} {ap : Nat} {ab hr ln : Nat → Nat} {sa : Nat → Int32} {mv : Int32} {nw : Nat} {lf : Int64} (hR : mR D V m A F cd (qS st rch bx wt ins hld unt Y ap ab hr ln sa mv nw lf)) (hI : qI kk (qS st rch bx wt ins hld unt Y ap ab hr ln sa mv nw lf)) {v1 : Int32} : ZM l D yX3_heldUntil (ws_ yX3_heldUntil cX3_heldUntil 2 (some .int)) 3 0 0 eI V [.ref m, .int v1] (fun r V' => ∃ F2, mR D V' m A F2 (nI (oHeldUntil (qS st rch bx wt ins hld unt Y ap ab hr ln sa mv nw lf) (vN v1)).1) (oHeldUntil (qS st rch bx wt ins hld unt Y ap ab hr ln sa mv nw lf) (vN v1)).2.2 ∧ ((oHeldUntil (qS st rch bx wt ins hld unt Y ap ab hr ln sa mv nw lf) (vN v1)).1 = 0 → r = (oHeldUntil (qS st rch bx wt ins hld unt Y ap ab hr ln sa mv nw lf) (vN v1)).2.1)) zno_x := by
  refine z_enter (by decide +kernel) [(0, .ref m), (1, .int v1)] rfl (Nat.le_of_ble_eq_true rfl) (zcat_cons rfl (zcat_cons rfl zcat_nil)) (fun Γ C hQ => ?_)
  have hM : MX D V m A F cd nw st bx mv ap lf := hR.1
  have hE : mE F st bx rch wt ins hld := hR.2.1
  have hU : ∀ b, b < 20 → F 4 b = nI (unt b) := hR.2.2.1
  have hy : mY F 0 Y := hR.2.2.2.1
  have hA : ∀ a, a < ap → F 8 a = nI (ab a) ∧ F 9 a = nI (hr a) ∧ F 10 a = nI (ln a) ∧ F 11 a = sa a := hR.2.2.2.2
  have hst : st ≤ 4 := hI.1.1
  have hbx : bx ≤ 20 := hI.1.2.1
  have hrc : ∀ s, s < st → rch s ≤ 4 := fun s hs => (hI.1.2.2.1 s hs).2
  have hwt : ∀ b, b < bx → wt b < 1000 := fun b hb => by have h9 : wt b ≤ 30 := (hI.1.2.2.2 b hb).2; omega
  have hg : yGood st bx ins Y := hI.2.1.1
  have hht : ∀ s, s < st → (Y s).length ≤ rch s := hI.2.1.2.1
  have hu1 : ∀ b, unt b ≤ 1000 := hI.2.2.1.2.1
  have hhl : ∀ b, b < bx → hld b = nI 45 ∨ hld b = nI 112 ∨ hld b = nI 108 := hI.2.2.1.2.2
  have hap : ap ≤ 30 := hI.2.2.2.1.1
  have haa : ∀ a, a < ap → ab a < bx ∧ hr a ≤ 999 ∧ ln a < 3 ∧ (sa a = nI 98 ∨ sa a = nI 99 ∨ sa a = nI 103 ∨ sa a = nI 100 ∨ sa a = nI 109) := hI.2.2.2.1.2.1
  have hnw : nw ≤ 999 := hI.2.2.2.2
  have hY4 : ∀ s, (Y s).length ≤ 4 := hg.1.1
  have hmm : ∀ s, ∀ c ∈ Y s, c < bx := fun s c hc => (hg.2.2 s c hc).1
  refine z_aload_n C 0 rfl dX3_heldUntil_0 rfl ?_
  refine z_iconst C (v := (nI 0)) dX3_heldUntil_1 rfl ?_
  refine z_put C k_M hM.1 0 (by decide) [.int (nI 0), .int (nI nw), .int (nI st), .ref (A 0), .int (nI bx), .ref (A 1), .ref (A 2), .ref (A 3), .ref (A 4), .ref (A 5), .ref (A 6), .ref (A 7), .int mv, .int (nI ap), .ref (A 8), .ref (A 9), .ref (A 10), .ref (A 11), .long lf] rfl (Nat.le_of_ble_eq_true rfl) rfl rfl rfl q1387 dX3_heldUntil_2 (z_nV (fun V1 hV2 => ?_))
  have hM3 := MX.ob (cd2 := (nI 0)) (nw2 := nw) (st2 := st) (bx2 := bx) (mv2 := mv) (ap2 := ap) (lf2 := lf) hM hV2
  refine z_aload_n C 0 rfl dX3_heldUntil_5 rfl ?_
  refine z_iload_n C 1 rfl dX3_heldUntil_6 rfl ?_
  refine z_callV C k_M hM3.1 (As := [.int v1]) (mX3_isBox (show mR D _ m A _ _ (qS st rch bx wt ins hld unt Y ap ab hr ln sa mv nw lf) from ⟨hM3, hE, hU, hy, hA⟩) hI) (lw_V q1494 q1496 qs37 q65 q1497) rfl hd_X3_isBox rfl (Nat.le_of_ble_eq_true rfl) (by decide) (by decide) (by decide) (by decide) rfl dX3_heldUntil_7 (fun _ _ h => h.elim) (fun r4 V5 hP6 => ?_)
  rw [hP6.1, hP6.2]
  refine z_st (st' := [.int (zb (qIs (qS st rch bx wt ins hld unt Y ap ab hr ln sa mv nw lf) (vN v1)))]) rfl ?_
  refine z_if_neB C 19 dX3_heldUntil_10 (by decide) (fun c10 => ?_) (fun c10 => ?_)
  · skip
    have hq : qIs (qS st rch bx wt ins hld unt Y ap ab hr ln sa mv nw lf) (vN v1) = true := by simpa using c10
    obtain ⟨hbb, hbi⟩ := qIs_t (S := (qS st rch bx wt ins hld unt Y ap ab hr ln sa mv nw lf)) (by simpa using c10)
    have hbb : vN v1 < bx := hbb
    have hbi : ins (vN v1) = true := hbi
    have hv7 := vN_of (v := v1) hbb (by omega)
    have e8 : (.int v1 : Value) = .int (nI (vN v1)) := (congrArg Value.int hv7)
    refine z_lv (lv' := [(0, .ref m), (1, .int (nI (vN v1)))]) (by rw [e8]) ?_
    obtain ⟨p0, hb0⟩ := hg.2.1 _ hbb hbi
    have hb : vN v1 ∈ Y (yPl Y (vN v1)) := by rw [yPl_eq hg.1 hst hb0]; exact hb0
    have hpst := hg.1.lt hb
    have hq0 : ¬ qIs (qS st rch bx wt ins hld unt Y ap ab hr ln sa mv nw lf) (vN v1) = false := by rw [hq]; decide
    refine z_aload_n C 0 rfl dX3_heldUntil_19 rfl ?_
    refine z_get C k_M hM3.1 7 (by decide) rfl q1394 dX3_heldUntil_20 ?_
    refine z_iload_n C 1 rfl dX3_heldUntil_23 rfl ?_
    have ga9 : V1 (A 3) = some (.inl (D.arr 4, 20, .inl (F 3))) := hM3.2.1 3 (by decide)
    refine z_cald C ga9 (by omega) (by omega) (v := (hld (vN v1))) (hE.2.2.2 (vN v1) (by omega)) dX3_heldUntil_24 ?_
    refine z_bipush C (v := (nI 45)) dX3_heldUntil_25 rfl ?_
    refine z_icmp_ne C 38 dX3_heldUntil_27 (by decide) (fun c27 => ?_) (fun c27 => ?_)
    · skip
      have e1 : oHeldUntil (qS st rch bx wt ins hld unt Y ap ab hr ln sa mv nw lf) (vN v1) = (0, nI (unt (vN v1)), (qS st rch bx wt ins hld unt Y ap ab hr ln sa mv nw lf)) := (if_neg hq0).trans (if_neg c27)
      refine z_aload_n C 0 rfl dX3_heldUntil_38 rfl ?_
      refine z_get C k_M hM3.1 8 (by decide) rfl q1395 dX3_heldUntil_39 ?_
      refine z_iload_n C 1 rfl dX3_heldUntil_42 rfl ?_
      have ga10 : V1 (A 4) = some (.inl (D.arr 0, 20, .inl (F 4))) := hM3.2.1 4 (by decide)
      refine z_iald C ga10 (by omega) (by omega) (v := (nI (unt (vN v1)))) (hU (vN v1) (by omega)) dX3_heldUntil_43 ?_
      exact z_iret C hQ (nI (unt (vN v1))) rfl ⟨F, by rw [e1]; exact (show mR D _ m A _ _ (qS st rch bx wt ins hld unt Y ap ab hr ln sa mv nw lf) from ⟨hM3, hE, hU, hy, hA⟩), fun _ => oRes e1⟩ (by decide) (by decide) dX3_heldUntil_44
    · skip
      have e1 : oHeldUntil (qS st rch bx wt ins hld unt Y ap ab hr ln sa mv nw lf) (vN v1) = (2, 0, (qS st rch bx wt ins hld unt Y ap ab hr ln sa mv nw lf)) := (if_neg hq0).trans (if_pos c27)
      refine z_aload_n C 0 rfl dX3_heldUntil_30 rfl ?_
      refine z_iconst C (v := (nI 2)) dX3_heldUntil_31 rfl ?_
      refine z_callV C k_M hM3.1 (As := [.int (nI 2)]) (mX3_fails hM3 hst hbx) (lw_V q1458 q1460 qs31 q65 q1461) rfl hd_X3_fails rfl (Nat.le_of_ble_eq_true rfl) (by decide) (by decide) (by decide) (by decide) rfl dX3_heldUntil_32 (fun _ _ h => h.elim) (fun r11 V12 hP13 => ?_)
      obtain ⟨hM14, rfl⟩ := hP13
      refine z_st (st' := [.int 0]) rfl ?_
      refine z_goto C 44 dX3_heldUntil_35 (by decide) ?_
      exact z_iret C hQ 0 rfl ⟨F, by rw [e1]; exact (show mR D _ m A _ _ (qS st rch bx wt ins hld unt Y ap ab hr ln sa mv nw lf) from ⟨hM14, hE, hU, hy, hA⟩), fun _ => oRes e1⟩ (by decide) (by decide) dX3_heldUntil_44
  · skip
    have hq : qIs (qS st rch bx wt ins hld unt Y ap ab hr ln sa mv nw lf) (vN v1) = false := by simpa using c10
    have e1 : oHeldUntil (qS st rch bx wt ins hld unt Y ap ab hr ln sa mv nw lf) (vN v1) = (1, 0, (qS st rch bx wt ins hld unt Y ap ab hr ln sa mv nw lf)) := if_pos hq
    refine z_aload_n C 0 rfl dX3_heldUntil_13 rfl ?_
    refine z_iconst C (v := (nI 1)) dX3_heldUntil_14 rfl ?_
    refine z_callV C k_M hM3.1 (As := [.int (nI 1)]) (mX3_fails hM3 hst hbx) (lw_V q1458 q1460 qs31 q65 q1461) rfl hd_X3_fails rfl (Nat.le_of_ble_eq_true rfl) (by decide) (by decide) (by decide) (by decide) rfl dX3_heldUntil_15 (fun _ _ h => h.elim) (fun r15 V16 hP17 => ?_)
    obtain ⟨hM18, rfl⟩ := hP17
    refine z_st (st' := [.int 0]) rfl ?_
    exact z_iret C hQ 0 rfl ⟨F, by rw [e1]; exact (show mR D _ m A _ _ (qS st rch bx wt ins hld unt Y ap ab hr ln sa mv nw lf) from ⟨hM18, hE, hU, hy, hA⟩), fun _ => oRes e1⟩ (by decide) (by decide) dX3_heldUntil_18
set_option maxHeartbeats 4000000 in
set_option maxRecDepth 100000 in
theorem mX3_holdOf {l : Launch} {D : ZD} {V : ZV} {kk m : Nat} {A : Nat → Nat} {F : Nat → Nat → Int32} {cd : Int32} {st : Nat} {rch : Nat → Nat} {bx : Nat} {wt : Nat → Nat} {ins : Nat → Bool} {hld : Nat → Int32} {unt : Nat → Nat} {Y : YD} {ap : Nat} {ab hr ln : Nat → Nat} {sa : Nat → Int32} {mv : Int32} {nw : Nat} {lf : Int64} (hR : mR D V m A F cd (qS st rch bx wt ins hld unt Y ap ab hr ln sa mv nw lf)) (hI : qI kk (qS st rch bx wt ins hld unt Y ap ab hr ln sa mv nw lf)) {v1 : Int32} : ZM l D yX3_holdOf (ws_ yX3_holdOf cX3_holdOf 2 (some .char)) 3 0 0 eI V [.ref m, .int v1] (fun r V' => ∃ F2, mR D V' m A F2 (nI (oHoldOf (qS st rch bx wt ins hld unt Y ap ab hr ln sa mv nw lf) (vN v1)).1) (oHoldOf (qS st rch bx wt ins hld unt Y ap ab hr ln sa mv nw lf) (vN v1)).2.2 ∧ ((oHoldOf (qS st rch bx wt ins hld unt Y ap ab hr ln sa mv nw lf) (vN v1)).1 = 0 → r = (oHoldOf (qS st rch bx wt ins hld unt Y ap ab hr ln sa mv nw lf) (vN v1)).2.1)) zno_x := by
  refine z_enter (by decide +kernel) [(0, .ref m), (1, .int v1)] rfl (Nat.le_of_ble_eq_true rfl) (zcat_cons rfl (zcat_cons rfl zcat_nil)) (fun Γ C hQ => ?_)
  have hM : MX D V m A F cd nw st bx mv ap lf := hR.1
  have hE : mE F st bx rch wt ins hld := hR.2.1
  have hU : ∀ b, b < 20 → F 4 b = nI (unt b) := hR.2.2.1
  have hy : mY F 0 Y := hR.2.2.2.1
  have hA : ∀ a, a < ap → F 8 a = nI (ab a) ∧ F 9 a = nI (hr a) ∧ F 10 a = nI (ln a) ∧ F 11 a = sa a := hR.2.2.2.2
  have hst : st ≤ 4 := hI.1.1
  have hbx : bx ≤ 20 := hI.1.2.1
  have hrc : ∀ s, s < st → rch s ≤ 4 := fun s hs => (hI.1.2.2.1 s hs).2
  have hwt : ∀ b, b < bx → wt b < 1000 := fun b hb => by have h9 : wt b ≤ 30 := (hI.1.2.2.2 b hb).2; omega
  have hg : yGood st bx ins Y := hI.2.1.1
  have hht : ∀ s, s < st → (Y s).length ≤ rch s := hI.2.1.2.1
  have hu1 : ∀ b, unt b ≤ 1000 := hI.2.2.1.2.1
  have hhl : ∀ b, b < bx → hld b = nI 45 ∨ hld b = nI 112 ∨ hld b = nI 108 := hI.2.2.1.2.2
  have hap : ap ≤ 30 := hI.2.2.2.1.1
  have haa : ∀ a, a < ap → ab a < bx ∧ hr a ≤ 999 ∧ ln a < 3 ∧ (sa a = nI 98 ∨ sa a = nI 99 ∨ sa a = nI 103 ∨ sa a = nI 100 ∨ sa a = nI 109) := hI.2.2.2.1.2.1
  have hnw : nw ≤ 999 := hI.2.2.2.2
  have hY4 : ∀ s, (Y s).length ≤ 4 := hg.1.1
  have hmm : ∀ s, ∀ c ∈ Y s, c < bx := fun s c hc => (hg.2.2 s c hc).1
  refine z_aload_n C 0 rfl dX3_holdOf_0 rfl ?_
  refine z_aload_n C 0 rfl dX3_holdOf_1 rfl ?_
  refine z_iload_n C 1 rfl dX3_holdOf_2 rfl ?_
  refine z_callV C k_M hM.1 (As := [.int v1]) (mX3_isBox (show mR D _ m A _ _ (qS st rch bx wt ins hld unt Y ap ab hr ln sa mv nw lf) from ⟨hM, hE, hU, hy, hA⟩) hI) (lw_V q1494 q1496 qs37 q65 q1497) rfl hd_X3_isBox rfl (Nat.le_of_ble_eq_true rfl) (by decide) (by decide) (by decide) (by decide) rfl dX3_holdOf_3 (fun _ _ h => h.elim) (fun r1 V2 hP3 => ?_)
  rw [hP3.1, hP3.2]
  refine z_st (st' := [.int (zb (qIs (qS st rch bx wt ins hld unt Y ap ab hr ln sa mv nw lf) (vN v1))), .ref m]) rfl ?_
  refine z_if_eqB C 13 dX3_holdOf_6 (by decide) (fun c6 => ?_) (fun c6 => ?_)
  · skip
    have hq : qIs (qS st rch bx wt ins hld unt Y ap ab hr ln sa mv nw lf) (vN v1) = false := by simpa using c6
    have e1 : oHoldOf (qS st rch bx wt ins hld unt Y ap ab hr ln sa mv nw lf) (vN v1) = (1, 0, (qS st rch bx wt ins hld unt Y ap ab hr ln sa mv nw lf)) := if_neg (by rw [hq]; decide)
    refine z_iconst C (v := (nI 1)) dX3_holdOf_13 rfl ?_
    refine z_put C k_M hM.1 0 (by decide) [.int (nI 1), .int (nI nw), .int (nI st), .ref (A 0), .int (nI bx), .ref (A 1), .ref (A 2), .ref (A 3), .ref (A 4), .ref (A 5), .ref (A 6), .ref (A 7), .int mv, .int (nI ap), .ref (A 8), .ref (A 9), .ref (A 10), .ref (A 11), .long lf] rfl (Nat.le_of_ble_eq_true rfl) rfl rfl rfl q1387 dX3_holdOf_14 (z_nV (fun V4 hV5 => ?_))
    have hM6 := MX.ob (cd2 := (nI 1)) (nw2 := nw) (st2 := st) (bx2 := bx) (mv2 := mv) (ap2 := ap) (lf2 := lf) hM hV5
    refine z_aload_n C 0 rfl dX3_holdOf_17 rfl ?_
    refine z_get C k_M hM6.1 0 (by decide) rfl q1387 dX3_holdOf_18 ?_
    refine z_if_leN C 28 (by omega) dX3_holdOf_21 (by decide) (fun c21 => ?_) (fun c21 => ?_)
    · skip
      exfalso; omega
    · skip
      refine z_iconst C (v := (nI 0)) dX3_holdOf_24 rfl ?_
      refine z_goto C 34 dX3_holdOf_25 (by decide) ?_
      exact z_zret C hQ (nI 0) rfl rfl ⟨F, by rw [e1]; exact (show mR D _ m A _ _ (qS st rch bx wt ins hld unt Y ap ab hr ln sa mv nw lf) from ⟨hM6, hE, hU, hy, hA⟩), fun _ => oRes e1⟩ (by decide) (by decide) dX3_holdOf_34
  · skip
    have hq : qIs (qS st rch bx wt ins hld unt Y ap ab hr ln sa mv nw lf) (vN v1) = true := by simpa using c6
    obtain ⟨hbb, hbi⟩ := qIs_t (S := (qS st rch bx wt ins hld unt Y ap ab hr ln sa mv nw lf)) (by simpa using c6)
    have hbb : vN v1 < bx := hbb
    have hbi : ins (vN v1) = true := hbi
    have hv7 := vN_of (v := v1) hbb (by omega)
    have e8 : (.int v1 : Value) = .int (nI (vN v1)) := (congrArg Value.int hv7)
    refine z_lv (lv' := [(0, .ref m), (1, .int (nI (vN v1)))]) (by rw [e8]) ?_
    obtain ⟨p0, hb0⟩ := hg.2.1 _ hbb hbi
    have hb : vN v1 ∈ Y (yPl Y (vN v1)) := by rw [yPl_eq hg.1 hst hb0]; exact hb0
    have hpst := hg.1.lt hb
    have e1 : oHoldOf (qS st rch bx wt ins hld unt Y ap ab hr ln sa mv nw lf) (vN v1) = (0, hld (vN v1), (qS st rch bx wt ins hld unt Y ap ab hr ln sa mv nw lf)) := if_pos hq
    refine z_iconst C (v := (nI 0)) dX3_holdOf_9 rfl ?_
    refine z_goto C 14 dX3_holdOf_10 (by decide) ?_
    refine z_put C k_M hM.1 0 (by decide) [.int (nI 0), .int (nI nw), .int (nI st), .ref (A 0), .int (nI bx), .ref (A 1), .ref (A 2), .ref (A 3), .ref (A 4), .ref (A 5), .ref (A 6), .ref (A 7), .int mv, .int (nI ap), .ref (A 8), .ref (A 9), .ref (A 10), .ref (A 11), .long lf] rfl (Nat.le_of_ble_eq_true rfl) rfl rfl rfl q1387 dX3_holdOf_14 (z_nV (fun V9 hV10 => ?_))
    have hM11 := MX.ob (cd2 := (nI 0)) (nw2 := nw) (st2 := st) (bx2 := bx) (mv2 := mv) (ap2 := ap) (lf2 := lf) hM hV10
    refine z_aload_n C 0 rfl dX3_holdOf_17 rfl ?_
    refine z_get C k_M hM11.1 0 (by decide) rfl q1387 dX3_holdOf_18 ?_
    refine z_if_leN C 28 (by omega) dX3_holdOf_21 (by decide) (fun c21 => ?_) (fun c21 => ?_)
    · skip
      refine z_aload_n C 0 rfl dX3_holdOf_28 rfl ?_
      refine z_get C k_M hM11.1 7 (by decide) rfl q1394 dX3_holdOf_29 ?_
      refine z_iload_n C 1 rfl dX3_holdOf_32 rfl ?_
      have ga12 : V9 (A 3) = some (.inl (D.arr 4, 20, .inl (F 3))) := hM11.2.1 3 (by decide)
      refine z_cald C ga12 (by omega) (by omega) (v := (hld (vN v1))) (hE.2.2.2 (vN v1) (by omega)) dX3_holdOf_33 ?_
      exact z_zret C hQ (hld (vN v1)) rfl (by rcases hhl (vN v1) hbb with e | e | e <;> rw [e] <;> rfl) ⟨F, by rw [e1]; exact (show mR D _ m A _ _ (qS st rch bx wt ins hld unt Y ap ab hr ln sa mv nw lf) from ⟨hM11, hE, hU, hy, hA⟩), fun _ => oRes e1⟩ (by decide) (by decide) dX3_holdOf_34
    · skip
      exfalso; omega
set_option maxHeartbeats 4000000 in
set_option maxRecDepth 100000 in
theorem mX3_pinnedAbove {l : Launch} {D : ZD} {V : ZV} {kk m : Nat} {A : Nat → Nat} {F : Nat → Nat → Int32} {cd : Int32} {st : Nat} {rch : Nat → Nat} {bx : Nat} {wt : Nat → Nat} {ins : Nat → Bool} {hld : Nat → Int32} {unt : Nat → Nat} {Y : YD} {ap : Nat} {ab hr ln : Nat → Nat} {sa : Nat → Int32} {mv : Int32} {nw : Nat} {lf : Int64} (hR : mR D V m A F cd (qS st rch bx wt ins hld unt Y ap ab hr ln sa mv nw lf)) (hI : qI kk (qS st rch bx wt ins hld unt Y ap ab hr ln sa mv nw lf)) {v1 : Int32} : ZM l D yX3_pinnedAbove (ws_ yX3_pinnedAbove cX3_pinnedAbove 5 (some .int)) 3 0 0 eI V [.ref m, .int v1] (fun r V' => ∃ F2, mR D V' m A F2 (nI (oPinned (qS st rch bx wt ins hld unt Y ap ab hr ln sa mv nw lf) (vN v1)).1) (oPinned (qS st rch bx wt ins hld unt Y ap ab hr ln sa mv nw lf) (vN v1)).2.2 ∧ ((oPinned (qS st rch bx wt ins hld unt Y ap ab hr ln sa mv nw lf) (vN v1)).1 = 0 → r = (oPinned (qS st rch bx wt ins hld unt Y ap ab hr ln sa mv nw lf) (vN v1)).2.1)) zno_x := by
  refine z_enter (by decide +kernel) [(0, .ref m), (1, .int v1)] rfl (Nat.le_of_ble_eq_true rfl) (zcat_cons rfl (zcat_cons rfl zcat_nil)) (fun Γ C hQ => ?_)
  have hM : MX D V m A F cd nw st bx mv ap lf := hR.1
  have hE : mE F st bx rch wt ins hld := hR.2.1
  have hU : ∀ b, b < 20 → F 4 b = nI (unt b) := hR.2.2.1
  have hy : mY F 0 Y := hR.2.2.2.1
  have hA : ∀ a, a < ap → F 8 a = nI (ab a) ∧ F 9 a = nI (hr a) ∧ F 10 a = nI (ln a) ∧ F 11 a = sa a := hR.2.2.2.2
  have hst : st ≤ 4 := hI.1.1
  have hbx : bx ≤ 20 := hI.1.2.1
  have hrc : ∀ s, s < st → rch s ≤ 4 := fun s hs => (hI.1.2.2.1 s hs).2
  have hwt : ∀ b, b < bx → wt b < 1000 := fun b hb => by have h9 : wt b ≤ 30 := (hI.1.2.2.2 b hb).2; omega
  have hg : yGood st bx ins Y := hI.2.1.1
  have hht : ∀ s, s < st → (Y s).length ≤ rch s := hI.2.1.2.1
  have hu1 : ∀ b, unt b ≤ 1000 := hI.2.2.1.2.1
  have hhl : ∀ b, b < bx → hld b = nI 45 ∨ hld b = nI 112 ∨ hld b = nI 108 := hI.2.2.1.2.2
  have hap : ap ≤ 30 := hI.2.2.2.1.1
  have haa : ∀ a, a < ap → ab a < bx ∧ hr a ≤ 999 ∧ ln a < 3 ∧ (sa a = nI 98 ∨ sa a = nI 99 ∨ sa a = nI 103 ∨ sa a = nI 100 ∨ sa a = nI 109) := hI.2.2.2.1.2.1
  have hnw : nw ≤ 999 := hI.2.2.2.2
  have hY4 : ∀ s, (Y s).length ≤ 4 := hg.1.1
  have hmm : ∀ s, ∀ c ∈ Y s, c < bx := fun s c hc => (hg.2.2 s c hc).1
  refine z_aload_n C 0 rfl dX3_pinnedAbove_0 rfl ?_
  refine z_iconst C (v := (nI 0)) dX3_pinnedAbove_1 rfl ?_
  refine z_put C k_M hM.1 0 (by decide) [.int (nI 0), .int (nI nw), .int (nI st), .ref (A 0), .int (nI bx), .ref (A 1), .ref (A 2), .ref (A 3), .ref (A 4), .ref (A 5), .ref (A 6), .ref (A 7), .int mv, .int (nI ap), .ref (A 8), .ref (A 9), .ref (A 10), .ref (A 11), .long lf] rfl (Nat.le_of_ble_eq_true rfl) rfl rfl rfl q1387 dX3_pinnedAbove_2 (z_nV (fun V1 hV2 => ?_))
  have hM3 := MX.ob (cd2 := (nI 0)) (nw2 := nw) (st2 := st) (bx2 := bx) (mv2 := mv) (ap2 := ap) (lf2 := lf) hM hV2
  refine z_aload_n C 0 rfl dX3_pinnedAbove_5 rfl ?_
  refine z_iload_n C 1 rfl dX3_pinnedAbove_6 rfl ?_
  refine z_callV C k_M hM3.1 (As := [.int v1]) (mX3_isBox (show mR D _ m A _ _ (qS st rch bx wt ins hld unt Y ap ab hr ln sa mv nw lf) from ⟨hM3, hE, hU, hy, hA⟩) hI) (lw_V q1494 q1496 qs37 q65 q1497) rfl hd_X3_isBox rfl (Nat.le_of_ble_eq_true rfl) (by decide) (by decide) (by decide) (by decide) rfl dX3_pinnedAbove_7 (fun _ _ h => h.elim) (fun r4 V5 hP6 => ?_)
  rw [hP6.1, hP6.2]
  refine z_st (st' := [.int (zb (qIs (qS st rch bx wt ins hld unt Y ap ab hr ln sa mv nw lf) (vN v1)))]) rfl ?_
  refine z_if_neB C 19 dX3_pinnedAbove_10 (by decide) (fun c10 => ?_) (fun c10 => ?_)
  · skip
    have hq : qIs (qS st rch bx wt ins hld unt Y ap ab hr ln sa mv nw lf) (vN v1) = true := by simpa using c10
    obtain ⟨hbb, hbi⟩ := qIs_t (S := (qS st rch bx wt ins hld unt Y ap ab hr ln sa mv nw lf)) (by simpa using c10)
    have hbb : vN v1 < bx := hbb
    have hbi : ins (vN v1) = true := hbi
    have hv7 := vN_of (v := v1) hbb (by omega)
    have e8 : (.int v1 : Value) = .int (nI (vN v1)) := (congrArg Value.int hv7)
    refine z_lv (lv' := [(0, .ref m), (1, .int (nI (vN v1)))]) (by rw [e8]) ?_
    obtain ⟨p0, hb0⟩ := hg.2.1 _ hbb hbi
    have hb : vN v1 ∈ Y (yPl Y (vN v1)) := by rw [yPl_eq hg.1 hst hb0]; exact hb0
    have hpst := hg.1.lt hb
    have hq0 : ¬ qIs (qS st rch bx wt ins hld unt Y ap ab hr ln sa mv nw lf) (vN v1) = false := by rw [hq]; decide
    have e1 : oPinned (qS st rch bx wt ins hld unt Y ap ab hr ln sa mv nw lf) (vN v1) = (0, nI (qPin (qS st rch bx wt ins hld unt Y ap ab hr ln sa mv nw lf) (vN v1)), (qS st rch bx wt ins hld unt Y ap ab hr ln sa mv nw lf)) := if_pos hq
    obtain ⟨hk, hkl, hab⟩ := yAb_at hg.1 hst hb
    have hl4 := hY4 (yPl Y (vN v1))
    refine z_aload_n C 0 rfl dX3_pinnedAbove_19 rfl ?_
    refine z_iconst C (v := (nI 0)) dX3_pinnedAbove_20 rfl ?_
    refine z_iload_n C 1 rfl dX3_pinnedAbove_21 rfl ?_
    refine z_callV C k_M hM3.1 (As := [.int (nI 0), .int (nI (vN v1))]) (mX3_placeOf hM3 hst hbx hy (by omega) hg.1 hb) (lw_V q1506 q1508 qs38 q65 q1509) rfl hd_X3_placeOf rfl (Nat.le_of_ble_eq_true rfl) (by decide) (by decide) (by decide) (by decide) rfl dX3_pinnedAbove_22 (fun _ _ h => h.elim) (fun r9 V10 hP11 => ?_)
    rw [hP11.1, hP11.2]
    refine z_st (st' := [.int (nI (yPl Y (vN v1)))]) rfl ?_
    refine z_istore_n C [(2, .int (nI (yPl Y (vN v1)))), (0, .ref m), (1, .int (nI (vN v1)))] dX3_pinnedAbove_25 rfl (by decide) rfl ?_
    refine z_iconst C (v := (nI 0)) dX3_pinnedAbove_26 rfl ?_
    refine z_istore_n C [(3, .int (nI 0)), (2, .int (nI (yPl Y (vN v1)))), (0, .ref m), (1, .int (nI (vN v1)))] dX3_pinnedAbove_27 rfl (by decide) rfl ?_
    refine z_aload_n C 2 rfl dX3_pinnedAbove_28 rfl ?_
    refine z_iconst C (v := (nI 0)) dX3_pinnedAbove_29 rfl ?_
    refine z_iload_n C 3 rfl dX3_pinnedAbove_30 rfl ?_
    refine z_callV C k_M hM3.1 (As := [.int (nI 0), .int (nI (vN v1))]) (mX3_levelOf hM3 hst hbx hy (by omega) hg.1 hb hk) (lw_V q1514 q1516 qs39 q65 q1517) rfl hd_X3_levelOf rfl (Nat.le_of_ble_eq_true rfl) (by decide) (by decide) (by decide) (by decide) rfl dX3_pinnedAbove_31 (fun _ _ h => h.elim) (fun r12 V13 hP14 => ?_)
    rw [hP14.1, hP14.2]
    refine z_st (st' := [.int (nI ((Y (yPl Y (vN v1))).idxOf (vN v1)))]) rfl ?_
    refine z_iconst C (v := (nI 1)) dX3_pinnedAbove_34 rfl ?_
    refine z_iaddN C dX3_pinnedAbove_35 ?_
    refine z_istore C [(4, .int (nI (((Y (yPl Y (vN v1))).idxOf (vN v1)) + 1))), (3, .int (nI 0)), (2, .int (nI (yPl Y (vN v1)))), (0, .ref m), (1, .int (nI (vN v1)))] dX3_pinnedAbove_36 (by decide) rfl ?_
    refine z_pick [(3, .int (nI 0)), (4, .int (nI (((Y (yPl Y (vN v1))).idxOf (vN v1)) + 1))), (2, .int (nI (yPl Y (vN v1)))), (0, .ref m), (1, .int (nI (vN v1)))] [1, 0, 2, 3, 4] rfl ?_
    have e15 : (.int (nI 0) : Value) = .int (nI (fC (fun j => decide ((Y (yPl Y (vN v1))).idxOf (vN v1) < j) && pin' hld ((Y (yPl Y (vN v1))).getD j 0)) ((Y (yPl Y (vN v1))).idxOf (vN v1) + 1))) := (by rw [fC_zero (fun j hj => by simp; intro h; omega)])
    refine z_lv (lv' := [(3, .int (nI (fC (fun j => decide ((Y (yPl Y (vN v1))).idxOf (vN v1) < j) && pin' hld ((Y (yPl Y (vN v1))).getD j 0)) ((Y (yPl Y (vN v1))).idxOf (vN v1) + 1)))), (4, .int (nI (((Y (yPl Y (vN v1))).idxOf (vN v1)) + 1))), (2, .int (nI (yPl Y (vN v1)))), (0, .ref m), (1, .int (nI (vN v1)))]) (by rw [e15]) ?_
    have loop16 : ∀ (n_loop16 : Nat) (k : Nat), (Y (yPl Y (vN v1))).idxOf (vN v1) + 1 ≤ k → k ≤ (Y (yPl Y (vN v1))).length → (Y (yPl Y (vN v1))).length - k < n_loop16 → ZW l D Γ (zr 3 0 0) 38 [(3, .int (nI (fC (fun j => decide ((Y (yPl Y (vN v1))).idxOf (vN v1) < j) && pin' hld ((Y (yPl Y (vN v1))).getD j 0)) k))), (4, .int (nI k)), (2, .int (nI (yPl Y (vN v1)))), (0, .ref m), (1, .int (nI (vN v1)))] [] V1 (0 + 0 + 0 + 0) (0 + 0 + 0 + 0) := by
      intro n_loop16
      induction n_loop16 with
      | zero => intro k _ _ hm; exact absurd hm (Nat.not_lt_zero _)
      | succ n_loop16 ih_loop16 =>
        intro k hloop16_0 hloop16_1 hm
        have hck := fC_le (fun j => decide ((Y (yPl Y (vN v1))).idxOf (vN v1) < j) && pin' hld ((Y (yPl Y (vN v1))).getD j 0)) k
        refine z_iload C 1 rfl dX3_pinnedAbove_38 ?_
        refine z_aload_n C 3 rfl dX3_pinnedAbove_40 rfl ?_
        refine z_get C k_M hM3.1 9 (by decide) rfl q1396 dX3_pinnedAbove_41 ?_
        refine z_iload_n C 2 rfl dX3_pinnedAbove_44 rfl ?_
        have ga17 : V1 (A 5) = some (.inl (D.arr 0, 24, .inl (F 5))) := hM3.2.1 5 (by decide)
        refine z_iald C ga17 (by omega) (by omega) (v := (nI ((Y (yPl Y (vN v1))).length))) (mY_len hy (yPl Y (vN v1)) (by omega)) dX3_pinnedAbove_45 ?_
        refine z_icmp_geN C 81 (by omega) (by omega) dX3_pinnedAbove_46 (by decide) (fun c46 => ?_) (fun c46 => ?_)
        · skip
          have hkk : k = (Y (yPl Y (vN v1))).length := by omega
          have e18 : (.int (nI (fC (fun j => decide ((Y (yPl Y (vN v1))).idxOf (vN v1) < j) && pin' hld ((Y (yPl Y (vN v1))).getD j 0)) k)) : Value) = .int (nI (fC (fun j => decide ((Y (yPl Y (vN v1))).idxOf (vN v1) < j) && pin' hld ((Y (yPl Y (vN v1))).getD j 0)) (Y (yPl Y (vN v1))).length)) := (by rw [hkk])
          refine z_lv (lv' := [(3, .int (nI (fC (fun j => decide ((Y (yPl Y (vN v1))).idxOf (vN v1) < j) && pin' hld ((Y (yPl Y (vN v1))).getD j 0)) (Y (yPl Y (vN v1))).length))), (4, .int (nI k)), (2, .int (nI (yPl Y (vN v1)))), (0, .ref m), (1, .int (nI (vN v1)))]) (by rw [e18]) ?_
          refine z_iload_n C 0 rfl dX3_pinnedAbove_81 rfl ?_
          exact z_iret C hQ (nI (fC (fun j => decide ((Y (yPl Y (vN v1))).idxOf (vN v1) < j) && pin' hld ((Y (yPl Y (vN v1))).getD j 0)) (Y (yPl Y (vN v1))).length)) rfl ⟨F, by rw [e1]; exact (show mR D _ m A _ _ (qS st rch bx wt ins hld unt Y ap ab hr ln sa mv nw lf) from ⟨hM3, hE, hU, hy, hA⟩), fun _ => oRes e1⟩ (by decide) (by decide) dX3_pinnedAbove_82
        · skip
          obtain ⟨u, hu, hub⟩ := fA_pin hg (p := yPl Y (vN v1)) (k := k) (by omega)
          have hud : (Y (yPl Y (vN v1))).getD k 0 = u := by rw [List.getD_eq_getElem?_getD, hu]; rfl
          refine z_iload_n C 0 rfl dX3_pinnedAbove_49 rfl ?_
          refine z_aload_n C 3 rfl dX3_pinnedAbove_50 rfl ?_
          refine z_aload_n C 3 rfl dX3_pinnedAbove_51 rfl ?_
          refine z_get C k_M hM3.1 10 (by decide) rfl q1397 dX3_pinnedAbove_52 ?_
          refine z_iconst C (v := (nI 4)) dX3_pinnedAbove_55 rfl ?_
          refine z_iload_n C 2 rfl dX3_pinnedAbove_56 rfl ?_
          refine z_imulN C dX3_pinnedAbove_57 ?_
          refine z_iload C 1 rfl dX3_pinnedAbove_58 ?_
          refine z_iaddN C dX3_pinnedAbove_60 ?_
          have ga19 : V1 (A 6) = some (.inl (D.arr 0, 96, .inl (F 6))) := hM3.2.1 6 (by decide)
          refine z_iald C ga19 (by omega) (by omega) (v := (nI u)) (mY_box hy _ _ _ (by omega) hu) dX3_pinnedAbove_61 ?_
          refine z_callV C k_M hM3.1 (As := [.int (nI u)]) (mX3_isPinned hM3 hst hbx hE (b := u) (by omega)) (lw_V q1558 q1560 qs42 q65 q1561) rfl hd_X3_isPinned rfl (Nat.le_of_ble_eq_true rfl) (by decide) (by decide) (by decide) (by decide) rfl dX3_pinnedAbove_62 (fun _ _ h => h.elim) (fun r20 V21 hP22 => ?_)
          rw [hP22.1, hP22.2]
          refine z_st (st' := [.int (zb (pin' hld u)), .int (nI (fC (fun j => decide ((Y (yPl Y (vN v1))).idxOf (vN v1) < j) && pin' hld ((Y (yPl Y (vN v1))).getD j 0)) k))]) rfl ?_
          refine z_if_eqB C 72 dX3_pinnedAbove_65 (by decide) (fun c65 => ?_) (fun c65 => ?_)
          · skip
            refine z_iconst C (v := (nI 0)) dX3_pinnedAbove_72 rfl ?_
            refine z_iaddN C dX3_pinnedAbove_73 ?_
            refine z_istore_n C [(3, .int (nI ((fC (fun j => decide ((Y (yPl Y (vN v1))).idxOf (vN v1) < j) && pin' hld ((Y (yPl Y (vN v1))).getD j 0)) k) + 0))), (4, .int (nI k)), (2, .int (nI (yPl Y (vN v1)))), (0, .ref m), (1, .int (nI (vN v1)))] dX3_pinnedAbove_74 rfl (by decide) rfl ?_
            refine z_iincN C 1 1 [(4, .int (nI (k + 1))), (3, .int (nI ((fC (fun j => decide ((Y (yPl Y (vN v1))).idxOf (vN v1) < j) && pin' hld ((Y (yPl Y (vN v1))).getD j 0)) k) + 0))), (2, .int (nI (yPl Y (vN v1)))), (0, .ref m), (1, .int (nI (vN v1)))] rfl dX3_pinnedAbove_75 rfl (by decide) rfl ?_
            refine z_goto C 38 dX3_pinnedAbove_78 (by decide) ?_
            refine z_pick [(3, .int (nI ((fC (fun j => decide ((Y (yPl Y (vN v1))).idxOf (vN v1) < j) && pin' hld ((Y (yPl Y (vN v1))).getD j 0)) k) + 0))), (4, .int (nI (k + 1))), (2, .int (nI (yPl Y (vN v1)))), (0, .ref m), (1, .int (nI (vN v1)))] [1, 0, 2, 3, 4] rfl ?_
            have e23 : (.int (nI ((fC (fun j => decide ((Y (yPl Y (vN v1))).idxOf (vN v1) < j) && pin' hld ((Y (yPl Y (vN v1))).getD j 0)) k) + 0)) : Value) = .int (nI (fC (fun j => decide ((Y (yPl Y (vN v1))).idxOf (vN v1) < j) && pin' hld ((Y (yPl Y (vN v1))).getD j 0)) (k + 1))) := (by rw [fC_f (by show (decide ((Y (yPl Y (vN v1))).idxOf (vN v1) < k) && pin' hld ((Y (yPl Y (vN v1))).getD k 0)) = _; rw [hud, decide_eq_true (by omega), c65]; rfl)])
            refine z_lv (lv' := [(3, .int (nI (fC (fun j => decide ((Y (yPl Y (vN v1))).idxOf (vN v1) < j) && pin' hld ((Y (yPl Y (vN v1))).getD j 0)) (k + 1)))), (4, .int (nI (k + 1))), (2, .int (nI (yPl Y (vN v1)))), (0, .ref m), (1, .int (nI (vN v1)))]) (by rw [e23]) ?_
            exact ih_loop16 (k + 1) (by omega) (by omega) (by omega)
          · skip
            refine z_iconst C (v := (nI 1)) dX3_pinnedAbove_68 rfl ?_
            refine z_goto C 73 dX3_pinnedAbove_69 (by decide) ?_
            refine z_iaddN C dX3_pinnedAbove_73 ?_
            refine z_istore_n C [(3, .int (nI ((fC (fun j => decide ((Y (yPl Y (vN v1))).idxOf (vN v1) < j) && pin' hld ((Y (yPl Y (vN v1))).getD j 0)) k) + 1))), (4, .int (nI k)), (2, .int (nI (yPl Y (vN v1)))), (0, .ref m), (1, .int (nI (vN v1)))] dX3_pinnedAbove_74 rfl (by decide) rfl ?_
            refine z_iincN C 1 1 [(4, .int (nI (k + 1))), (3, .int (nI ((fC (fun j => decide ((Y (yPl Y (vN v1))).idxOf (vN v1) < j) && pin' hld ((Y (yPl Y (vN v1))).getD j 0)) k) + 1))), (2, .int (nI (yPl Y (vN v1)))), (0, .ref m), (1, .int (nI (vN v1)))] rfl dX3_pinnedAbove_75 rfl (by decide) rfl ?_
            refine z_goto C 38 dX3_pinnedAbove_78 (by decide) ?_
            refine z_pick [(3, .int (nI ((fC (fun j => decide ((Y (yPl Y (vN v1))).idxOf (vN v1) < j) && pin' hld ((Y (yPl Y (vN v1))).getD j 0)) k) + 1))), (4, .int (nI (k + 1))), (2, .int (nI (yPl Y (vN v1)))), (0, .ref m), (1, .int (nI (vN v1)))] [1, 0, 2, 3, 4] rfl ?_
            have e24 : (.int (nI ((fC (fun j => decide ((Y (yPl Y (vN v1))).idxOf (vN v1) < j) && pin' hld ((Y (yPl Y (vN v1))).getD j 0)) k) + 1)) : Value) = .int (nI (fC (fun j => decide ((Y (yPl Y (vN v1))).idxOf (vN v1) < j) && pin' hld ((Y (yPl Y (vN v1))).getD j 0)) (k + 1))) := (by rw [fC_t (by show (decide ((Y (yPl Y (vN v1))).idxOf (vN v1) < k) && pin' hld ((Y (yPl Y (vN v1))).getD k 0)) = _; rw [hud, decide_eq_true (by omega), c65]; rfl)])
            refine z_lv (lv' := [(3, .int (nI (fC (fun j => decide ((Y (yPl Y (vN v1))).idxOf (vN v1) < j) && pin' hld ((Y (yPl Y (vN v1))).getD j 0)) (k + 1)))), (4, .int (nI (k + 1))), (2, .int (nI (yPl Y (vN v1)))), (0, .ref m), (1, .int (nI (vN v1)))]) (by rw [e24]) ?_
            exact ih_loop16 (k + 1) (by omega) (by omega) (by omega)
    exact loop16 _ ((Y (yPl Y (vN v1))).idxOf (vN v1) + 1) (Nat.le_refl _) (by omega) (Nat.lt_succ_self _)
  · skip
    have hq : qIs (qS st rch bx wt ins hld unt Y ap ab hr ln sa mv nw lf) (vN v1) = false := by simpa using c10
    have e1 : oPinned (qS st rch bx wt ins hld unt Y ap ab hr ln sa mv nw lf) (vN v1) = (1, 0, (qS st rch bx wt ins hld unt Y ap ab hr ln sa mv nw lf)) := if_neg (by rw [hq]; decide)
    refine z_aload_n C 0 rfl dX3_pinnedAbove_13 rfl ?_
    refine z_iconst C (v := (nI 1)) dX3_pinnedAbove_14 rfl ?_
    refine z_callV C k_M hM3.1 (As := [.int (nI 1)]) (mX3_fails hM3 hst hbx) (lw_V q1458 q1460 qs31 q65 q1461) rfl hd_X3_fails rfl (Nat.le_of_ble_eq_true rfl) (by decide) (by decide) (by decide) (by decide) rfl dX3_pinnedAbove_15 (fun _ _ h => h.elim) (fun r25 V26 hP27 => ?_)
    obtain ⟨hM28, rfl⟩ := hP27
    refine z_st (st' := [.int 0]) rfl ?_
    exact z_iret C hQ 0 rfl ⟨F, by rw [e1]; exact (show mR D _ m A _ _ (qS st rch bx wt ins hld unt Y ap ab hr ln sa mv nw lf) from ⟨hM28, hE, hU, hy, hA⟩), fun _ => oRes e1⟩ (by decide) (by decide) dX3_pinnedAbove_18
set_option maxHeartbeats 4000000 in
set_option maxRecDepth 100000 in
theorem mX3_why {l : Launch} {D : ZD} {V : ZV} {kk m : Nat} {A : Nat → Nat} {F : Nat → Nat → Int32} {cd : Int32} {st : Nat} {rch : Nat → Nat} {bx : Nat} {wt : Nat → Nat} {ins : Nat → Bool} {hld : Nat → Int32} {unt : Nat → Nat} {Y : YD} {ap : Nat} {ab hr ln : Nat → Nat} {sa : Nat → Int32} {mv : Int32} {nw : Nat} {lf : Int64} (hR : mR D V m A F cd (qS st rch bx wt ins hld unt Y ap ab hr ln sa mv nw lf)) (hI : qI kk (qS st rch bx wt ins hld unt Y ap ab hr ln sa mv nw lf)) {v1 v2 : Int32} : ZM l D yX3_why (ws_ yX3_why cX3_why 4 (some .char)) 3 0 0 eI V [.ref m, .int v1, .int v2] (fun r V' => ∃ F2, mR D V' m A F2 (nI (oWhy (qS st rch bx wt ins hld unt Y ap ab hr ln sa mv nw lf) (vN v1) (vN v2)).1) (oWhy (qS st rch bx wt ins hld unt Y ap ab hr ln sa mv nw lf) (vN v1) (vN v2)).2.2 ∧ ((oWhy (qS st rch bx wt ins hld unt Y ap ab hr ln sa mv nw lf) (vN v1) (vN v2)).1 = 0 → r = (oWhy (qS st rch bx wt ins hld unt Y ap ab hr ln sa mv nw lf) (vN v1) (vN v2)).2.1)) zno_x := by
  refine z_enter (by decide +kernel) [(0, .ref m), (1, .int v1), (2, .int v2)] rfl (Nat.le_of_ble_eq_true rfl) (zcat_cons rfl (zcat_cons rfl (zcat_cons rfl zcat_nil))) (fun Γ C hQ => ?_)
  have hM : MX D V m A F cd nw st bx mv ap lf := hR.1
  have hE : mE F st bx rch wt ins hld := hR.2.1
  have hU : ∀ b, b < 20 → F 4 b = nI (unt b) := hR.2.2.1
  have hy : mY F 0 Y := hR.2.2.2.1
  have hA : ∀ a, a < ap → F 8 a = nI (ab a) ∧ F 9 a = nI (hr a) ∧ F 10 a = nI (ln a) ∧ F 11 a = sa a := hR.2.2.2.2
  have hst : st ≤ 4 := hI.1.1
  have hbx : bx ≤ 20 := hI.1.2.1
  have hrc : ∀ s, s < st → rch s ≤ 4 := fun s hs => (hI.1.2.2.1 s hs).2
  have hwt : ∀ b, b < bx → wt b < 1000 := fun b hb => by have h9 : wt b ≤ 30 := (hI.1.2.2.2 b hb).2; omega
  have hg : yGood st bx ins Y := hI.2.1.1
  have hht : ∀ s, s < st → (Y s).length ≤ rch s := hI.2.1.2.1
  have hu1 : ∀ b, unt b ≤ 1000 := hI.2.2.1.2.1
  have hhl : ∀ b, b < bx → hld b = nI 45 ∨ hld b = nI 112 ∨ hld b = nI 108 := hI.2.2.1.2.2
  have hap : ap ≤ 30 := hI.2.2.2.1.1
  have haa : ∀ a, a < ap → ab a < bx ∧ hr a ≤ 999 ∧ ln a < 3 ∧ (sa a = nI 98 ∨ sa a = nI 99 ∨ sa a = nI 103 ∨ sa a = nI 100 ∨ sa a = nI 109) := hI.2.2.2.1.2.1
  have hnw : nw ≤ 999 := hI.2.2.2.2
  have hY4 : ∀ s, (Y s).length ≤ 4 := hg.1.1
  have hmm : ∀ s, ∀ c ∈ Y s, c < bx := fun s c hc => (hg.2.2 s c hc).1
  refine z_aload_n C 0 rfl dX3_why_0 rfl ?_
  refine z_aload_n C 0 rfl dX3_why_1 rfl ?_
  refine z_iload_n C 1 rfl dX3_why_2 rfl ?_
  refine z_callV C k_M hM.1 (As := [.int v1]) (mX3_isBox (show mR D _ m A _ _ (qS st rch bx wt ins hld unt Y ap ab hr ln sa mv nw lf) from ⟨hM, hE, hU, hy, hA⟩) hI) (lw_V q1494 q1496 qs37 q65 q1497) rfl hd_X3_isBox rfl (Nat.le_of_ble_eq_true rfl) (by decide) (by decide) (by decide) (by decide) rfl dX3_why_3 (fun _ _ h => h.elim) (fun r1 V2 hP3 => ?_)
  rw [hP3.1, hP3.2]
  refine z_st (st' := [.int (zb (qIs (qS st rch bx wt ins hld unt Y ap ab hr ln sa mv nw lf) (vN v1))), .ref m]) rfl ?_
  refine z_if_eqB C 21 dX3_why_6 (by decide) (fun c6 => ?_) (fun c6 => ?_)
  · skip
    have e1 : oWhy (qS st rch bx wt ins hld unt Y ap ab hr ln sa mv nw lf) (vN v1) (vN v2) = (1, 0, (qS st rch bx wt ins hld unt Y ap ab hr ln sa mv nw lf)) := if_neg (fun h => by rw [show qIs (qS st rch bx wt ins hld unt Y ap ab hr ln sa mv nw lf) (vN v1) = false by simpa using c6] at h; exact absurd h.1 (by decide))
    refine z_iconst C (v := (nI 1)) dX3_why_21 rfl ?_
    refine z_put C k_M hM.1 0 (by decide) [.int (nI 1), .int (nI nw), .int (nI st), .ref (A 0), .int (nI bx), .ref (A 1), .ref (A 2), .ref (A 3), .ref (A 4), .ref (A 5), .ref (A 6), .ref (A 7), .int mv, .int (nI ap), .ref (A 8), .ref (A 9), .ref (A 10), .ref (A 11), .long lf] rfl (Nat.le_of_ble_eq_true rfl) rfl rfl rfl q1387 dX3_why_22 (z_nV (fun V4 hV5 => ?_))
    have hM6 := MX.ob (cd2 := (nI 1)) (nw2 := nw) (st2 := st) (bx2 := bx) (mv2 := mv) (ap2 := ap) (lf2 := lf) hM hV5
    refine z_aload_n C 0 rfl dX3_why_25 rfl ?_
    refine z_get C k_M hM6.1 0 (by decide) rfl q1387 dX3_why_26 ?_
    refine z_if_leN C 34 (by omega) dX3_why_29 (by decide) (fun c29 => ?_) (fun c29 => ?_)
    · skip
      exfalso; omega
    · skip
      refine z_iconst C (v := (nI 0)) dX3_why_32 rfl ?_
      exact z_zret C hQ (nI 0) rfl rfl ⟨F, by rw [e1]; exact (show mR D _ m A _ _ (qS st rch bx wt ins hld unt Y ap ab hr ln sa mv nw lf) from ⟨hM6, hE, hU, hy, hA⟩), fun _ => oRes e1⟩ (by decide) (by decide) dX3_why_33
  · skip
    have hq : qIs (qS st rch bx wt ins hld unt Y ap ab hr ln sa mv nw lf) (vN v1) = true := by simpa using c6
    obtain ⟨hbb, hbi⟩ := qIs_t (S := (qS st rch bx wt ins hld unt Y ap ab hr ln sa mv nw lf)) (by simpa using c6)
    have hbb : vN v1 < bx := hbb
    have hbi : ins (vN v1) = true := hbi
    have hv7 := vN_of (v := v1) hbb (by omega)
    have e8 : (.int v1 : Value) = .int (nI (vN v1)) := (congrArg Value.int hv7)
    refine z_lv (lv' := [(0, .ref m), (1, .int (nI (vN v1))), (2, .int v2)]) (by rw [e8]) ?_
    obtain ⟨p0, hb0⟩ := hg.2.1 _ hbb hbi
    have hb : vN v1 ∈ Y (yPl Y (vN v1)) := by rw [yPl_eq hg.1 hst hb0]; exact hb0
    have hpst := hg.1.lt hb
    have hq0 : ¬ qIs (qS st rch bx wt ins hld unt Y ap ab hr ln sa mv nw lf) (vN v1) = false := by rw [hq]; decide
    refine z_aload_n C 0 rfl dX3_why_9 rfl ?_
    refine z_iload_n C 2 rfl dX3_why_10 rfl ?_
    refine z_callV C k_M hM.1 (As := [.int v2]) (mX3_isStack (show mR D _ m A _ _ (qS st rch bx wt ins hld unt Y ap ab hr ln sa mv nw lf) from ⟨hM, hE, hU, hy, hA⟩) hI) (lw_V q1466 q1468 qs32 q65 q1469) rfl hd_X3_isStack rfl (Nat.le_of_ble_eq_true rfl) (by decide) (by decide) (by decide) (by decide) rfl dX3_why_11 (fun _ _ h => h.elim) (fun r9 V10 hP11 => ?_)
    rw [hP11.1, hP11.2]
    refine z_st (st' := [.int (zb (decide (vN v2 < st))), .ref m]) rfl ?_
    refine z_if_eqB C 21 dX3_why_14 (by decide) (fun c14 => ?_) (fun c14 => ?_)
    · skip
      have e1 : oWhy (qS st rch bx wt ins hld unt Y ap ab hr ln sa mv nw lf) (vN v1) (vN v2) = (1, 0, (qS st rch bx wt ins hld unt Y ap ab hr ln sa mv nw lf)) := if_neg (fun h => by have h2 := c14; have h3 : vN v2 < st := h.2; simp at h2; omega)
      refine z_iconst C (v := (nI 1)) dX3_why_21 rfl ?_
      refine z_put C k_M hM.1 0 (by decide) [.int (nI 1), .int (nI nw), .int (nI st), .ref (A 0), .int (nI bx), .ref (A 1), .ref (A 2), .ref (A 3), .ref (A 4), .ref (A 5), .ref (A 6), .ref (A 7), .int mv, .int (nI ap), .ref (A 8), .ref (A 9), .ref (A 10), .ref (A 11), .long lf] rfl (Nat.le_of_ble_eq_true rfl) rfl rfl rfl q1387 dX3_why_22 (z_nV (fun V12 hV13 => ?_))
      have hM14 := MX.ob (cd2 := (nI 1)) (nw2 := nw) (st2 := st) (bx2 := bx) (mv2 := mv) (ap2 := ap) (lf2 := lf) hM hV13
      refine z_aload_n C 0 rfl dX3_why_25 rfl ?_
      refine z_get C k_M hM14.1 0 (by decide) rfl q1387 dX3_why_26 ?_
      refine z_if_leN C 34 (by omega) dX3_why_29 (by decide) (fun c29 => ?_) (fun c29 => ?_)
      · skip
        exfalso; omega
      · skip
        refine z_iconst C (v := (nI 0)) dX3_why_32 rfl ?_
        exact z_zret C hQ (nI 0) rfl rfl ⟨F, by rw [e1]; exact (show mR D _ m A _ _ (qS st rch bx wt ins hld unt Y ap ab hr ln sa mv nw lf) from ⟨hM14, hE, hU, hy, hA⟩), fun _ => oRes e1⟩ (by decide) (by decide) dX3_why_33
    · skip
      have hs : vN v2 < st := by have := c14; simpa using this
      have hv15 := vN_of (v := v2) hs (by omega)
      have e16 : (.int v2 : Value) = .int (nI (vN v2)) := (congrArg Value.int hv15)
      refine z_lv (lv' := [(0, .ref m), (1, .int (nI (vN v1))), (2, .int (nI (vN v2)))]) (by rw [e16]) ?_
      have hl4 := hY4 (vN v2)
      have hrs := hrc _ hs
      have hwb := hwt _ hbb
      have e0 : oWhy (qS st rch bx wt ins hld unt Y ap ab hr ln sa mv nw lf) (vN v1) (vN v2) = (0, yWhy rch wt (pin' hld) Y (yPl Y (vN v1)) (vN v1) (vN v2), (qS st rch bx wt ins hld unt Y ap ab hr ln sa mv nw lf)) := if_pos ⟨hq, hs⟩
      refine z_iconst C (v := (nI 0)) dX3_why_17 rfl ?_
      refine z_goto C 22 dX3_why_18 (by decide) ?_
      refine z_put C k_M hM.1 0 (by decide) [.int (nI 0), .int (nI nw), .int (nI st), .ref (A 0), .int (nI bx), .ref (A 1), .ref (A 2), .ref (A 3), .ref (A 4), .ref (A 5), .ref (A 6), .ref (A 7), .int mv, .int (nI ap), .ref (A 8), .ref (A 9), .ref (A 10), .ref (A 11), .long lf] rfl (Nat.le_of_ble_eq_true rfl) rfl rfl rfl q1387 dX3_why_22 (z_nV (fun V17 hV18 => ?_))
      have hM19 := MX.ob (cd2 := (nI 0)) (nw2 := nw) (st2 := st) (bx2 := bx) (mv2 := mv) (ap2 := ap) (lf2 := lf) hM hV18
      refine z_aload_n C 0 rfl dX3_why_25 rfl ?_
      refine z_get C k_M hM19.1 0 (by decide) rfl q1387 dX3_why_26 ?_
      refine z_if_leN C 34 (by omega) dX3_why_29 (by decide) (fun c29 => ?_) (fun c29 => ?_)
      · skip
        refine z_aload_n C 0 rfl dX3_why_34 rfl ?_
        refine z_get C k_M hM19.1 9 (by decide) rfl q1396 dX3_why_35 ?_
        refine z_iload_n C 2 rfl dX3_why_38 rfl ?_
        have ga20 : V17 (A 5) = some (.inl (D.arr 0, 24, .inl (F 5))) := hM19.2.1 5 (by decide)
        refine z_iald C ga20 (by omega) (by omega) (v := (nI ((Y (vN v2)).length))) (mY_len hy (vN v2) (by omega)) dX3_why_39 ?_
        refine z_aload_n C 0 rfl dX3_why_40 rfl ?_
        refine z_get C k_M hM19.1 3 (by decide) rfl q1390 dX3_why_41 ?_
        refine z_iload_n C 2 rfl dX3_why_44 rfl ?_
        have ga21 : V17 (A 0) = some (.inl (D.arr 0, 4, .inl (F 0))) := hM19.2.1 0 (by decide)
        refine z_iald C ga21 (by omega) (by omega) (v := (nI (rch (vN v2)))) (hE.1 (vN v2) (by omega)) dX3_why_45 ?_
        refine z_icmp_neN C 53 (by omega) (by omega) dX3_why_46 (by decide) (fun c46 => ?_) (fun c46 => ?_)
        · skip
          refine z_iconst C (v := (nI 0)) dX3_why_53 rfl ?_
          refine z_istore_n C [(3, .int (nI 0)), (0, .ref m), (1, .int (nI (vN v1))), (2, .int (nI (vN v2)))] dX3_why_54 rfl (by decide) rfl ?_
          refine z_aload_n C 1 rfl dX3_why_55 rfl ?_
          refine z_iconst C (v := (nI 0)) dX3_why_56 rfl ?_
          refine z_iload_n C 2 rfl dX3_why_57 rfl ?_
          refine z_callV C k_M hM19.1 (As := [.int (nI 0), .int (nI (vN v1))]) (mX3_isTop hM19 hst hbx hy (by omega) hg.1 hb) (lw_V q1566 q1568 qs43 q65 q1569) rfl hd_X3_isTop rfl (Nat.le_of_ble_eq_true rfl) (by decide) (by decide) (by decide) (by decide) rfl dX3_why_58 (fun _ _ h => h.elim) (fun r22 V23 hP24 => ?_)
          rw [hP24.1, hP24.2]
          refine z_st (st' := [.int (zb (decide ((Y (yPl Y (vN v1))).getLast? = some (vN v1))))]) rfl ?_
          refine z_if_neB C 69 dX3_why_61 (by decide) (fun c61 => ?_) (fun c61 => ?_)
          · skip
            refine z_aload_n C 1 rfl dX3_why_69 rfl ?_
            refine z_iload_n C 2 rfl dX3_why_70 rfl ?_
            refine z_callV C k_M hM19.1 (As := [.int (nI (vN v1))]) (mX3_isPinned hM19 hst hbx hE (b := vN v1) (by omega)) (lw_V q1558 q1560 qs42 q65 q1561) rfl hd_X3_isPinned rfl (Nat.le_of_ble_eq_true rfl) (by decide) (by decide) (by decide) (by decide) rfl dX3_why_71 (fun _ _ h => h.elim) (fun r25 V26 hP27 => ?_)
            rw [hP27.1, hP27.2]
            refine z_st (st' := [.int (zb (pin' hld (vN v1)))]) rfl ?_
            refine z_if_eqB C 82 dX3_why_74 (by decide) (fun c74 => ?_) (fun c74 => ?_)
            · skip
              refine z_aload_n C 1 rfl dX3_why_82 rfl ?_
              refine z_iconst C (v := (nI 0)) dX3_why_83 rfl ?_
              refine z_iload_n C 2 rfl dX3_why_84 rfl ?_
              refine z_callV C k_M hM19.1 (As := [.int (nI 0), .int (nI (vN v1))]) (mX3_placeOf hM19 hst hbx hy (by omega) hg.1 hb) (lw_V q1506 q1508 qs38 q65 q1509) rfl hd_X3_placeOf rfl (Nat.le_of_ble_eq_true rfl) (by decide) (by decide) (by decide) (by decide) rfl dX3_why_85 (fun _ _ h => h.elim) (fun r28 V29 hP30 => ?_)
              rw [hP30.1, hP30.2]
              refine z_st (st' := [.int (nI (yPl Y (vN v1)))]) rfl ?_
              refine z_iload_n C 3 rfl dX3_why_88 rfl ?_
              refine z_icmp_neN C 97 (by omega) (by omega) dX3_why_89 (by decide) (fun c89 => ?_) (fun c89 => ?_)
              · skip
                refine z_iload_n C 0 rfl dX3_why_97 rfl ?_
                refine z_if_eqN C 106 (by omega) dX3_why_98 (by decide) (fun c98 => ?_) (fun c98 => ?_)
                · skip
                  refine z_aload_n C 1 rfl dX3_why_106 rfl ?_
                  refine z_iconst C (v := (nI 0)) dX3_why_107 rfl ?_
                  refine z_iload_n C 3 rfl dX3_why_108 rfl ?_
                  refine z_aload_n C 1 rfl dX3_why_109 rfl ?_
                  refine z_get C k_M hM19.1 5 (by decide) rfl q1392 dX3_why_110 ?_
                  refine z_iload_n C 2 rfl dX3_why_113 rfl ?_
                  have ga31 : V17 (A 1) = some (.inl (D.arr 0, 20, .inl (F 1))) := hM19.2.1 1 (by decide)
                  refine z_iald C ga31 (by omega) (by omega) (v := (nI (wt (vN v1)))) (hE.2.1 (vN v1) (by omega)) dX3_why_114 ?_
                  refine z_callV C k_M hM19.1 (As := [.int (nI 0), .int (nI (vN v2)), .int (nI (wt (vN v1)))]) (mX3_takes hM19 hst hbx hy (by omega) hg.1 hE hrc hwt (s := vN v2) (w := wt (vN v1)) (by omega) (hmm _) (by omega)) (lw_V q1470 q1472 qs33 q65 q1473) rfl hd_X3_takes rfl (Nat.le_of_ble_eq_true rfl) (by decide) (by decide) (by decide) (by decide) rfl dX3_why_115 (fun _ _ h => h.elim) (fun r32 V33 hP34 => ?_)
                  rw [hP34.1, hP34.2]
                  refine z_st (st' := [.int (zb (yTk wt Y (vN v2) (rch (vN v2)) (wt (vN v1))))]) rfl ?_
                  refine z_if_eqB C 126 dX3_why_118 (by decide) (fun c118 => ?_) (fun c118 => ?_)
                  · skip
                    have e1 : oWhy (qS st rch bx wt ins hld unt Y ap ab hr ln sa mv nw lf) (vN v1) (vN v2) = (0, nI 119, (qS st rch bx wt ins hld unt Y ap ab hr ln sa mv nw lf)) := e0.trans (by rw [show yWhy rch wt (pin' hld) Y (yPl Y (vN v1)) (vN v1) (vN v2) = nI 119 from (if_neg (not_not_intro (by simpa using c61))).trans ((if_neg (by simpa using c74)).trans ((if_neg c89).trans ((if_neg c46).trans (if_neg (by have := c118; simpa using this)))))])
                    refine z_bipush C (v := (nI 119)) dX3_why_126 rfl ?_
                    exact z_zret C hQ (nI 119) rfl rfl ⟨F, by rw [e1]; exact (show mR D _ m A _ _ (qS st rch bx wt ins hld unt Y ap ab hr ln sa mv nw lf) from ⟨hM19, hE, hU, hy, hA⟩), fun _ => oRes e1⟩ (by decide) (by decide) dX3_why_128
                  · skip
                    have e1 : oWhy (qS st rch bx wt ins hld unt Y ap ab hr ln sa mv nw lf) (vN v1) (vN v2) = (0, nI 45, (qS st rch bx wt ins hld unt Y ap ab hr ln sa mv nw lf)) := e0.trans (by rw [show yWhy rch wt (pin' hld) Y (yPl Y (vN v1)) (vN v1) (vN v2) = nI 45 from (if_neg (not_not_intro (by simpa using c61))).trans ((if_neg (by simpa using c74)).trans ((if_neg c89).trans ((if_neg c46).trans (if_pos (by have := c118; simpa using this)))))])
                    refine z_bipush C (v := (nI 45)) dX3_why_121 rfl ?_
                    refine z_goto C 128 dX3_why_123 (by decide) ?_
                    exact z_zret C hQ (nI 45) rfl rfl ⟨F, by rw [e1]; exact (show mR D _ m A _ _ (qS st rch bx wt ins hld unt Y ap ab hr ln sa mv nw lf) from ⟨hM19, hE, hU, hy, hA⟩), fun _ => oRes e1⟩ (by decide) (by decide) dX3_why_128
                · skip
                  exfalso; omega
              · skip
                have e1 : oWhy (qS st rch bx wt ins hld unt Y ap ab hr ln sa mv nw lf) (vN v1) (vN v2) = (0, nI 115, (qS st rch bx wt ins hld unt Y ap ab hr ln sa mv nw lf)) := e0.trans (by rw [show yWhy rch wt (pin' hld) Y (yPl Y (vN v1)) (vN v1) (vN v2) = nI 115 from (if_neg (not_not_intro (by simpa using c61))).trans ((if_neg (by simpa using c74)).trans (if_pos c89))])
                refine z_bipush C (v := (nI 115)) dX3_why_92 rfl ?_
                refine z_goto C 128 dX3_why_94 (by decide) ?_
                exact z_zret C hQ (nI 115) rfl rfl ⟨F, by rw [e1]; exact (show mR D _ m A _ _ (qS st rch bx wt ins hld unt Y ap ab hr ln sa mv nw lf) from ⟨hM19, hE, hU, hy, hA⟩), fun _ => oRes e1⟩ (by decide) (by decide) dX3_why_128
            · skip
              have e1 : oWhy (qS st rch bx wt ins hld unt Y ap ab hr ln sa mv nw lf) (vN v1) (vN v2) = (0, nI 112, (qS st rch bx wt ins hld unt Y ap ab hr ln sa mv nw lf)) := e0.trans (by rw [show yWhy rch wt (pin' hld) Y (yPl Y (vN v1)) (vN v1) (vN v2) = nI 112 from (if_neg (not_not_intro (by simpa using c61))).trans (if_pos (by simpa using c74))])
              refine z_bipush C (v := (nI 112)) dX3_why_77 rfl ?_
              refine z_goto C 128 dX3_why_79 (by decide) ?_
              exact z_zret C hQ (nI 112) rfl rfl ⟨F, by rw [e1]; exact (show mR D _ m A _ _ (qS st rch bx wt ins hld unt Y ap ab hr ln sa mv nw lf) from ⟨hM19, hE, hU, hy, hA⟩), fun _ => oRes e1⟩ (by decide) (by decide) dX3_why_128
          · skip
            have e1 : oWhy (qS st rch bx wt ins hld unt Y ap ab hr ln sa mv nw lf) (vN v1) (vN v2) = (0, nI 116, (qS st rch bx wt ins hld unt Y ap ab hr ln sa mv nw lf)) := e0.trans (by rw [show yWhy rch wt (pin' hld) Y (yPl Y (vN v1)) (vN v1) (vN v2) = nI 116 from if_pos (by have := c61; simpa using this)])
            refine z_bipush C (v := (nI 116)) dX3_why_64 rfl ?_
            refine z_goto C 128 dX3_why_66 (by decide) ?_
            exact z_zret C hQ (nI 116) rfl rfl ⟨F, by rw [e1]; exact (show mR D _ m A _ _ (qS st rch bx wt ins hld unt Y ap ab hr ln sa mv nw lf) from ⟨hM19, hE, hU, hy, hA⟩), fun _ => oRes e1⟩ (by decide) (by decide) dX3_why_128
        · skip
          refine z_iconst C (v := (nI 1)) dX3_why_49 rfl ?_
          refine z_goto C 54 dX3_why_50 (by decide) ?_
          refine z_istore_n C [(3, .int (nI 1)), (0, .ref m), (1, .int (nI (vN v1))), (2, .int (nI (vN v2)))] dX3_why_54 rfl (by decide) rfl ?_
          refine z_aload_n C 1 rfl dX3_why_55 rfl ?_
          refine z_iconst C (v := (nI 0)) dX3_why_56 rfl ?_
          refine z_iload_n C 2 rfl dX3_why_57 rfl ?_
          refine z_callV C k_M hM19.1 (As := [.int (nI 0), .int (nI (vN v1))]) (mX3_isTop hM19 hst hbx hy (by omega) hg.1 hb) (lw_V q1566 q1568 qs43 q65 q1569) rfl hd_X3_isTop rfl (Nat.le_of_ble_eq_true rfl) (by decide) (by decide) (by decide) (by decide) rfl dX3_why_58 (fun _ _ h => h.elim) (fun r35 V36 hP37 => ?_)
          rw [hP37.1, hP37.2]
          refine z_st (st' := [.int (zb (decide ((Y (yPl Y (vN v1))).getLast? = some (vN v1))))]) rfl ?_
          refine z_if_neB C 69 dX3_why_61 (by decide) (fun c61 => ?_) (fun c61 => ?_)
          · skip
            refine z_aload_n C 1 rfl dX3_why_69 rfl ?_
            refine z_iload_n C 2 rfl dX3_why_70 rfl ?_
            refine z_callV C k_M hM19.1 (As := [.int (nI (vN v1))]) (mX3_isPinned hM19 hst hbx hE (b := vN v1) (by omega)) (lw_V q1558 q1560 qs42 q65 q1561) rfl hd_X3_isPinned rfl (Nat.le_of_ble_eq_true rfl) (by decide) (by decide) (by decide) (by decide) rfl dX3_why_71 (fun _ _ h => h.elim) (fun r38 V39 hP40 => ?_)
            rw [hP40.1, hP40.2]
            refine z_st (st' := [.int (zb (pin' hld (vN v1)))]) rfl ?_
            refine z_if_eqB C 82 dX3_why_74 (by decide) (fun c74 => ?_) (fun c74 => ?_)
            · skip
              refine z_aload_n C 1 rfl dX3_why_82 rfl ?_
              refine z_iconst C (v := (nI 0)) dX3_why_83 rfl ?_
              refine z_iload_n C 2 rfl dX3_why_84 rfl ?_
              refine z_callV C k_M hM19.1 (As := [.int (nI 0), .int (nI (vN v1))]) (mX3_placeOf hM19 hst hbx hy (by omega) hg.1 hb) (lw_V q1506 q1508 qs38 q65 q1509) rfl hd_X3_placeOf rfl (Nat.le_of_ble_eq_true rfl) (by decide) (by decide) (by decide) (by decide) rfl dX3_why_85 (fun _ _ h => h.elim) (fun r41 V42 hP43 => ?_)
              rw [hP43.1, hP43.2]
              refine z_st (st' := [.int (nI (yPl Y (vN v1)))]) rfl ?_
              refine z_iload_n C 3 rfl dX3_why_88 rfl ?_
              refine z_icmp_neN C 97 (by omega) (by omega) dX3_why_89 (by decide) (fun c89 => ?_) (fun c89 => ?_)
              · skip
                refine z_iload_n C 0 rfl dX3_why_97 rfl ?_
                refine z_if_eqN C 106 (by omega) dX3_why_98 (by decide) (fun c98 => ?_) (fun c98 => ?_)
                · skip
                  exfalso; omega
                · skip
                  have e1 : oWhy (qS st rch bx wt ins hld unt Y ap ab hr ln sa mv nw lf) (vN v1) (vN v2) = (0, nI 102, (qS st rch bx wt ins hld unt Y ap ab hr ln sa mv nw lf)) := e0.trans (by rw [show yWhy rch wt (pin' hld) Y (yPl Y (vN v1)) (vN v1) (vN v2) = nI 102 from (if_neg (not_not_intro (by simpa using c61))).trans ((if_neg (by simpa using c74)).trans ((if_neg c89).trans (if_pos c46)))])
                  refine z_bipush C (v := (nI 102)) dX3_why_101 rfl ?_
                  refine z_goto C 128 dX3_why_103 (by decide) ?_
                  exact z_zret C hQ (nI 102) rfl rfl ⟨F, by rw [e1]; exact (show mR D _ m A _ _ (qS st rch bx wt ins hld unt Y ap ab hr ln sa mv nw lf) from ⟨hM19, hE, hU, hy, hA⟩), fun _ => oRes e1⟩ (by decide) (by decide) dX3_why_128
              · skip
                have e1 : oWhy (qS st rch bx wt ins hld unt Y ap ab hr ln sa mv nw lf) (vN v1) (vN v2) = (0, nI 115, (qS st rch bx wt ins hld unt Y ap ab hr ln sa mv nw lf)) := e0.trans (by rw [show yWhy rch wt (pin' hld) Y (yPl Y (vN v1)) (vN v1) (vN v2) = nI 115 from (if_neg (not_not_intro (by simpa using c61))).trans ((if_neg (by simpa using c74)).trans (if_pos c89))])
                refine z_bipush C (v := (nI 115)) dX3_why_92 rfl ?_
                refine z_goto C 128 dX3_why_94 (by decide) ?_
                exact z_zret C hQ (nI 115) rfl rfl ⟨F, by rw [e1]; exact (show mR D _ m A _ _ (qS st rch bx wt ins hld unt Y ap ab hr ln sa mv nw lf) from ⟨hM19, hE, hU, hy, hA⟩), fun _ => oRes e1⟩ (by decide) (by decide) dX3_why_128
            · skip
              have e1 : oWhy (qS st rch bx wt ins hld unt Y ap ab hr ln sa mv nw lf) (vN v1) (vN v2) = (0, nI 112, (qS st rch bx wt ins hld unt Y ap ab hr ln sa mv nw lf)) := e0.trans (by rw [show yWhy rch wt (pin' hld) Y (yPl Y (vN v1)) (vN v1) (vN v2) = nI 112 from (if_neg (not_not_intro (by simpa using c61))).trans (if_pos (by simpa using c74))])
              refine z_bipush C (v := (nI 112)) dX3_why_77 rfl ?_
              refine z_goto C 128 dX3_why_79 (by decide) ?_
              exact z_zret C hQ (nI 112) rfl rfl ⟨F, by rw [e1]; exact (show mR D _ m A _ _ (qS st rch bx wt ins hld unt Y ap ab hr ln sa mv nw lf) from ⟨hM19, hE, hU, hy, hA⟩), fun _ => oRes e1⟩ (by decide) (by decide) dX3_why_128
          · skip
            have e1 : oWhy (qS st rch bx wt ins hld unt Y ap ab hr ln sa mv nw lf) (vN v1) (vN v2) = (0, nI 116, (qS st rch bx wt ins hld unt Y ap ab hr ln sa mv nw lf)) := e0.trans (by rw [show yWhy rch wt (pin' hld) Y (yPl Y (vN v1)) (vN v1) (vN v2) = nI 116 from if_pos (by have := c61; simpa using this)])
            refine z_bipush C (v := (nI 116)) dX3_why_64 rfl ?_
            refine z_goto C 128 dX3_why_66 (by decide) ?_
            exact z_zret C hQ (nI 116) rfl rfl ⟨F, by rw [e1]; exact (show mR D _ m A _ _ (qS st rch bx wt ins hld unt Y ap ab hr ln sa mv nw lf) from ⟨hM19, hE, hU, hy, hA⟩), fun _ => oRes e1⟩ (by decide) (by decide) dX3_why_128
      · skip
        exfalso; omega
set_option maxHeartbeats 4000000 in
set_option maxRecDepth 100000 in
theorem mX3_move {l : Launch} {D : ZD} {V : ZV} {kk m : Nat} {A : Nat → Nat} {F : Nat → Nat → Int32} {cd : Int32} {st : Nat} {rch : Nat → Nat} {bx : Nat} {wt : Nat → Nat} {ins : Nat → Bool} {hld : Nat → Int32} {unt : Nat → Nat} {Y : YD} {ap : Nat} {ab hr ln : Nat → Nat} {sa : Nat → Int32} {mv : Int32} {nw : Nat} {lf : Int64} (hR : mR D V m A F cd (qS st rch bx wt ins hld unt Y ap ab hr ln sa mv nw lf)) (hI : qI kk (qS st rch bx wt ins hld unt Y ap ab hr ln sa mv nw lf)) {v1 v2 : Int32} : ZM l D yX3_move (ws_ yX3_move cX3_move 3 (some .int)) 4 0 0 eI V [.ref m, .int v1, .int v2] (fun r V' => ∃ F2, mR D V' m A F2 (nI (oMove (qS st rch bx wt ins hld unt Y ap ab hr ln sa mv nw lf) (vN v1) (vN v2)).1) (oMove (qS st rch bx wt ins hld unt Y ap ab hr ln sa mv nw lf) (vN v1) (vN v2)).2.2 ∧ ((oMove (qS st rch bx wt ins hld unt Y ap ab hr ln sa mv nw lf) (vN v1) (vN v2)).1 = 0 → r = (oMove (qS st rch bx wt ins hld unt Y ap ab hr ln sa mv nw lf) (vN v1) (vN v2)).2.1)) zno_x := by
  refine z_enter (by decide +kernel) [(0, .ref m), (1, .int v1), (2, .int v2)] rfl (Nat.le_of_ble_eq_true rfl) (zcat_cons rfl (zcat_cons rfl (zcat_cons rfl zcat_nil))) (fun Γ C hQ => ?_)
  have hM : MX D V m A F cd nw st bx mv ap lf := hR.1
  have hE : mE F st bx rch wt ins hld := hR.2.1
  have hU : ∀ b, b < 20 → F 4 b = nI (unt b) := hR.2.2.1
  have hy : mY F 0 Y := hR.2.2.2.1
  have hA : ∀ a, a < ap → F 8 a = nI (ab a) ∧ F 9 a = nI (hr a) ∧ F 10 a = nI (ln a) ∧ F 11 a = sa a := hR.2.2.2.2
  have hst : st ≤ 4 := hI.1.1
  have hbx : bx ≤ 20 := hI.1.2.1
  have hrc : ∀ s, s < st → rch s ≤ 4 := fun s hs => (hI.1.2.2.1 s hs).2
  have hwt : ∀ b, b < bx → wt b < 1000 := fun b hb => by have h9 : wt b ≤ 30 := (hI.1.2.2.2 b hb).2; omega
  have hg : yGood st bx ins Y := hI.2.1.1
  have hht : ∀ s, s < st → (Y s).length ≤ rch s := hI.2.1.2.1
  have hu1 : ∀ b, unt b ≤ 1000 := hI.2.2.1.2.1
  have hhl : ∀ b, b < bx → hld b = nI 45 ∨ hld b = nI 112 ∨ hld b = nI 108 := hI.2.2.1.2.2
  have hap : ap ≤ 30 := hI.2.2.2.1.1
  have haa : ∀ a, a < ap → ab a < bx ∧ hr a ≤ 999 ∧ ln a < 3 ∧ (sa a = nI 98 ∨ sa a = nI 99 ∨ sa a = nI 103 ∨ sa a = nI 100 ∨ sa a = nI 109) := hI.2.2.2.1.2.1
  have hnw : nw ≤ 999 := hI.2.2.2.2
  have hY4 : ∀ s, (Y s).length ≤ 4 := hg.1.1
  have hmm : ∀ s, ∀ c ∈ Y s, c < bx := fun s c hc => (hg.2.2 s c hc).1
  refine z_aload_n C 0 rfl dX3_move_0 rfl ?_
  refine z_iconst C (v := (nI 0)) dX3_move_1 rfl ?_
  refine z_put C k_M hM.1 0 (by decide) [.int (nI 0), .int (nI nw), .int (nI st), .ref (A 0), .int (nI bx), .ref (A 1), .ref (A 2), .ref (A 3), .ref (A 4), .ref (A 5), .ref (A 6), .ref (A 7), .int mv, .int (nI ap), .ref (A 8), .ref (A 9), .ref (A 10), .ref (A 11), .long lf] rfl (Nat.le_of_ble_eq_true rfl) rfl rfl rfl q1387 dX3_move_2 (z_nV (fun V1 hV2 => ?_))
  have hM3 := MX.ob (cd2 := (nI 0)) (nw2 := nw) (st2 := st) (bx2 := bx) (mv2 := mv) (ap2 := ap) (lf2 := lf) hM hV2
  refine z_aload_n C 0 rfl dX3_move_5 rfl ?_
  refine z_iload_n C 1 rfl dX3_move_6 rfl ?_
  refine z_callV C k_M hM3.1 (As := [.int v1]) (mX3_isBox (show mR D _ m A _ _ (qS st rch bx wt ins hld unt Y ap ab hr ln sa mv nw lf) from ⟨hM3, hE, hU, hy, hA⟩) hI) (lw_V q1494 q1496 qs37 q65 q1497) rfl hd_X3_isBox rfl (Nat.le_of_ble_eq_true rfl) (by decide) (by decide) (by decide) (by decide) rfl dX3_move_7 (fun _ _ h => h.elim) (fun r4 V5 hP6 => ?_)
  rw [hP6.1, hP6.2]
  refine z_st (st' := [.int (zb (qIs (qS st rch bx wt ins hld unt Y ap ab hr ln sa mv nw lf) (vN v1)))]) rfl ?_
  refine z_if_eqB C 21 dX3_move_10 (by decide) (fun c10 => ?_) (fun c10 => ?_)
  · skip
    have e1 : oMove (qS st rch bx wt ins hld unt Y ap ab hr ln sa mv nw lf) (vN v1) (vN v2) = (1, 0, (qS st rch bx wt ins hld unt Y ap ab hr ln sa mv nw lf)) := if_pos (fun h => by rw [show qIs (qS st rch bx wt ins hld unt Y ap ab hr ln sa mv nw lf) (vN v1) = false by simpa using c10] at h; exact absurd h.1 (by decide))
    refine z_aload_n C 0 rfl dX3_move_21 rfl ?_
    refine z_iconst C (v := (nI 1)) dX3_move_22 rfl ?_
    refine z_callV C k_M hM3.1 (As := [.int (nI 1)]) (mX3_fails hM3 hst hbx) (lw_V q1458 q1460 qs31 q65 q1461) rfl hd_X3_fails rfl (Nat.le_of_ble_eq_true rfl) (by decide) (by decide) (by decide) (by decide) rfl dX3_move_23 (fun _ _ h => h.elim) (fun r7 V8 hP9 => ?_)
    obtain ⟨hM10, rfl⟩ := hP9
    refine z_st (st' := [.int 0]) rfl ?_
    exact z_iret C hQ 0 rfl ⟨F, by rw [e1]; exact (show mR D _ m A _ _ (qS st rch bx wt ins hld unt Y ap ab hr ln sa mv nw lf) from ⟨hM10, hE, hU, hy, hA⟩), fun _ => oRes e1⟩ (by decide) (by decide) dX3_move_26
  · skip
    have hq : qIs (qS st rch bx wt ins hld unt Y ap ab hr ln sa mv nw lf) (vN v1) = true := by simpa using c10
    obtain ⟨hbb, hbi⟩ := qIs_t (S := (qS st rch bx wt ins hld unt Y ap ab hr ln sa mv nw lf)) (by simpa using c10)
    have hbb : vN v1 < bx := hbb
    have hbi : ins (vN v1) = true := hbi
    have hv11 := vN_of (v := v1) hbb (by omega)
    have e12 : (.int v1 : Value) = .int (nI (vN v1)) := (congrArg Value.int hv11)
    refine z_lv (lv' := [(0, .ref m), (1, .int (nI (vN v1))), (2, .int v2)]) (by rw [e12]) ?_
    obtain ⟨p0, hb0⟩ := hg.2.1 _ hbb hbi
    have hb : vN v1 ∈ Y (yPl Y (vN v1)) := by rw [yPl_eq hg.1 hst hb0]; exact hb0
    have hpst := hg.1.lt hb
    have hq0 : ¬ qIs (qS st rch bx wt ins hld unt Y ap ab hr ln sa mv nw lf) (vN v1) = false := by rw [hq]; decide
    refine z_aload_n C 0 rfl dX3_move_13 rfl ?_
    refine z_iload_n C 2 rfl dX3_move_14 rfl ?_
    refine z_callV C k_M hM3.1 (As := [.int v2]) (mX3_isStack (show mR D _ m A _ _ (qS st rch bx wt ins hld unt Y ap ab hr ln sa mv nw lf) from ⟨hM3, hE, hU, hy, hA⟩) hI) (lw_V q1466 q1468 qs32 q65 q1469) rfl hd_X3_isStack rfl (Nat.le_of_ble_eq_true rfl) (by decide) (by decide) (by decide) (by decide) rfl dX3_move_15 (fun _ _ h => h.elim) (fun r13 V14 hP15 => ?_)
    rw [hP15.1, hP15.2]
    refine z_st (st' := [.int (zb (decide (vN v2 < st)))]) rfl ?_
    refine z_if_neB C 27 dX3_move_18 (by decide) (fun c18 => ?_) (fun c18 => ?_)
    · skip
      have hs : vN v2 < st := by have := c18; simpa using this
      have hv16 := vN_of (v := v2) hs (by omega)
      have e17 : (.int v2 : Value) = .int (nI (vN v2)) := (congrArg Value.int hv16)
      refine z_lv (lv' := [(0, .ref m), (1, .int (nI (vN v1))), (2, .int (nI (vN v2)))]) (by rw [e17]) ?_
      have hqs : ¬¬(qIs (qS st rch bx wt ins hld unt Y ap ab hr ln sa mv nw lf) (vN v1) = true ∧ vN v2 < qst (qS st rch bx wt ins hld unt Y ap ab hr ln sa mv nw lf)) := not_not_intro ⟨hq, hs⟩
      refine z_aload_n C 0 rfl dX3_move_27 rfl ?_
      refine z_iconst C (v := (nI 0)) dX3_move_28 rfl ?_
      refine z_iload_n C 1 rfl dX3_move_29 rfl ?_
      refine z_iload_n C 2 rfl dX3_move_30 rfl ?_
      refine z_callV C k_M hM3.1 (As := [.int (nI 0), .int (nI (vN v1)), .int (nI (vN v2))]) (mX3_canMove hM3 hst hbx hy (by omega) hg.1 hb hE hrc hwt (s := vN v2) (by omega) (by omega) hmm) (lw_V q1574 q1576 qs44 q65 q1577) rfl hd_X3_canMove rfl (Nat.le_of_ble_eq_true rfl) (by decide) (by decide) (by decide) (by decide) rfl dX3_move_31 (fun _ _ h => h.elim) (fun r18 V19 hP20 => ?_)
      rw [hP20.1, hP20.2]
      refine z_st (st' := [.int (zb (yCan rch wt (pin' hld) Y (yPl Y (vN v1)) (vN v1) (vN v2)))]) rfl ?_
      refine z_if_neB C 43 dX3_move_34 (by decide) (fun c34 => ?_) (fun c34 => ?_)
      · skip
        have hcn : yCan rch wt (pin' hld) Y (yPl Y (vN v1)) (vN v1) (vN v2) = true := by simpa using c34
        obtain ⟨c1, c2, c3, c4⟩ := yCan_spec hcn
        have hrs := hrc _ hs
        have e1 : oMove (qS st rch bx wt ins hld unt Y ap ab hr ln sa mv nw lf) (vN v1) (vN v2) = (0, mv + nI 1, (qS st rch bx wt ins hld unt (yMv Y (yPl Y (vN v1)) (vN v2) (vN v1)) ap ab hr ln sa (mv + nI 1) nw lf)) := (if_neg hqs).trans (if_neg (fun h => by rw [show yCan (qrch (qS st rch bx wt ins hld unt Y ap ab hr ln sa mv nw lf)) (qwt (qS st rch bx wt ins hld unt Y ap ab hr ln sa mv nw lf)) (pin' (qhld (qS st rch bx wt ins hld unt Y ap ab hr ln sa mv nw lf))) (qY (qS st rch bx wt ins hld unt Y ap ab hr ln sa mv nw lf)) (yPl (qY (qS st rch bx wt ins hld unt Y ap ab hr ln sa mv nw lf)) (vN v1)) (vN v1) (vN v2) = true from hcn] at h; exact absurd h (by decide)))
        refine z_aload_n C 0 rfl dX3_move_43 rfl ?_
        refine z_iconst C (v := (nI 0)) dX3_move_44 rfl ?_
        refine z_iload_n C 1 rfl dX3_move_45 rfl ?_
        refine z_iload_n C 2 rfl dX3_move_46 rfl ?_
        refine z_callV C k_M hM3.1 (As := [.int (nI 0), .int (nI (vN v1)), .int (nI (vN v2))]) (mX3_moves hM3 hst hbx hy (by omega) hg.1 hb (s := vN v2) (by omega) c3 (by omega) c1) (lw_V q1578 q1580 qs45 q65 q1581) rfl hd_X3_moves rfl (Nat.le_of_ble_eq_true rfl) (by decide) (by decide) (by decide) (by decide) rfl dX3_move_47 (fun _ _ h => h.elim) (fun r21 V22 hP23 => ?_)
        obtain ⟨F24, hM25, hr26⟩ := hP23
        refine z_st (st' := []) rfl ?_
        refine z_aload_n C 0 rfl dX3_move_50 rfl ?_
        refine z_dup C dX3_move_51 rfl ?_
        refine z_get C k_M hM25.1 12 (by decide) rfl q1399 dX3_move_52 ?_
        refine z_iconst C (v := (nI 1)) dX3_move_55 rfl ?_
        refine z_iadd C dX3_move_56 ?_
        refine z_put C k_M hM25.1 12 (by decide) [.int (nI 0), .int (nI nw), .int (nI st), .ref (A 0), .int (nI bx), .ref (A 1), .ref (A 2), .ref (A 3), .ref (A 4), .ref (A 5), .ref (A 6), .ref (A 7), .int (mv + (nI 1)), .int (nI ap), .ref (A 8), .ref (A 9), .ref (A 10), .ref (A 11), .long lf] rfl (Nat.le_of_ble_eq_true rfl) rfl rfl rfl q1399 dX3_move_57 (z_nV (fun V27 hV28 => ?_))
        have hM29 := MX.ob (cd2 := (nI 0)) (nw2 := nw) (st2 := st) (bx2 := bx) (mv2 := (mv + (nI 1))) (ap2 := ap) (lf2 := lf) hM25 hV28
        refine z_aload_n C 0 rfl dX3_move_60 rfl ?_
        refine z_get C k_M hM29.1 12 (by decide) rfl q1399 dX3_move_61 ?_
        exact z_iret C hQ (mv + (nI 1)) rfl ⟨_, by rw [e1]; exact ⟨hM29, hr26.2.e hE, fun b hb => by rw [hr26.2.1 4 (by decide) (by decide)]; exact hU b hb, hr26.1, mA_on hr26.2 hA⟩, fun _ => oRes e1⟩ (by decide) (by decide) dX3_move_64
      · skip
        have e1 : oMove (qS st rch bx wt ins hld unt Y ap ab hr ln sa mv nw lf) (vN v1) (vN v2) = (2, 0, (qS st rch bx wt ins hld unt Y ap ab hr ln sa mv nw lf)) := (if_neg hqs).trans (if_pos c34)
        refine z_aload_n C 0 rfl dX3_move_37 rfl ?_
        refine z_iconst C (v := (nI 2)) dX3_move_38 rfl ?_
        refine z_callV C k_M hM3.1 (As := [.int (nI 2)]) (mX3_fails hM3 hst hbx) (lw_V q1458 q1460 qs31 q65 q1461) rfl hd_X3_fails rfl (Nat.le_of_ble_eq_true rfl) (by decide) (by decide) (by decide) (by decide) rfl dX3_move_39 (fun _ _ h => h.elim) (fun r30 V31 hP32 => ?_)
        obtain ⟨hM33, rfl⟩ := hP32
        refine z_st (st' := [.int 0]) rfl ?_
        exact z_iret C hQ 0 rfl ⟨F, by rw [e1]; exact (show mR D _ m A _ _ (qS st rch bx wt ins hld unt Y ap ab hr ln sa mv nw lf) from ⟨hM33, hE, hU, hy, hA⟩), fun _ => oRes e1⟩ (by decide) (by decide) dX3_move_42
    · skip
      have e1 : oMove (qS st rch bx wt ins hld unt Y ap ab hr ln sa mv nw lf) (vN v1) (vN v2) = (1, 0, (qS st rch bx wt ins hld unt Y ap ab hr ln sa mv nw lf)) := if_pos (fun h => by have h2 := c18; have h3 : vN v2 < st := h.2; simp at h2; omega)
      refine z_aload_n C 0 rfl dX3_move_21 rfl ?_
      refine z_iconst C (v := (nI 1)) dX3_move_22 rfl ?_
      refine z_callV C k_M hM3.1 (As := [.int (nI 1)]) (mX3_fails hM3 hst hbx) (lw_V q1458 q1460 qs31 q65 q1461) rfl hd_X3_fails rfl (Nat.le_of_ble_eq_true rfl) (by decide) (by decide) (by decide) (by decide) rfl dX3_move_23 (fun _ _ h => h.elim) (fun r34 V35 hP36 => ?_)
      obtain ⟨hM37, rfl⟩ := hP36
      refine z_st (st' := [.int 0]) rfl ?_
      exact z_iret C hQ 0 rfl ⟨F, by rw [e1]; exact (show mR D _ m A _ _ (qS st rch bx wt ins hld unt Y ap ab hr ln sa mv nw lf) from ⟨hM37, hE, hU, hy, hA⟩), fun _ => oRes e1⟩ (by decide) (by decide) dX3_move_26
