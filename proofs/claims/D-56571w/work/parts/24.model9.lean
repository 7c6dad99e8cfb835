/-! MODEL: planned .. dig -/
set_option maxRecDepth 100000
theorem plan_len {st t p : Nat} {Y : YD} {L : YD → Nat → Bool} {ms : List Nat} (h : yOK st Y) (hst : st ≤ 4) (hb : t ∈ Y p) (hS : sPlan L t Y (some ms)) : ms.length ≤ 4 := by
  obtain ⟨h1, h2, h3⟩ := yAb_at h hst hb
  have h4 := h.1 p
  have h5 : ms.length ≤ yAb Y t + 1 := hS.1
  omega
theorem plan_80 {st bx t i q : Nat} {rch wt : Nat → Nat} {ins pin : Nat → Bool} {Y : YD} {ms : List Nat} (hbx : bx ≤ 20) (hrc : ∀ s, s < st → rch s ≤ 4) (hg : yGood st bx ins Y) (hS : sPlan (yLeg st rch wt ins pin t) t Y (some ms)) (hq : ms[i]? = some q) : q < 80 := by
  obtain ⟨Z, h1, h2⟩ := hS.2.1.2.1
  obtain ⟨W, j1, j2, j3⟩ := yRun_take h1 hq
  have := yLeg_lt (yGood_run hrc _ hg j1) q j2
  omega
theorem oPlanLen_st (S : QS) (b : Nat) : (oPlanLen S b).2.2 = S := by
  unfold oPlanLen
  by_cases e : qIs S b = false
  · rw [if_pos e]
  · rw [if_neg e]; cases qPlan S b <;> rfl
theorem qMake_Y {S : QS} {t : Nat} {ms : List Nat} {Z : YD} (h : yRun (qL S t) (qY S) ms = some Z) : qY (qMake S t ms) = Z := by
  show (yRun (qL S t) (qY S) ms).getD (qY S) = Z
  rw [h]; rfl
theorem qOut_Y {M : QS} {b : Nat} {Z : YD} (h : qY M = Z) : qY (qOut M b) = va_up Z (yPl Z b) (Z (yPl Z b)).dropLast := by subst h; rfl
theorem qServe_none {S : QS} {a : Nat} (h : qhld S (qab S a) = nI 45 → qPlan S (qab S a) = none) : qServe S a = (false, sSa S a (nI 109)) := by
  unfold qServe
  by_cases e : qhld S (qab S a) = nI 45
  · rw [if_pos e, h e]
  · rw [if_neg e]
theorem qServe_some {S : QS} {a : Nat} {ms : List Nat} (h0 : qhld S (qab S a) = nI 45) (h : qPlan S (qab S a) = some ms) : qServe S a = (true, qOut (qMake (sSa S a (nI 100)) (qab S a) ms) (qab S a)) := by
  unfold qServe
  rw [if_pos h0, h]
theorem mE_out {F F2 : Nat → Nat → Int32} {st bx b : Nat} {rch wt : Nat → Nat} {ins : Nat → Bool} {hld : Nat → Int32} (h : mE F st bx rch wt ins hld) (h0 : F2 0 = F 0) (h1 : F2 1 = F 1) (h2 : F2 2 = va_up (F 2) b (nI 0)) (h3 : F2 3 = F 3) : mE F2 st bx rch wt (va_up ins b false) hld := by
  refine ⟨by rw [h0]; exact h.1, by rw [h1]; exact h.2.1, fun c hc => ?_, by rw [h3]; exact h.2.2.2⟩
  rw [h2]
  by_cases e : c = b
  · subst e; rw [zvs, zvs]; rfl
  · rw [zvn e, zvn e]; exact h.2.2.1 c hc
theorem mY_down0 {F : Nat → Nat → Int32} {p n : Nat} {Y : YD} (hl : ∀ s, (Y s).length ≤ 4) (hp : p < 4) (hn : (Y p).length = n + 1) (h : mY F 0 Y) : mY (va_up F 5 (va_up (F 5) p (nI n))) 0 (va_up Y p (Y p).dropLast) := by
  have h9 := mY.down (y := 0) hl hp hn h
  rw [show 4 * 0 + p = p by omega] at h9
  exact h9
noncomputable def qLanes : Nat → Nat → QS → Nat × QS
  | 0, n, S => (n, S)
  | l + 1, n, S => qLane (qLanes l n S).1 (qLanes l n S).2 l
theorem qHour_lanes (n : Nat) (S : QS) : qHour n S = qLanes 3 n (qTick S) := rfl
theorem mR_tick {D : ZD} {V V2 : ZV} {m : Nat} {A : Nat → Nat} {F : Nat → Nat → Int32} {cd : Int32} {S : QS} {f : Nat → Int32} (h : mR D V m A F cd S) (hM : MX D V2 m A (va_up F 3 f) cd (qnw S + 1) (qst S) (qbx S) (qmv S) (qap S) (qlf S)) (hf : ∀ b, b < qbx S → f b = qhld (qTick S) b) : mR D V2 m A (va_up F 3 f) cd (qTick S) :=
  ⟨hM, ⟨h.2.1.1, h.2.1.2.1, h.2.1.2.2.1, hf⟩, h.2.2.1, h.2.2.2.1.cong rfl rfl, h.2.2.2.2⟩
theorem mE_off {F F2 : Nat → Nat → Int32} {st bx : Nat} {rch wt : Nat → Nat} {ins : Nat → Bool} {hld : Nat → Int32} (h : mE F st bx rch wt ins hld) (h0 : F2 0 = F 0) (h1 : F2 1 = F 1) (h2 : F2 2 = F 2) (h3 : F2 3 = F 3) : mE F2 st bx rch wt ins hld :=
  ⟨by rw [h0]; exact h.1, by rw [h1]; exact h.2.1, by rw [h2]; exact h.2.2.1, by rw [h3]; exact h.2.2.2⟩

set_option maxHeartbeats 4000000 in
set_option maxRecDepth 100000 in
theorem mX3_planned {l : Launch} {D : ZD} {V : ZV} {kk m : Nat} {A : Nat → Nat} {F : Nat → Nat → Int32} {cd : Int32} {st : Nat} {rch : Nat → Nat} {bx : Nat} {wt : Nat → Nat} {ins : Nat → Bool} {hld : Nat → Int32} {unt : Nat → Nat} {Y : YD} {ap : Nat} {ab hr ln : Nat → Nat} {sa : Nat → Int32} {mv : Int32} {nw : Nat} {lf : Int64} (hR : mR D V m A F cd (qS st rch bx wt ins hld unt Y ap ab hr ln sa mv nw lf)) (hI : qI kk (qS st rch bx wt ins hld unt Y ap ab hr ln sa mv nw lf)) {v1 : Int32} : ZM l D yX3_planned (ws_ yX3_planned cX3_planned 3 (some .int)) 7 0 0 eI V [.ref m, .int v1] (fun r V' => ∃ F2, mR D V' m A F2 (nI (oPlanLen (qS st rch bx wt ins hld unt Y ap ab hr ln sa mv nw lf) (vN v1)).1) (qS st rch bx wt ins hld unt Y ap ab hr ln sa mv nw lf) ∧ r = (oPlanLen (qS st rch bx wt ins hld unt Y ap ab hr ln sa mv nw lf) (vN v1)).2.1 ∧ (qIs (qS st rch bx wt ins hld unt Y ap ab hr ln sa mv nw lf) (vN v1) = true → ∀ ms, qPlan (qS st rch bx wt ins hld unt Y ap ab hr ln sa mv nw lf) (vN v1) = some ms → ∀ i q, ms[i]? = some q → F2 7 i = nI q)) zno_x := by
  refine z_enter (by decide +kernel) [(0, .ref m), (1, .int v1)] rfl (Nat.le_of_ble_eq_true rfl) (zcat_cons rfl (zcat_cons rfl zcat_nil)) (fun Γ C hQ => ?_)
  have hM : MX D V m A F cd nw st bx mv ap lf := hR.1
  have hE : mE F st bx rch wt ins hld := hR.2.1
  have hU : ∀ b, b < 20 → F 4 b = nI (unt b) := hR.2.2.1
  have hy : mY F 0 Y := hR.2.2.2.1
  have hA : ∀ a, a < ap → F 8 a = nI (ab a) ∧ F 9 a = nI (hr a) ∧ F 10 a = nI (ln a) ∧ F 11 a = sa a := hR.2.2.2.2
  have hst : st ≤ 4 := hI.1.1
  have hbx : bx ≤ 20 := hI.1.2.1
  have hrc : ∀ s, s < st → rch s ≤ 4 := fun s hs => (hI.1.2.2.1 s hs).2
  have hwt : ∀ b, b < bx → wt b < 1000 := fun b hb => by have h9 : wt b ≤ 30 := (hI.1.2.2.2 b hb).2; omega
  have hg : yGood st bx ins Y := hI.2.1.1
  have hht : ∀ s, s < st → (Y s).length ≤ rch s := hI.2.1.2.1
  have hu1 : ∀ b, unt b ≤ 1000 := hI.2.2.1.2.1
  have hhl : ∀ b, b < bx → hld b = nI 45 ∨ hld b = nI 112 ∨ hld b = nI 108 := hI.2.2.1.2.2
  have hap : ap ≤ 30 := hI.2.2.2.1.1
  have haa : ∀ a, a < ap → ab a < bx ∧ hr a ≤ 999 ∧ ln a < 3 ∧ (sa a = nI 98 ∨ sa a = nI 99 ∨ sa a = nI 103 ∨ sa a = nI 100 ∨ sa a = nI 109) := hI.2.2.2.1.2.1
  have hnw : nw ≤ 999 := hI.2.2.2.2
  have hY4 : ∀ s, (Y s).length ≤ 4 := hg.1.1
  have hmm : ∀ s, ∀ c ∈ Y s, c < bx := fun s c hc => (hg.2.2 s c hc).1
  refine z_aload_n C 0 rfl dX3_planned_0 rfl ?_
  refine z_aload_n C 0 rfl dX3_planned_1 rfl ?_
  refine z_iload_n C 1 rfl dX3_planned_2 rfl ?_
  refine z_callV C k_M hM.1 (As := [.int v1]) (mX3_isBox (show mR D _ m A _ _ (qS st rch bx wt ins hld unt Y ap ab hr ln sa mv nw lf) from ⟨hM, hE, hU, hy, hA⟩) hI) (lw_V q1494 q1496 qs37 q65 q1497) rfl hd_X3_isBox rfl (Nat.le_of_ble_eq_true rfl) (by decide) (by decide) (by decide) (by decide) rfl dX3_planned_3 (fun _ _ h => h.elim) (fun r1 V2 hP3 => ?_)
  rw [hP3.1, hP3.2]
  refine z_st (st' := [.int (zb (qIs (qS st rch bx wt ins hld unt Y ap ab hr ln sa mv nw lf) (vN v1))), .ref m]) rfl ?_
  refine z_if_eqB C 13 dX3_planned_6 (by decide) (fun c6 => ?_) (fun c6 => ?_)
  · skip
    have hq : qIs (qS st rch bx wt ins hld unt Y ap ab hr ln sa mv nw lf) (vN v1) = false := by simpa using c6
    have e1 : oPlanLen (qS st rch bx wt ins hld unt Y ap ab hr ln sa mv nw lf) (vN v1) = (1, 0, (qS st rch bx wt ins hld unt Y ap ab hr ln sa mv nw lf)) := if_pos hq
    refine z_iconst C (v := (nI 1)) dX3_planned_13 rfl ?_
    refine z_put C k_M hM.1 0 (by decide) [.int (nI 1), .int (nI nw), .int (nI st), .ref (A 0), .int (nI bx), .ref (A 1), .ref (A 2), .ref (A 3), .ref (A 4), .ref (A 5), .ref (A 6), .ref (A 7), .int mv, .int (nI ap), .ref (A 8), .ref (A 9), .ref (A 10), .ref (A 11), .long lf] rfl (Nat.le_of_ble_eq_true rfl) rfl rfl rfl q1387 dX3_planned_14 (z_nV (fun V4 hV5 => ?_))
    have hM6 := MX.ob (cd2 := (nI 1)) (nw2 := nw) (st2 := st) (bx2 := bx) (mv2 := mv) (ap2 := ap) (lf2 := lf) hM hV5
    refine z_aload_n C 0 rfl dX3_planned_17 rfl ?_
    refine z_get C k_M hM6.1 0 (by decide) rfl q1387 dX3_planned_18 ?_
    refine z_if_leN C 28 (by omega) dX3_planned_21 (by decide) (fun c21 => ?_) (fun c21 => ?_)
    · skip
      exfalso; omega
    · skip
      refine z_iconst C (v := (nI 0)) dX3_planned_24 rfl ?_
      refine z_goto C 33 dX3_planned_25 (by decide) ?_
      refine z_istore_n C [(2, .int (nI 0)), (0, .ref m), (1, .int v1)] dX3_planned_33 rfl (by decide) rfl ?_
      refine z_iload_n C 0 rfl dX3_planned_34 rfl ?_
      refine z_iconst C (v := (-1)) dX3_planned_35 rfl ?_
      refine z_icmp_ne C 44 dX3_planned_36 (by decide) (fun c36 => ?_) (fun c36 => ?_)
      · skip
        refine z_aload_n C 1 rfl dX3_planned_44 rfl ?_
        refine z_get C k_M hM6.1 0 (by decide) rfl q1387 dX3_planned_45 ?_
        refine z_if_leN C 55 (by omega) dX3_planned_48 (by decide) (fun c48 => ?_) (fun c48 => ?_)
        · skip
          exfalso; omega
        · skip
          refine z_iconst C (v := (nI 0)) dX3_planned_51 rfl ?_
          refine z_goto C 56 dX3_planned_52 (by decide) ?_
          exact z_iret C hQ (nI 0) rfl ⟨F, by rw [e1]; exact (show mR D _ m A _ _ (qS st rch bx wt ins hld unt Y ap ab hr ln sa mv nw lf) from ⟨hM6, hE, hU, hy, hA⟩), oRes e1, fun h => by rw [hq] at h; cases h⟩ (by decide) (by decide) dX3_planned_56
      · skip
        exfalso; exact absurd c36 (nI_nem1 (by decide))
  · skip
    have hq : qIs (qS st rch bx wt ins hld unt Y ap ab hr ln sa mv nw lf) (vN v1) = true := by simpa using c6
    obtain ⟨hbb, hbi⟩ := qIs_t (S := (qS st rch bx wt ins hld unt Y ap ab hr ln sa mv nw lf)) (by simpa using c6)
    have hbb : vN v1 < bx := hbb
    have hbi : ins (vN v1) = true := hbi
    have hv7 := vN_of (v := v1) hbb (by omega)
    have e8 : (.int v1 : Value) = .int (nI (vN v1)) := (congrArg Value.int hv7)
    refine z_lv (lv' := [(0, .ref m), (1, .int (nI (vN v1)))]) (by rw [e8]) ?_
    obtain ⟨p0, hb0⟩ := hg.2.1 _ hbb hbi
    have hb : vN v1 ∈ Y (yPl Y (vN v1)) := by rw [yPl_eq hg.1 hst hb0]; exact hb0
    have hpst := hg.1.lt hb
    have hq0 : ¬ qIs (qS st rch bx wt ins hld unt Y ap ab hr ln sa mv nw lf) (vN v1) = false := by rw [hq]; decide
    refine z_iconst C (v := (nI 0)) dX3_planned_9 rfl ?_
    refine z_goto C 14 dX3_planned_10 (by decide) ?_
    refine z_put C k_M hM.1 0 (by decide) [.int (nI 0), .int (nI nw), .int (nI st), .ref (A 0), .int (nI bx), .ref (A 1), .ref (A 2), .ref (A 3), .ref (A 4), .ref (A 5), .ref (A 6), .ref (A 7), .int mv, .int (nI ap), .ref (A 8), .ref (A 9), .ref (A 10), .ref (A 11), .long lf] rfl (Nat.le_of_ble_eq_true rfl) rfl rfl rfl q1387 dX3_planned_14 (z_nV (fun V9 hV10 => ?_))
    have hM11 := MX.ob (cd2 := (nI 0)) (nw2 := nw) (st2 := st) (bx2 := bx) (mv2 := mv) (ap2 := ap) (lf2 := lf) hM hV10
    refine z_aload_n C 0 rfl dX3_planned_17 rfl ?_
    refine z_get C k_M hM11.1 0 (by decide) rfl q1387 dX3_planned_18 ?_
    refine z_if_leN C 28 (by omega) dX3_planned_21 (by decide) (fun c21 => ?_) (fun c21 => ?_)
    · skip
      refine z_aload_n C 0 rfl dX3_planned_28 rfl ?_
      refine z_iload_n C 1 rfl dX3_planned_29 rfl ?_
      refine z_callV C k_M hM11.1 (As := [.int (nI (vN v1))]) (mX3_plans hM11 hst hbx hy hE hrc hwt hg (t := vN v1) hbb hbi) (lw_V q1590 q1592 qs47 q65 q1593) rfl hd_X3_plans rfl (Nat.le_of_ble_eq_true rfl) (by decide) (by decide) (by decide) (by decide) rfl dX3_planned_30 (fun _ _ h => h.elim) (fun r12 V13 hP14 => ?_)
      obtain ⟨F2, hM2, hO2, hY2, o, hS, hres, hpl⟩ := hP14
      have hpq : qPlan (qS st rch bx wt ins hld unt Y ap ab hr ln sa mv nw lf) (vN v1) = o := qPlan_eq hS
      subst hres
      refine z_st (st' := [.int (sLen o)]) rfl ?_
      have hE2 := hO2.e hE
      have hU2 : ∀ b, b < 20 → F2 4 b = nI (unt b) := fun b hb => by rw [hO2 4 (by decide) (by decide) (by decide)]; exact hU b hb
      have hA2 := mA_off hO2 hA
      rcases o with _ | ms
      · skip
        have e15 : (.int (sLen none) : Value) = .int (-1) := rfl
        refine z_st (st' := [.int (-1)]) (by rw [e15]) ?_
        have e1 : oPlanLen (qS st rch bx wt ins hld unt Y ap ab hr ln sa mv nw lf) (vN v1) = (2, 0, (qS st rch bx wt ins hld unt Y ap ab hr ln sa mv nw lf)) := (if_neg hq0).trans (by rw [hpq])
        refine z_istore_n C [(2, .int (-1)), (0, .ref m), (1, .int (nI (vN v1)))] dX3_planned_33 rfl (by decide) rfl ?_
        refine z_iload_n C 0 rfl dX3_planned_34 rfl ?_
        refine z_iconst C (v := (-1)) dX3_planned_35 rfl ?_
        refine z_icmp_ne C 44 dX3_planned_36 (by decide) (fun c36 => ?_) (fun c36 => ?_)
        · skip
          exfalso; exact absurd rfl c36
        · skip
          refine z_aload_n C 1 rfl dX3_planned_39 rfl ?_
          refine z_iconst C (v := (nI 2)) dX3_planned_40 rfl ?_
          refine z_put C k_M hM2.1 0 (by decide) [.int (nI 2), .int (nI nw), .int (nI st), .ref (A 0), .int (nI bx), .ref (A 1), .ref (A 2), .ref (A 3), .ref (A 4), .ref (A 5), .ref (A 6), .ref (A 7), .int mv, .int (nI ap), .ref (A 8), .ref (A 9), .ref (A 10), .ref (A 11), .long lf] rfl (Nat.le_of_ble_eq_true rfl) rfl rfl rfl q1387 dX3_planned_41 (z_nV (fun V16 hV17 => ?_))
          have hM18 := MX.ob (cd2 := (nI 2)) (nw2 := nw) (st2 := st) (bx2 := bx) (mv2 := mv) (ap2 := ap) (lf2 := lf) hM2 hV17
          refine z_aload_n C 1 rfl dX3_planned_44 rfl ?_
          refine z_get C k_M hM18.1 0 (by decide) rfl q1387 dX3_planned_45 ?_
          refine z_if_leN C 55 (by omega) dX3_planned_48 (by decide) (fun c48 => ?_) (fun c48 => ?_)
          · skip
            exfalso; omega
          · skip
            refine z_iconst C (v := (nI 0)) dX3_planned_51 rfl ?_
            refine z_goto C 56 dX3_planned_52 (by decide) ?_
            exact z_iret C hQ (nI 0) rfl ⟨F2, by rw [e1]; exact (show mR D _ m A _ _ (qS st rch bx wt ins hld unt Y ap ab hr ln sa mv nw lf) from ⟨hM18, hE2, hU2, hY2, hA2⟩), oRes e1, fun _ ms e => by rw [hpq] at e; cases e⟩ (by decide) (by decide) dX3_planned_56
      · skip
        have e19 : (.int (sLen (some ms)) : Value) = .int (nI ms.length) := rfl
        refine z_st (st' := [.int (nI ms.length)]) (by rw [e19]) ?_
        have hml := plan_len hg.1 hst hb hS
        have e1 : oPlanLen (qS st rch bx wt ins hld unt Y ap ab hr ln sa mv nw lf) (vN v1) = (0, nI ms.length, (qS st rch bx wt ins hld unt Y ap ab hr ln sa mv nw lf)) := (if_neg hq0).trans (by rw [hpq])
        refine z_istore_n C [(2, .int (nI ms.length)), (0, .ref m), (1, .int (nI (vN v1)))] dX3_planned_33 rfl (by decide) rfl ?_
        refine z_iload_n C 0 rfl dX3_planned_34 rfl ?_
        refine z_iconst C (v := (-1)) dX3_planned_35 rfl ?_
        refine z_icmp_ne C 44 dX3_planned_36 (by decide) (fun c36 => ?_) (fun c36 => ?_)
        · skip
          refine z_aload_n C 1 rfl dX3_planned_44 rfl ?_
          refine z_get C k_M hM2.1 0 (by decide) rfl q1387 dX3_planned_45 ?_
          refine z_if_leN C 55 (by omega) dX3_planned_48 (by decide) (fun c48 => ?_) (fun c48 => ?_)
          · skip
            refine z_iload_n C 0 rfl dX3_planned_55 rfl ?_
            exact z_iret C hQ (nI ms.length) rfl ⟨F2, by rw [e1]; exact (show mR D _ m A _ _ (qS st rch bx wt ins hld unt Y ap ab hr ln sa mv nw lf) from ⟨hM2, hE2, hU2, hY2, hA2⟩), oRes e1, fun _ ms2 e => by rw [hpq] at e; cases e; exact hpl ms rfl⟩ (by decide) (by decide) dX3_planned_56
          · skip
            exfalso; omega
        · skip
          exfalso; exact absurd c36 (nI_nem1 (by omega))
    · skip
      exfalso; omega
set_option maxHeartbeats 4000000 in
set_option maxRecDepth 100000 in
theorem mX3_planLength {l : Launch} {D : ZD} {V : ZV} {kk m : Nat} {A : Nat → Nat} {F : Nat → Nat → Int32} {cd : Int32} {st : Nat} {rch : Nat → Nat} {bx : Nat} {wt : Nat → Nat} {ins : Nat → Bool} {hld : Nat → Int32} {unt : Nat → Nat} {Y : YD} {ap : Nat} {ab hr ln : Nat → Nat} {sa : Nat → Int32} {mv : Int32} {nw : Nat} {lf : Int64} (hR : mR D V m A F cd (qS st rch bx wt ins hld unt Y ap ab hr ln sa mv nw lf)) (hI : qI kk (qS st rch bx wt ins hld unt Y ap ab hr ln sa mv nw lf)) {v1 : Int32} : ZM l D yX3_planLength (ws_ yX3_planLength cX3_planLength 2 (some .int)) 8 0 0 eI V [.ref m, .int v1] (fun r V' => ∃ F2, mR D V' m A F2 (nI (oPlanLen (qS st rch bx wt ins hld unt Y ap ab hr ln sa mv nw lf) (vN v1)).1) (oPlanLen (qS st rch bx wt ins hld unt Y ap ab hr ln sa mv nw lf) (vN v1)).2.2 ∧ ((oPlanLen (qS st rch bx wt ins hld unt Y ap ab hr ln sa mv nw lf) (vN v1)).1 = 0 → r = (oPlanLen (qS st rch bx wt ins hld unt Y ap ab hr ln sa mv nw lf) (vN v1)).2.1)) zno_x := by
  refine z_enter (by decide +kernel) [(0, .ref m), (1, .int v1)] rfl (Nat.le_of_ble_eq_true rfl) (zcat_cons rfl (zcat_cons rfl zcat_nil)) (fun Γ C hQ => ?_)
  have hM : MX D V m A F cd nw st bx mv ap lf := hR.1
  have hE : mE F st bx rch wt ins hld := hR.2.1
  have hU : ∀ b, b < 20 → F 4 b = nI (unt b) := hR.2.2.1
  have hy : mY F 0 Y := hR.2.2.2.1
  have hA : ∀ a, a < ap → F 8 a = nI (ab a) ∧ F 9 a = nI (hr a) ∧ F 10 a = nI (ln a) ∧ F 11 a = sa a := hR.2.2.2.2
  have hst : st ≤ 4 := hI.1.1
  have hbx : bx ≤ 20 := hI.1.2.1
  have hrc : ∀ s, s < st → rch s ≤ 4 := fun s hs => (hI.1.2.2.1 s hs).2
  have hwt : ∀ b, b < bx → wt b < 1000 := fun b hb => by have h9 : wt b ≤ 30 := (hI.1.2.2.2 b hb).2; omega
  have hg : yGood st bx ins Y := hI.2.1.1
  have hht : ∀ s, s < st → (Y s).length ≤ rch s := hI.2.1.2.1
  have hu1 : ∀ b, unt b ≤ 1000 := hI.2.2.1.2.1
  have hhl : ∀ b, b < bx → hld b = nI 45 ∨ hld b = nI 112 ∨ hld b = nI 108 := hI.2.2.1.2.2
  have hap : ap ≤ 30 := hI.2.2.2.1.1
  have haa : ∀ a, a < ap → ab a < bx ∧ hr a ≤ 999 ∧ ln a < 3 ∧ (sa a = nI 98 ∨ sa a = nI 99 ∨ sa a = nI 103 ∨ sa a = nI 100 ∨ sa a = nI 109) := hI.2.2.2.1.2.1
  have hnw : nw ≤ 999 := hI.2.2.2.2
  have hY4 : ∀ s, (Y s).length ≤ 4 := hg.1.1
  have hmm : ∀ s, ∀ c ∈ Y s, c < bx := fun s c hc => (hg.2.2 s c hc).1
  refine z_aload_n C 0 rfl dX3_planLength_0 rfl ?_
  refine z_iload_n C 1 rfl dX3_planLength_1 rfl ?_
  refine z_callV C k_M hM.1 (As := [.int v1]) (mX3_planned (show mR D _ m A _ _ (qS st rch bx wt ins hld unt Y ap ab hr ln sa mv nw lf) from ⟨hM, hE, hU, hy, hA⟩) hI) (lw_V q1586 q1588 qs46 q65 q1589) rfl hd_X3_planned rfl (Nat.le_of_ble_eq_true rfl) (by decide) (by decide) (by decide) (by decide) rfl dX3_planLength_2 (fun _ _ h => h.elim) (fun r1 V2 hP3 => ?_)
  obtain ⟨F2, hR2, hres, hpl⟩ := hP3
  refine z_st (st' := [.int r1]) rfl ?_
  exact z_iret C hQ r1 rfl ⟨F2, by rw [oPlanLen_st]; exact hR2, fun _ => hres⟩ (by decide) (by decide) dX3_planLength_5
set_option maxHeartbeats 4000000 in
set_option maxRecDepth 100000 in
theorem mX3_planByTrying {l : Launch} {D : ZD} {V : ZV} {kk m : Nat} {A : Nat → Nat} {F : Nat → Nat → Int32} {cd : Int32} {st : Nat} {rch : Nat → Nat} {bx : Nat} {wt : Nat → Nat} {ins : Nat → Bool} {hld : Nat → Int32} {unt : Nat → Nat} {Y : YD} {ap : Nat} {ab hr ln : Nat → Nat} {sa : Nat → Int32} {mv : Int32} {nw : Nat} {lf : Int64} (hR : mR D V m A F cd (qS st rch bx wt ins hld unt Y ap ab hr ln sa mv nw lf)) (hI : qI kk (qS st rch bx wt ins hld unt Y ap ab hr ln sa mv nw lf)) {v1 : Int32} : ZM l D yX3_planByTrying (ws_ yX3_planByTrying cX3_planByTrying 2 (some .int)) 8 0 0 eI V [.ref m, .int v1] (fun r V' => ∃ F2, mR D V' m A F2 (nI (oPlanLen (qS st rch bx wt ins hld unt Y ap ab hr ln sa mv nw lf) (vN v1)).1) (oPlanLen (qS st rch bx wt ins hld unt Y ap ab hr ln sa mv nw lf) (vN v1)).2.2 ∧ ((oPlanLen (qS st rch bx wt ins hld unt Y ap ab hr ln sa mv nw lf) (vN v1)).1 = 0 → r = (oPlanLen (qS st rch bx wt ins hld unt Y ap ab hr ln sa mv nw lf) (vN v1)).2.1)) zno_x := by
  refine z_enter (by decide +kernel) [(0, .ref m), (1, .int v1)] rfl (Nat.le_of_ble_eq_true rfl) (zcat_cons rfl (zcat_cons rfl zcat_nil)) (fun Γ C hQ => ?_)
  have hM : MX D V m A F cd nw st bx mv ap lf := hR.1
  have hE : mE F st bx rch wt ins hld := hR.2.1
  have hU : ∀ b, b < 20 → F 4 b = nI (unt b) := hR.2.2.1
  have hy : mY F 0 Y := hR.2.2.2.1
  have hA : ∀ a, a < ap → F 8 a = nI (ab a) ∧ F 9 a = nI (hr a) ∧ F 10 a = nI (ln a) ∧ F 11 a = sa a := hR.2.2.2.2
  have hst : st ≤ 4 := hI.1.1
  have hbx : bx ≤ 20 := hI.1.2.1
  have hrc : ∀ s, s < st → rch s ≤ 4 := fun s hs => (hI.1.2.2.1 s hs).2
  have hwt : ∀ b, b < bx → wt b < 1000 := fun b hb => by have h9 : wt b ≤ 30 := (hI.1.2.2.2 b hb).2; omega
  have hg : yGood st bx ins Y := hI.2.1.1
  have hht : ∀ s, s < st → (Y s).length ≤ rch s := hI.2.1.2.1
  have hu1 : ∀ b, unt b ≤ 1000 := hI.2.2.1.2.1
  have hhl : ∀ b, b < bx → hld b = nI 45 ∨ hld b = nI 112 ∨ hld b = nI 108 := hI.2.2.1.2.2
  have hap : ap ≤ 30 := hI.2.2.2.1.1
  have haa : ∀ a, a < ap → ab a < bx ∧ hr a ≤ 999 ∧ ln a < 3 ∧ (sa a = nI 98 ∨ sa a = nI 99 ∨ sa a = nI 103 ∨ sa a = nI 100 ∨ sa a = nI 109) := hI.2.2.2.1.2.1
  have hnw : nw ≤ 999 := hI.2.2.2.2
  have hY4 : ∀ s, (Y s).length ≤ 4 := hg.1.1
  have hmm : ∀ s, ∀ c ∈ Y s, c < bx := fun s c hc => (hg.2.2 s c hc).1
  refine z_aload_n C 0 rfl dX3_planByTrying_0 rfl ?_
  refine z_iload_n C 1 rfl dX3_planByTrying_1 rfl ?_
  refine z_callV C k_M hM.1 (As := [.int v1]) (mX3_planned (show mR D _ m A _ _ (qS st rch bx wt ins hld unt Y ap ab hr ln sa mv nw lf) from ⟨hM, hE, hU, hy, hA⟩) hI) (lw_V q1586 q1588 qs46 q65 q1589) rfl hd_X3_planned rfl (Nat.le_of_ble_eq_true rfl) (by decide) (by decide) (by decide) (by decide) rfl dX3_planByTrying_2 (fun _ _ h => h.elim) (fun r1 V2 hP3 => ?_)
  obtain ⟨F2, hR2, hres, hpl⟩ := hP3
  refine z_st (st' := [.int r1]) rfl ?_
  exact z_iret C hQ r1 rfl ⟨F2, by rw [oPlanLen_st]; exact hR2, fun _ => hres⟩ (by decide) (by decide) dX3_planByTrying_5
set_option maxHeartbeats 4000000 in
set_option maxRecDepth 100000 in
theorem mX3_plannedAt {l : Launch} {D : ZD} {V : ZV} {kk m : Nat} {A : Nat → Nat} {F : Nat → Nat → Int32} {cd : Int32} {st : Nat} {rch : Nat → Nat} {bx : Nat} {wt : Nat → Nat} {ins : Nat → Bool} {hld : Nat → Int32} {unt : Nat → Nat} {Y : YD} {ap : Nat} {ab hr ln : Nat → Nat} {sa : Nat → Int32} {mv : Int32} {nw : Nat} {lf : Int64} (hR : mR D V m A F cd (qS st rch bx wt ins hld unt Y ap ab hr ln sa mv nw lf)) (hI : qI kk (qS st rch bx wt ins hld unt Y ap ab hr ln sa mv nw lf)) {v1 v2 : Int32} : ZM l D yX3_plannedAt (ws_ yX3_plannedAt cX3_plannedAt 4 (some .int)) 8 0 0 eN V [.ref m, .int v1, .int v2] (fun r V' => ∃ F2 k, mR D V' m A F2 (nI k) (qS st rch bx wt ins hld unt Y ap ab hr ln sa mv nw lf) ∧ r < 80 ∧ ∀ f : Nat → Nat, ∃ x, oPlanAt (qS st rch bx wt ins hld unt Y ap ab hr ln sa mv nw lf) (vN v1) (vN v2) f = (k, x, (qS st rch bx wt ins hld unt Y ap ab hr ln sa mv nw lf)) ∧ (k = 0 → x = nI (f r))) zno_x := by
  refine z_enter (by decide +kernel) [(0, .ref m), (1, .int v1), (2, .int v2)] rfl (Nat.le_of_ble_eq_true rfl) (zcat_cons rfl (zcat_cons rfl (zcat_cons rfl zcat_nil))) (fun Γ C hQ => ?_)
  have hM : MX D V m A F cd nw st bx mv ap lf := hR.1
  have hE : mE F st bx rch wt ins hld := hR.2.1
  have hU : ∀ b, b < 20 → F 4 b = nI (unt b) := hR.2.2.1
  have hy : mY F 0 Y := hR.2.2.2.1
  have hA : ∀ a, a < ap → F 8 a = nI (ab a) ∧ F 9 a = nI (hr a) ∧ F 10 a = nI (ln a) ∧ F 11 a = sa a := hR.2.2.2.2
  have hst : st ≤ 4 := hI.1.1
  have hbx : bx ≤ 20 := hI.1.2.1
  have hrc : ∀ s, s < st → rch s ≤ 4 := fun s hs => (hI.1.2.2.1 s hs).2
  have hwt : ∀ b, b < bx → wt b < 1000 := fun b hb => by have h9 : wt b ≤ 30 := (hI.1.2.2.2 b hb).2; omega
  have hg : yGood st bx ins Y := hI.2.1.1
  have hht : ∀ s, s < st → (Y s).length ≤ rch s := hI.2.1.2.1
  have hu1 : ∀ b, unt b ≤ 1000 := hI.2.2.1.2.1
  have hhl : ∀ b, b < bx → hld b = nI 45 ∨ hld b = nI 112 ∨ hld b = nI 108 := hI.2.2.1.2.2
  have hap : ap ≤ 30 := hI.2.2.2.1.1
  have haa : ∀ a, a < ap → ab a < bx ∧ hr a ≤ 999 ∧ ln a < 3 ∧ (sa a = nI 98 ∨ sa a = nI 99 ∨ sa a = nI 103 ∨ sa a = nI 100 ∨ sa a = nI 109) := hI.2.2.2.1.2.1
  have hnw : nw ≤ 999 := hI.2.2.2.2
  have hY4 : ∀ s, (Y s).length ≤ 4 := hg.1.1
  have hmm : ∀ s, ∀ c ∈ Y s, c < bx := fun s c hc => (hg.2.2 s c hc).1
  refine z_aload_n C 0 rfl dX3_plannedAt_0 rfl ?_
  refine z_iload_n C 1 rfl dX3_plannedAt_1 rfl ?_
  refine z_callV C k_M hM.1 (As := [.int v1]) (mX3_planned (show mR D _ m A _ _ (qS st rch bx wt ins hld unt Y ap ab hr ln sa mv nw lf) from ⟨hM, hE, hU, hy, hA⟩) hI) (lw_V q1586 q1588 qs46 q65 q1589) rfl hd_X3_planned rfl (Nat.le_of_ble_eq_true rfl) (by decide) (by decide) (by decide) (by decide) rfl dX3_plannedAt_2 (fun _ _ h => h.elim) (fun r1 V2 hP3 => ?_)
  obtain ⟨F2, hR2, hres, hpl⟩ := hP3
  subst hres
  refine z_st (st' := [.int ((oPlanLen (qS st rch bx wt ins hld unt Y ap ab hr ln sa mv nw lf) (vN v1)).2.1)]) rfl ?_
  rcases hq : qIs (qS st rch bx wt ins hld unt Y ap ab hr ln sa mv nw lf) (vN v1) with _ | _
  · skip
    have e1 : (oPlanLen (qS st rch bx wt ins hld unt Y ap ab hr ln sa mv nw lf) (vN v1)) = (1, 0, (qS st rch bx wt ins hld unt Y ap ab hr ln sa mv nw lf)) := if_pos hq
    have e4 : (.int ((oPlanLen (qS st rch bx wt ins hld unt Y ap ab hr ln sa mv nw lf) (vN v1)).2.1) : Value) = .int (nI 0) := (congrArg (fun z : OR => Value.int z.2.1) e1)
    refine z_st (st' := [.int (nI 0)]) (by rw [e4]) ?_
    have hR3 : mR D V2 m A F2 (nI 1) (qS st rch bx wt ins hld unt Y ap ab hr ln sa mv nw lf) := by rw [e1] at hR2; exact hR2
    refine z_istore_n C [(3, .int (nI 0)), (0, .ref m), (1, .int v1), (2, .int v2)] dX3_plannedAt_5 rfl (by decide) rfl ?_
    refine z_aload_n C 1 rfl dX3_plannedAt_6 rfl ?_
    refine z_get C k_M hR3.1.1 0 (by decide) rfl q1387 dX3_plannedAt_7 ?_
    refine z_if_neN C 29 (by omega) dX3_plannedAt_10 (by decide) (fun c10 => ?_) (fun c10 => ?_)
    · skip
      refine z_aload_n C 1 rfl dX3_plannedAt_29 rfl ?_
      refine z_get C k_M hR3.1.1 0 (by decide) rfl q1387 dX3_plannedAt_30 ?_
      refine z_if_leN C 40 (by omega) dX3_plannedAt_33 (by decide) (fun c33 => ?_) (fun c33 => ?_)
      · skip
        exfalso; omega
      · skip
        refine z_iconst C (v := (nI 0)) dX3_plannedAt_36 rfl ?_
        refine z_goto C 46 dX3_plannedAt_37 (by decide) ?_
        exact z_iret C hQ 0 rfl ⟨F2, 1, hR3, by decide, fun f => ⟨_, if_pos hq, fun h => absurd h (by decide)⟩⟩ (by decide) (by decide) dX3_plannedAt_46
    · skip
      exfalso; omega
  · skip
    have hq0 : ¬ qIs (qS st rch bx wt ins hld unt Y ap ab hr ln sa mv nw lf) (vN v1) = false := by rw [hq]; decide
    have hSp := qPlan_ok (qS st rch bx wt ins hld unt Y ap ab hr ln sa mv nw lf) (vN v1)
    rcases hp : qPlan (qS st rch bx wt ins hld unt Y ap ab hr ln sa mv nw lf) (vN v1) with _ | ms
    · skip
      rw [hp] at hSp
      have e1 : (oPlanLen (qS st rch bx wt ins hld unt Y ap ab hr ln sa mv nw lf) (vN v1)) = (2, 0, (qS st rch bx wt ins hld unt Y ap ab hr ln sa mv nw lf)) := (if_neg hq0).trans (by rw [hp])
      have e5 : (.int ((oPlanLen (qS st rch bx wt ins hld unt Y ap ab hr ln sa mv nw lf) (vN v1)).2.1) : Value) = .int (nI 0) := (congrArg (fun z : OR => Value.int z.2.1) e1)
      refine z_st (st' := [.int (nI 0)]) (by rw [e5]) ?_
      have hR3 : mR D V2 m A F2 (nI 2) (qS st rch bx wt ins hld unt Y ap ab hr ln sa mv nw lf) := by rw [e1] at hR2; exact hR2
      refine z_istore_n C [(3, .int (nI 0)), (0, .ref m), (1, .int v1), (2, .int v2)] dX3_plannedAt_5 rfl (by decide) rfl ?_
      refine z_aload_n C 1 rfl dX3_plannedAt_6 rfl ?_
      refine z_get C k_M hR3.1.1 0 (by decide) rfl q1387 dX3_plannedAt_7 ?_
      refine z_if_neN C 29 (by omega) dX3_plannedAt_10 (by decide) (fun c10 => ?_) (fun c10 => ?_)
      · skip
        refine z_aload_n C 1 rfl dX3_plannedAt_29 rfl ?_
        refine z_get C k_M hR3.1.1 0 (by decide) rfl q1387 dX3_plannedAt_30 ?_
        refine z_if_leN C 40 (by omega) dX3_plannedAt_33 (by decide) (fun c33 => ?_) (fun c33 => ?_)
        · skip
          exfalso; omega
        · skip
          refine z_iconst C (v := (nI 0)) dX3_plannedAt_36 rfl ?_
          refine z_goto C 46 dX3_plannedAt_37 (by decide) ?_
          exact z_iret C hQ 0 rfl ⟨F2, 2, hR3, by decide, fun f => ⟨0, (if_neg hq0).trans (by rw [hp]), fun h => absurd h (by decide)⟩⟩ (by decide) (by decide) dX3_plannedAt_46
      · skip
        exfalso; omega
    · skip
      rw [hp] at hSp
      have e1 : (oPlanLen (qS st rch bx wt ins hld unt Y ap ab hr ln sa mv nw lf) (vN v1)) = (0, nI ms.length, (qS st rch bx wt ins hld unt Y ap ab hr ln sa mv nw lf)) := (if_neg hq0).trans (by rw [hp])
      have hpl := hpl hq ms hp
      obtain ⟨hbb0, hbi0⟩ := qIs_t hq
      have hbb : vN v1 < bx := hbb0
      have hbi : ins (vN v1) = true := hbi0
      obtain ⟨p0, hb0⟩ := hg.2.1 _ hbb hbi
      have hml := plan_len hg.1 hst hb0 hSp
      have e6 : (.int ((oPlanLen (qS st rch bx wt ins hld unt Y ap ab hr ln sa mv nw lf) (vN v1)).2.1) : Value) = .int (nI ms.length) := (congrArg (fun z : OR => Value.int z.2.1) e1)
      refine z_st (st' := [.int (nI ms.length)]) (by rw [e6]) ?_
      have hR3 : mR D V2 m A F2 (nI 0) (qS st rch bx wt ins hld unt Y ap ab hr ln sa mv nw lf) := by rw [e1] at hR2; exact hR2
      refine z_istore_n C [(3, .int (nI ms.length)), (0, .ref m), (1, .int v1), (2, .int v2)] dX3_plannedAt_5 rfl (by decide) rfl ?_
      refine z_aload_n C 1 rfl dX3_plannedAt_6 rfl ?_
      refine z_get C k_M hR3.1.1 0 (by decide) rfl q1387 dX3_plannedAt_7 ?_
      refine z_if_neN C 29 (by omega) dX3_plannedAt_10 (by decide) (fun c10 => ?_) (fun c10 => ?_)
      · skip
        exfalso; omega
      · skip
        refine z_iload_n C 3 rfl dX3_plannedAt_13 rfl ?_
        refine z_iconst C (v := (nI 0)) dX3_plannedAt_14 rfl ?_
        refine z_iload_n C 0 rfl dX3_plannedAt_15 rfl ?_
        refine z_iconst C (v := (nI 1)) dX3_plannedAt_16 rfl ?_
        refine z_isub C dX3_plannedAt_17 ?_
        refine z_callS C (As := [.int v2, .int (nI 0), .int ((nI ms.length) - (nI 1))]) (mX3_in) (lw_S q1455 q1456 q65 q1457) hd_X3_in rfl (Nat.le_of_ble_eq_true rfl) (by decide) (by decide) (by decide) (by decide) rfl dX3_plannedAt_18 (fun _ _ h => h.elim) (fun r7 V8 hP9 => ?_)
        have hq10 : r7 = decide (0 ≤ vN v2 ∧ vN v2 < ms.length) := hP9.2.trans (in_lt (by omega) (by omega))
        rw [hP9.1, hq10]
        refine z_st (st' := [.int (zb (decide (0 ≤ vN v2 ∧ vN v2 < ms.length)))]) rfl ?_
        refine z_if_neB C 29 dX3_plannedAt_21 (by decide) (fun c21 => ?_) (fun c21 => ?_)
        · skip
          have hix : vN v2 < ms.length := by have := c21; simpa using this
          have hv11 := vN_of (v := v2) hix (by omega)
          have e12 : (.int v2 : Value) = .int (nI (vN v2)) := (congrArg Value.int hv11)
          refine z_lv (lv' := [(3, .int (nI ms.length)), (0, .ref m), (1, .int v1), (2, .int (nI (vN v2)))]) (by rw [e12]) ?_
          obtain ⟨q, hq2⟩ : ∃ q, ms[vN v2]? = some q := ⟨_, List.getElem?_eq_getElem hix⟩
          have hq80 := plan_80 hbx hrc hg hSp hq2
          have hqv := hpl _ _ hq2
          have hqd : ms.getD (vN v2) 0 = q := by rw [List.getD_eq_getElem?_getD, hq2]; rfl
          refine z_aload_n C 1 rfl dX3_plannedAt_29 rfl ?_
          refine z_get C k_M hR3.1.1 0 (by decide) rfl q1387 dX3_plannedAt_30 ?_
          refine z_if_leN C 40 (by omega) dX3_plannedAt_33 (by decide) (fun c33 => ?_) (fun c33 => ?_)
          · skip
            refine z_aload_n C 1 rfl dX3_plannedAt_40 rfl ?_
            refine z_get C k_M hR3.1.1 11 (by decide) rfl q1398 dX3_plannedAt_41 ?_
            refine z_iload_n C 3 rfl dX3_plannedAt_44 rfl ?_
            have ga13 : V2 (A 7) = some (.inl (D.arr 0, 6, .inl (F2 7))) := hR3.1.2.1 7 (by decide)
            refine z_iald C ga13 (by omega) (by omega) (v := (nI q)) hqv dX3_plannedAt_45 ?_
            exact z_iret C hQ q rfl ⟨F2, 0, hR3, hq80, fun f => ⟨_, (if_neg hq0).trans (by rw [hp]; exact if_pos hix), fun _ => by rw [hqd]⟩⟩ (by decide) (by decide) dX3_plannedAt_46
          · skip
            exfalso; omega
        · skip
          have hix : ¬ vN v2 < ms.length := by have := c21; simp at this; omega
          refine z_aload_n C 1 rfl dX3_plannedAt_24 rfl ?_
          refine z_iconst C (v := (nI 2)) dX3_plannedAt_25 rfl ?_
          refine z_put C k_M hR3.1.1 0 (by decide) [.int (nI 2), .int (nI nw), .int (nI st), .ref (A 0), .int (nI bx), .ref (A 1), .ref (A 2), .ref (A 3), .ref (A 4), .ref (A 5), .ref (A 6), .ref (A 7), .int mv, .int (nI ap), .ref (A 8), .ref (A 9), .ref (A 10), .ref (A 11), .long lf] rfl (Nat.le_of_ble_eq_true rfl) rfl rfl rfl q1387 dX3_plannedAt_26 (z_nV (fun V14 hV15 => ?_))
          have hM16 := MX.ob (cd2 := (nI 2)) (nw2 := nw) (st2 := st) (bx2 := bx) (mv2 := mv) (ap2 := ap) (lf2 := lf) hR3.1 hV15
          refine z_aload_n C 1 rfl dX3_plannedAt_29 rfl ?_
          refine z_get C k_M hM16.1 0 (by decide) rfl q1387 dX3_plannedAt_30 ?_
          refine z_if_leN C 40 (by omega) dX3_plannedAt_33 (by decide) (fun c33 => ?_) (fun c33 => ?_)
          · skip
            exfalso; omega
          · skip
            refine z_iconst C (v := (nI 0)) dX3_plannedAt_36 rfl ?_
            refine z_goto C 46 dX3_plannedAt_37 (by decide) ?_
            exact z_iret C hQ 0 rfl ⟨F2, 2, (show mR D _ m A _ _ (qS st rch bx wt ins hld unt Y ap ab hr ln sa mv nw lf) from ⟨hM16, hR3.2.1, hR3.2.2.1, hR3.2.2.2.1, hR3.2.2.2.2⟩), by decide, fun f => ⟨0, (if_neg hq0).trans (by rw [hp]; exact if_neg hix), fun h => absurd h (by decide)⟩⟩ (by decide) (by decide) dX3_plannedAt_46
set_option maxHeartbeats 4000000 in
set_option maxRecDepth 100000 in
theorem mX3_planBox {l : Launch} {D : ZD} {V : ZV} {kk m : Nat} {A : Nat → Nat} {F : Nat → Nat → Int32} {cd : Int32} {st : Nat} {rch : Nat → Nat} {bx : Nat} {wt : Nat → Nat} {ins : Nat → Bool} {hld : Nat → Int32} {unt : Nat → Nat} {Y : YD} {ap : Nat} {ab hr ln : Nat → Nat} {sa : Nat → Int32} {mv : Int32} {nw : Nat} {lf : Int64} (hR : mR D V m A F cd (qS st rch bx wt ins hld unt Y ap ab hr ln sa mv nw lf)) (hI : qI kk (qS st rch bx wt ins hld unt Y ap ab hr ln sa mv nw lf)) {v1 v2 : Int32} : ZM l D yX3_planBox (ws_ yX3_planBox cX3_planBox 3 (some .int)) 9 0 0 eI V [.ref m, .int v1, .int v2] (fun r V' => ∃ F2, mR D V' m A F2 (nI (oPlanAt (qS st rch bx wt ins hld unt Y ap ab hr ln sa mv nw lf) (vN v1) (vN v2) (fun q => q / 4)).1) (oPlanAt (qS st rch bx wt ins hld unt Y ap ab hr ln sa mv nw lf) (vN v1) (vN v2) (fun q => q / 4)).2.2 ∧ ((oPlanAt (qS st rch bx wt ins hld unt Y ap ab hr ln sa mv nw lf) (vN v1) (vN v2) (fun q => q / 4)).1 = 0 → r = (oPlanAt (qS st rch bx wt ins hld unt Y ap ab hr ln sa mv nw lf) (vN v1) (vN v2) (fun q => q / 4)).2.1)) zno_x := by
  refine z_enter (by decide +kernel) [(0, .ref m), (1, .int v1), (2, .int v2)] rfl (Nat.le_of_ble_eq_true rfl) (zcat_cons rfl (zcat_cons rfl (zcat_cons rfl zcat_nil))) (fun Γ C hQ => ?_)
  have hM : MX D V m A F cd nw st bx mv ap lf := hR.1
  have hE : mE F st bx rch wt ins hld := hR.2.1
  have hU : ∀ b, b < 20 → F 4 b = nI (unt b) := hR.2.2.1
  have hy : mY F 0 Y := hR.2.2.2.1
  have hA : ∀ a, a < ap → F 8 a = nI (ab a) ∧ F 9 a = nI (hr a) ∧ F 10 a = nI (ln a) ∧ F 11 a = sa a := hR.2.2.2.2
  have hst : st ≤ 4 := hI.1.1
  have hbx : bx ≤ 20 := hI.1.2.1
  have hrc : ∀ s, s < st → rch s ≤ 4 := fun s hs => (hI.1.2.2.1 s hs).2
  have hwt : ∀ b, b < bx → wt b < 1000 := fun b hb => by have h9 : wt b ≤ 30 := (hI.1.2.2.2 b hb).2; omega
  have hg : yGood st bx ins Y := hI.2.1.1
  have hht : ∀ s, s < st → (Y s).length ≤ rch s := hI.2.1.2.1
  have hu1 : ∀ b, unt b ≤ 1000 := hI.2.2.1.2.1
  have hhl : ∀ b, b < bx → hld b = nI 45 ∨ hld b = nI 112 ∨ hld b = nI 108 := hI.2.2.1.2.2
  have hap : ap ≤ 30 := hI.2.2.2.1.1
  have haa : ∀ a, a < ap → ab a < bx ∧ hr a ≤ 999 ∧ ln a < 3 ∧ (sa a = nI 98 ∨ sa a = nI 99 ∨ sa a = nI 103 ∨ sa a = nI 100 ∨ sa a = nI 109) := hI.2.2.2.1.2.1
  have hnw : nw ≤ 999 := hI.2.2.2.2
  have hY4 : ∀ s, (Y s).length ≤ 4 := hg.1.1
  have hmm : ∀ s, ∀ c ∈ Y s, c < bx := fun s c hc => (hg.2.2 s c hc).1
  refine z_aload_n C 0 rfl dX3_planBox_0 rfl ?_
  refine z_iload_n C 1 rfl dX3_planBox_1 rfl ?_
  refine z_iload_n C 2 rfl dX3_planBox_2 rfl ?_
  refine z_callV C k_M hM.1 (As := [.int v1, .int v2]) (mX3_plannedAt (show mR D _ m A _ _ (qS st rch bx wt ins hld unt Y ap ab hr ln sa mv nw lf) from ⟨hM, hE, hU, hy, hA⟩) hI) (lw_V q1614 q1616 qs51 q65 q1617) rfl hd_X3_plannedAt rfl (Nat.le_of_ble_eq_true rfl) (by decide) (by decide) (by decide) (by decide) rfl dX3_planBox_3 (fun _ _ h => h.elim) (fun r1 V2 hP3 => ?_)
  obtain ⟨F2, k, hR2, h80, hf⟩ := hP3
  obtain ⟨x, e1, hx⟩ := hf (fun q => q / 4)
  refine z_st (st' := [.int (nI r1)]) rfl ?_
  refine z_iconst C (v := (nI 4)) dX3_planBox_6 rfl ?_
  refine z_idivN C (by omega) (by omega) (by omega) dX3_planBox_7 ?_
  exact z_iret C hQ (nI (r1 / 4)) rfl ⟨F2, by rw [e1]; exact hR2, fun h => by rw [e1] at h; exact (hx h).symm.trans (oRes e1)⟩ (by decide) (by decide) dX3_planBox_8
set_option maxHeartbeats 4000000 in
set_option maxRecDepth 100000 in
theorem mX3_planStack {l : Launch} {D : ZD} {V : ZV} {kk m : Nat} {A : Nat → Nat} {F : Nat → Nat → Int32} {cd : Int32} {st : Nat} {rch : Nat → Nat} {bx : Nat} {wt : Nat → Nat} {ins : Nat → Bool} {hld : Nat → Int32} {unt : Nat → Nat} {Y : YD} {ap : Nat} {ab hr ln : Nat → Nat} {sa : Nat → Int32} {mv : Int32} {nw : Nat} {lf : Int64} (hR : mR D V m A F cd (qS st rch bx wt ins hld unt Y ap ab hr ln sa mv nw lf)) (hI : qI kk (qS st rch bx wt ins hld unt Y ap ab hr ln sa mv nw lf)) {v1 v2 : Int32} : ZM l D yX3_planStack (ws_ yX3_planStack cX3_planStack 3 (some .int)) 9 0 0 eI V [.ref m, .int v1, .int v2] (fun r V' => ∃ F2, mR D V' m A F2 (nI (oPlanAt (qS st rch bx wt ins hld unt Y ap ab hr ln sa mv nw lf) (vN v1) (vN v2) (fun q => q % 4)).1) (oPlanAt (qS st rch bx wt ins hld unt Y ap ab hr ln sa mv nw lf) (vN v1) (vN v2) (fun q => q % 4)).2.2 ∧ ((oPlanAt (qS st rch bx wt ins hld unt Y ap ab hr ln sa mv nw lf) (vN v1) (vN v2) (fun q => q % 4)).1 = 0 → r = (oPlanAt (qS st rch bx wt ins hld unt Y ap ab hr ln sa mv nw lf) (vN v1) (vN v2) (fun q => q % 4)).2.1)) zno_x := by
  refine z_enter (by decide +kernel) [(0, .ref m), (1, .int v1), (2, .int v2)] rfl (Nat.le_of_ble_eq_true rfl) (zcat_cons rfl (zcat_cons rfl (zcat_cons rfl zcat_nil))) (fun Γ C hQ => ?_)
  have hM : MX D V m A F cd nw st bx mv ap lf := hR.1
  have hE : mE F st bx rch wt ins hld := hR.2.1
  have hU : ∀ b, b < 20 → F 4 b = nI (unt b) := hR.2.2.1
  have hy : mY F 0 Y := hR.2.2.2.1
  have hA : ∀ a, a < ap → F 8 a = nI (ab a) ∧ F 9 a = nI (hr a) ∧ F 10 a = nI (ln a) ∧ F 11 a = sa a := hR.2.2.2.2
  have hst : st ≤ 4 := hI.1.1
  have hbx : bx ≤ 20 := hI.1.2.1
  have hrc : ∀ s, s < st → rch s ≤ 4 := fun s hs => (hI.1.2.2.1 s hs).2
  have hwt : ∀ b, b < bx → wt b < 1000 := fun b hb => by have h9 : wt b ≤ 30 := (hI.1.2.2.2 b hb).2; omega
  have hg : yGood st bx ins Y := hI.2.1.1
  have hht : ∀ s, s < st → (Y s).length ≤ rch s := hI.2.1.2.1
  have hu1 : ∀ b, unt b ≤ 1000 := hI.2.2.1.2.1
  have hhl : ∀ b, b < bx → hld b = nI 45 ∨ hld b = nI 112 ∨ hld b = nI 108 := hI.2.2.1.2.2
  have hap : ap ≤ 30 := hI.2.2.2.1.1
  have haa : ∀ a, a < ap → ab a < bx ∧ hr a ≤ 999 ∧ ln a < 3 ∧ (sa a = nI 98 ∨ sa a = nI 99 ∨ sa a = nI 103 ∨ sa a = nI 100 ∨ sa a = nI 109) := hI.2.2.2.1.2.1
  have hnw : nw ≤ 999 := hI.2.2.2.2
  have hY4 : ∀ s, (Y s).length ≤ 4 := hg.1.1
  have hmm : ∀ s, ∀ c ∈ Y s, c < bx := fun s c hc => (hg.2.2 s c hc).1
  refine z_aload_n C 0 rfl dX3_planStack_0 rfl ?_
  refine z_iload_n C 1 rfl dX3_planStack_1 rfl ?_
  refine z_iload_n C 2 rfl dX3_planStack_2 rfl ?_
  refine z_callV C k_M hM.1 (As := [.int v1, .int v2]) (mX3_plannedAt (show mR D _ m A _ _ (qS st rch bx wt ins hld unt Y ap ab hr ln sa mv nw lf) from ⟨hM, hE, hU, hy, hA⟩) hI) (lw_V q1614 q1616 qs51 q65 q1617) rfl hd_X3_plannedAt rfl (Nat.le_of_ble_eq_true rfl) (by decide) (by decide) (by decide) (by decide) rfl dX3_planStack_3 (fun _ _ h => h.elim) (fun r1 V2 hP3 => ?_)
  obtain ⟨F2, k, hR2, h80, hf⟩ := hP3
  obtain ⟨x, e1, hx⟩ := hf (fun q => q % 4)
  refine z_st (st' := [.int (nI r1)]) rfl ?_
  refine z_iconst C (v := (nI 4)) dX3_planStack_6 rfl ?_
  refine z_iremN C (by omega) (by omega) (by omega) dX3_planStack_7 ?_
  exact z_iret C hQ (nI (r1 % 4)) rfl ⟨F2, by rw [e1]; exact hR2, fun h => by rw [e1] at h; exact (hx h).symm.trans (oRes e1)⟩ (by decide) (by decide) dX3_planStack_8
set_option maxHeartbeats 4000000 in
set_option maxRecDepth 100000 in
theorem mX3_dig {l : Launch} {D : ZD} {V : ZV} {kk m : Nat} {A : Nat → Nat} {F : Nat → Nat → Int32} {cd : Int32} {st : Nat} {rch : Nat → Nat} {bx : Nat} {wt : Nat → Nat} {ins : Nat → Bool} {hld : Nat → Int32} {unt : Nat → Nat} {Y : YD} {ap : Nat} {ab hr ln : Nat → Nat} {sa : Nat → Int32} {mv : Int32} {nw : Nat} {lf : Int64} (hR : mR D V m A F cd (qS st rch bx wt ins hld unt Y ap ab hr ln sa mv nw lf)) (hI : qI kk (qS st rch bx wt ins hld unt Y ap ab hr ln sa mv nw lf)) {v1 : Int32} : ZM l D yX3_dig (ws_ yX3_dig cX3_dig 3 (some .int)) 8 0 0 eI V [.ref m, .int v1] (fun r V' => ∃ F2, mR D V' m A F2 (nI (oDig (qS st rch bx wt ins hld unt Y ap ab hr ln sa mv nw lf) (vN v1)).1) (oDig (qS st rch bx wt ins hld unt Y ap ab hr ln sa mv nw lf) (vN v1)).2.2 ∧ ((oDig (qS st rch bx wt ins hld unt Y ap ab hr ln sa mv nw lf) (vN v1)).1 = 0 → r = (oDig (qS st rch bx wt ins hld unt Y ap ab hr ln sa mv nw lf) (vN v1)).2.1)) zno_x := by
  refine z_enter (by decide +kernel) [(0, .ref m), (1, .int v1)] rfl (Nat.le_of_ble_eq_true rfl) (zcat_cons rfl (zcat_cons rfl zcat_nil)) (fun Γ C hQ => ?_)
  have hM : MX D V m A F cd nw st bx mv ap lf := hR.1
  have hE : mE F st bx rch wt ins hld := hR.2.1
  have hU : ∀ b, b < 20 → F 4 b = nI (unt b) := hR.2.2.1
  have hy : mY F 0 Y := hR.2.2.2.1
  have hA : ∀ a, a < ap → F 8 a = nI (ab a) ∧ F 9 a = nI (hr a) ∧ F 10 a = nI (ln a) ∧ F 11 a = sa a := hR.2.2.2.2
  have hst : st ≤ 4 := hI.1.1
  have hbx : bx ≤ 20 := hI.1.2.1
  have hrc : ∀ s, s < st → rch s ≤ 4 := fun s hs => (hI.1.2.2.1 s hs).2
  have hwt : ∀ b, b < bx → wt b < 1000 := fun b hb => by have h9 : wt b ≤ 30 := (hI.1.2.2.2 b hb).2; omega
  have hg : yGood st bx ins Y := hI.2.1.1
  have hht : ∀ s, s < st → (Y s).length ≤ rch s := hI.2.1.2.1
  have hu1 : ∀ b, unt b ≤ 1000 := hI.2.2.1.2.1
  have hhl : ∀ b, b < bx → hld b = nI 45 ∨ hld b = nI 112 ∨ hld b = nI 108 := hI.2.2.1.2.2
  have hap : ap ≤ 30 := hI.2.2.2.1.1
  have haa : ∀ a, a < ap → ab a < bx ∧ hr a ≤ 999 ∧ ln a < 3 ∧ (sa a = nI 98 ∨ sa a = nI 99 ∨ sa a = nI 103 ∨ sa a = nI 100 ∨ sa a = nI 109) := hI.2.2.2.1.2.1
  have hnw : nw ≤ 999 := hI.2.2.2.2
  have hY4 : ∀ s, (Y s).length ≤ 4 := hg.1.1
  have hmm : ∀ s, ∀ c ∈ Y s, c < bx := fun s c hc => (hg.2.2 s c hc).1
  refine z_aload_n C 0 rfl dX3_dig_0 rfl ?_
  refine z_iload_n C 1 rfl dX3_dig_1 rfl ?_
  refine z_callV C k_M hM.1 (As := [.int v1]) (mX3_planned (show mR D _ m A _ _ (qS st rch bx wt ins hld unt Y ap ab hr ln sa mv nw lf) from ⟨hM, hE, hU, hy, hA⟩) hI) (lw_V q1586 q1588 qs46 q65 q1589) rfl hd_X3_planned rfl (Nat.le_of_ble_eq_true rfl) (by decide) (by decide) (by decide) (by decide) rfl dX3_dig_2 (fun _ _ h => h.elim) (fun r1 V2 hP3 => ?_)
  obtain ⟨F2, hR2, hres, hpl⟩ := hP3
  subst hres
  refine z_st (st' := [.int ((oPlanLen (qS st rch bx wt ins hld unt Y ap ab hr ln sa mv nw lf) (vN v1)).2.1)]) rfl ?_
  rcases hq : qIs (qS st rch bx wt ins hld unt Y ap ab hr ln sa mv nw lf) (vN v1) with _ | _
  · skip
    have e1 : (oPlanLen (qS st rch bx wt ins hld unt Y ap ab hr ln sa mv nw lf) (vN v1)) = (1, 0, (qS st rch bx wt ins hld unt Y ap ab hr ln sa mv nw lf)) := if_pos hq
    have e4 : (.int ((oPlanLen (qS st rch bx wt ins hld unt Y ap ab hr ln sa mv nw lf) (vN v1)).2.1) : Value) = .int (nI 0) := (congrArg (fun z : OR => Value.int z.2.1) e1)
    refine z_st (st' := [.int (nI 0)]) (by rw [e4]) ?_
    have hR3 : mR D V2 m A F2 (nI 1) (qS st rch bx wt ins hld unt Y ap ab hr ln sa mv nw lf) := by rw [e1] at hR2; exact hR2
    refine z_istore_n C [(2, .int (nI 0)), (0, .ref m), (1, .int v1)] dX3_dig_5 rfl (by decide) rfl ?_
    refine z_aload_n C 1 rfl dX3_dig_6 rfl ?_
    refine z_iload_n C 0 rfl dX3_dig_7 rfl ?_
    refine z_callV C k_M hR3.1.1 (As := [.int (nI 0)]) (mX3_makes hR3.1 hst hbx hR3.2.2.2.1 hR3.2.1 hrc hwt hg (t := vN v1) (ms := []) (Z := Y) (n := 0) rfl rfl (by decide) (fun i q h => by simp at h)) (lw_V q1626 q1628 qs52 q65 q1629) rfl hd_X3_makes rfl (Nat.le_of_ble_eq_true rfl) (by decide) (by decide) (by decide) (by decide) rfl dX3_dig_8 (fun _ _ h => h.elim) (fun r5 V6 hP7 => ?_)
    obtain ⟨F3, hM3, hY3, hO3⟩ := hP7
    refine z_st (st' := []) rfl ?_
    have hE3 := hO3.e hR3.2.1
    have hU3 : ∀ b, b < 20 → F3 4 b = nI (unt b) := fun b hb => by rw [hO3.1 4 (by decide) (by decide)]; exact hR3.2.2.1 b hb
    have hA3 := mA_on hO3 hR3.2.2.2.2
    have e2 : oDig (qS st rch bx wt ins hld unt Y ap ab hr ln sa mv nw lf) (vN v1) = (1, 0, (qS st rch bx wt ins hld unt Y ap ab hr ln sa mv nw lf)) := if_pos hq
    have e3 : mv + nI 0 = mv := Int32.add_zero mv
    have hM4 : MX D V6 m A F3 (nI 1) nw st bx (mv + nI 0) ap lf := hM3
    rw [e3] at hM4
    refine z_iload_n C 0 rfl dX3_dig_11 rfl ?_
    exact z_iret C hQ (nI 0) rfl ⟨F3, by rw [e2]; exact ⟨hM4, hE3, hU3, hY3, hA3⟩, fun _ => oRes e2⟩ (by decide) (by decide) dX3_dig_12
  · skip
    have hq0 : ¬ qIs (qS st rch bx wt ins hld unt Y ap ab hr ln sa mv nw lf) (vN v1) = false := by rw [hq]; decide
    have hSp := qPlan_ok (qS st rch bx wt ins hld unt Y ap ab hr ln sa mv nw lf) (vN v1)
    rcases hp : qPlan (qS st rch bx wt ins hld unt Y ap ab hr ln sa mv nw lf) (vN v1) with _ | ms
    · skip
      rw [hp] at hSp
      have e1 : (oPlanLen (qS st rch bx wt ins hld unt Y ap ab hr ln sa mv nw lf) (vN v1)) = (2, 0, (qS st rch bx wt ins hld unt Y ap ab hr ln sa mv nw lf)) := (if_neg hq0).trans (by rw [hp])
      have e8 : (.int ((oPlanLen (qS st rch bx wt ins hld unt Y ap ab hr ln sa mv nw lf) (vN v1)).2.1) : Value) = .int (nI 0) := (congrArg (fun z : OR => Value.int z.2.1) e1)
      refine z_st (st' := [.int (nI 0)]) (by rw [e8]) ?_
      have hR3 : mR D V2 m A F2 (nI 2) (qS st rch bx wt ins hld unt Y ap ab hr ln sa mv nw lf) := by rw [e1] at hR2; exact hR2
      refine z_istore_n C [(2, .int (nI 0)), (0, .ref m), (1, .int v1)] dX3_dig_5 rfl (by decide) rfl ?_
      refine z_aload_n C 1 rfl dX3_dig_6 rfl ?_
      refine z_iload_n C 0 rfl dX3_dig_7 rfl ?_
      refine z_callV C k_M hR3.1.1 (As := [.int (nI 0)]) (mX3_makes hR3.1 hst hbx hR3.2.2.2.1 hR3.2.1 hrc hwt hg (t := vN v1) (ms := []) (Z := Y) (n := 0) rfl rfl (by decide) (fun i q h => by simp at h)) (lw_V q1626 q1628 qs52 q65 q1629) rfl hd_X3_makes rfl (Nat.le_of_ble_eq_true rfl) (by decide) (by decide) (by decide) (by decide) rfl dX3_dig_8 (fun _ _ h => h.elim) (fun r9 V10 hP11 => ?_)
      obtain ⟨F3, hM3, hY3, hO3⟩ := hP11
      refine z_st (st' := []) rfl ?_
      have hE3 := hO3.e hR3.2.1
      have hU3 : ∀ b, b < 20 → F3 4 b = nI (unt b) := fun b hb => by rw [hO3.1 4 (by decide) (by decide)]; exact hR3.2.2.1 b hb
      have hA3 := mA_on hO3 hR3.2.2.2.2
      have e2 : oDig (qS st rch bx wt ins hld unt Y ap ab hr ln sa mv nw lf) (vN v1) = (2, 0, (qS st rch bx wt ins hld unt Y ap ab hr ln sa mv nw lf)) := (if_neg hq0).trans (by rw [hp])
      have e3 : mv + nI 0 = mv := Int32.add_zero mv
      have hM4 : MX D V10 m A F3 (nI 2) nw st bx (mv + nI 0) ap lf := hM3
      rw [e3] at hM4
      refine z_iload_n C 0 rfl dX3_dig_11 rfl ?_
      exact z_iret C hQ (nI 0) rfl ⟨F3, by rw [e2]; exact ⟨hM4, hE3, hU3, hY3, hA3⟩, fun _ => oRes e2⟩ (by decide) (by decide) dX3_dig_12
    · skip
      rw [hp] at hSp
      have e1 : (oPlanLen (qS st rch bx wt ins hld unt Y ap ab hr ln sa mv nw lf) (vN v1)) = (0, nI ms.length, (qS st rch bx wt ins hld unt Y ap ab hr ln sa mv nw lf)) := (if_neg hq0).trans (by rw [hp])
      have hpl := hpl hq ms hp
      obtain ⟨hbb0, hbi0⟩ := qIs_t hq
      have hbb : vN v1 < bx := hbb0
      have hbi : ins (vN v1) = true := hbi0
      obtain ⟨p0, hb0⟩ := hg.2.1 _ hbb hbi
      have hml := plan_len hg.1 hst hb0 hSp
      have e12 : (.int ((oPlanLen (qS st rch bx wt ins hld unt Y ap ab hr ln sa mv nw lf) (vN v1)).2.1) : Value) = .int (nI ms.length) := (congrArg (fun z : OR => Value.int z.2.1) e1)
      refine z_st (st' := [.int (nI ms.length)]) (by rw [e12]) ?_
      have hR3 : mR D V2 m A F2 (nI 0) (qS st rch bx wt ins hld unt Y ap ab hr ln sa mv nw lf) := by rw [e1] at hR2; exact hR2
      refine z_istore_n C [(2, .int (nI ms.length)), (0, .ref m), (1, .int v1)] dX3_dig_5 rfl (by decide) rfl ?_
      refine z_aload_n C 1 rfl dX3_dig_6 rfl ?_
      refine z_iload_n C 0 rfl dX3_dig_7 rfl ?_
      obtain ⟨Z, hZ1, hZ2⟩ := qPlan_run hSp
      refine z_callV C k_M hR3.1.1 (As := [.int (nI ms.length)]) (mX3_makes hR3.1 hst hbx hR3.2.2.2.1 hR3.2.1 hrc hwt hg (t := vN v1) (ms := ms) hZ1 rfl (by omega) hpl) (lw_V q1626 q1628 qs52 q65 q1629) rfl hd_X3_makes rfl (Nat.le_of_ble_eq_true rfl) (by decide) (by decide) (by decide) (by decide) rfl dX3_dig_8 (fun _ _ h => h.elim) (fun r13 V14 hP15 => ?_)
      obtain ⟨F3, hM3, hY3, hO3⟩ := hP15
      refine z_st (st' := []) rfl ?_
      have hE3 := hO3.e hR3.2.1
      have hU3 : ∀ b, b < 20 → F3 4 b = nI (unt b) := fun b hb => by rw [hO3.1 4 (by decide) (by decide)]; exact hR3.2.2.1 b hb
      have hA3 := mA_on hO3 hR3.2.2.2.2
      have e2 : oDig (qS st rch bx wt ins hld unt Y ap ab hr ln sa mv nw lf) (vN v1) = (0, nI ms.length, qMake (qS st rch bx wt ins hld unt Y ap ab hr ln sa mv nw lf) (vN v1) ms) := (if_neg hq0).trans (by rw [hp])
      have hqy : qY (qMake (qS st rch bx wt ins hld unt Y ap ab hr ln sa mv nw lf) (vN v1) ms) = Z := qMake_Y hZ1
      refine z_iload_n C 0 rfl dX3_dig_11 rfl ?_
      exact z_iret C hQ (nI ms.length) rfl ⟨F3, by rw [e2]; exact ⟨hM3, hE3, hU3, by rw [hqy]; exact hY3, hA3⟩, fun _ => oRes e2⟩ (by decide) (by decide) dX3_dig_12
set_option maxHeartbeats 4000000 in
set_option maxRecDepth 100000 in
theorem mX3_leaves {l : Launch} {D : ZD} {V : ZV} {kk m : Nat} {A : Nat → Nat} {F : Nat → Nat → Int32} {cd : Int32} {st : Nat} {rch : Nat → Nat} {bx : Nat} {wt : Nat → Nat} {ins : Nat → Bool} {hld : Nat → Int32} {unt : Nat → Nat} {Y : YD} {ap : Nat} {ab hr ln : Nat → Nat} {sa : Nat → Int32} {mv : Int32} {nw : Nat} {lf : Int64} (hR : mR D V m A F cd (qS st rch bx wt ins hld unt Y ap ab hr ln sa mv nw lf)) (hI : qI kk (qS st rch bx wt ins hld unt Y ap ab hr ln sa mv nw lf)) {a1 : Nat} (ha : a1 < ap) (hsa : sa a1 = nI 98) : ZM l D yX3_leaves (ws_ yX3_leaves cX3_leaves 4 (some .boolean)) 7 0 0 eB V [.ref m, .int (nI a1)] (fun r V' => ∃ F2, mR D V' m A F2 cd (qServe (qS st rch bx wt ins hld unt Y ap ab hr ln sa mv nw lf) a1).2 ∧ r = (qServe (qS st rch bx wt ins hld unt Y ap ab hr ln sa mv nw lf) a1).1) zno_x := by
  refine z_enter (by decide +kernel) [(0, .ref m), (1, .int (nI a1))] rfl (Nat.le_of_ble_eq_true rfl) (zcat_cons rfl (zcat_cons rfl zcat_nil)) (fun Γ C hQ => ?_)
  have hM : MX D V m A F cd nw st bx mv ap lf := hR.1
  have hE : mE F st bx rch wt ins hld := hR.2.1
  have hU : ∀ b, b < 20 → F 4 b = nI (unt b) := hR.2.2.1
  have hy : mY F 0 Y := hR.2.2.2.1
  have hA : ∀ a, a < ap → F 8 a = nI (ab a) ∧ F 9 a = nI (hr a) ∧ F 10 a = nI (ln a) ∧ F 11 a = sa a := hR.2.2.2.2
  have hst : st ≤ 4 := hI.1.1
  have hbx : bx ≤ 20 := hI.1.2.1
  have hrc : ∀ s, s < st → rch s ≤ 4 := fun s hs => (hI.1.2.2.1 s hs).2
  have hwt : ∀ b, b < bx → wt b < 1000 := fun b hb => by have h9 : wt b ≤ 30 := (hI.1.2.2.2 b hb).2; omega
  have hg : yGood st bx ins Y := hI.2.1.1
  have hht : ∀ s, s < st → (Y s).length ≤ rch s := hI.2.1.2.1
  have hu1 : ∀ b, unt b ≤ 1000 := hI.2.2.1.2.1
  have hhl : ∀ b, b < bx → hld b = nI 45 ∨ hld b = nI 112 ∨ hld b = nI 108 := hI.2.2.1.2.2
  have hap : ap ≤ 30 := hI.2.2.2.1.1
  have haa : ∀ a, a < ap → ab a < bx ∧ hr a ≤ 999 ∧ ln a < 3 ∧ (sa a = nI 98 ∨ sa a = nI 99 ∨ sa a = nI 103 ∨ sa a = nI 100 ∨ sa a = nI 109) := hI.2.2.2.1.2.1
  have hnw : nw ≤ 999 := hI.2.2.2.2
  have hY4 : ∀ s, (Y s).length ≤ 4 := hg.1.1
  have hmm : ∀ s, ∀ c ∈ Y s, c < bx := fun s c hc => (hg.2.2 s c hc).1
  obtain ⟨hbb, hw2, hw3, hw4⟩ := haa a1 ha
  have hbi : ins (ab a1) = true := (hI.2.2.2.1.2.2.1 a1 ha hsa).1
  obtain ⟨p0, hb0⟩ := hg.2.1 _ hbb hbi
  refine z_aload_n C 0 rfl dX3_leaves_0 rfl ?_
  refine z_get C k_M hM.1 14 (by decide) rfl q1401 dX3_leaves_1 ?_
  refine z_iload_n C 1 rfl dX3_leaves_4 rfl ?_
  have ga1 : V (A 8) = some (.inl (D.arr 0, 30, .inl (F 8))) := hM.2.1 8 (by decide)
  refine z_iald C ga1 (by omega) (by omega) (v := (nI (ab a1))) (hA a1 (by omega)).1 dX3_leaves_5 ?_
  refine z_istore_n C [(2, .int (nI (ab a1))), (0, .ref m), (1, .int (nI a1))] dX3_leaves_6 rfl (by decide) rfl ?_
  refine z_aload_n C 1 rfl dX3_leaves_7 rfl ?_
  refine z_get C k_M hM.1 7 (by decide) rfl q1394 dX3_leaves_8 ?_
  refine z_iload_n C 0 rfl dX3_leaves_11 rfl ?_
  have ga2 : V (A 3) = some (.inl (D.arr 4, 20, .inl (F 3))) := hM.2.1 3 (by decide)
  refine z_cald C ga2 (by omega) (by omega) (v := (hld (ab a1))) (hE.2.2.2 (ab a1) (by omega)) dX3_leaves_12 ?_
  refine z_bipush C (v := (nI 45)) dX3_leaves_13 rfl ?_
  refine z_icmp_ne C 26 dX3_leaves_15 (by decide) (fun c15 => ?_) (fun c15 => ?_)
  · skip
    have e1 : qServe (qS st rch bx wt ins hld unt Y ap ab hr ln sa mv nw lf) a1 = (false, (qS st rch bx wt ins hld unt Y ap ab hr ln (va_up sa a1 (nI 109)) mv nw lf)) := qServe_none (fun h => absurd h c15)
    refine z_iconst C (v := (-1)) dX3_leaves_26 rfl ?_
    refine z_istore_n C [(3, .int (-1)), (2, .int (nI (ab a1))), (0, .ref m), (1, .int (nI a1))] dX3_leaves_27 rfl (by decide) rfl ?_
    refine z_aload_n C 2 rfl dX3_leaves_28 rfl ?_
    refine z_get C k_M hM.1 17 (by decide) rfl q1404 dX3_leaves_29 ?_
    refine z_iload_n C 3 rfl dX3_leaves_32 rfl ?_
    refine z_iload_n C 0 rfl dX3_leaves_33 rfl ?_
    refine z_iconst C (v := (-1)) dX3_leaves_34 rfl ?_
    refine z_icmp_ne C 43 dX3_leaves_35 (by decide) (fun c35 => ?_) (fun c35 => ?_)
    · skip
      exfalso; exact absurd rfl c35
    · skip
      refine z_bipush C (v := (nI 109)) dX3_leaves_38 rfl ?_
      refine z_goto C 45 dX3_leaves_40 (by decide) ?_
      have ga3 : V (A 11) = some (.inl (D.arr 4, 30, .inl (F 11))) := hM.2.1 11 (by decide)
      refine z_cast C ga3 (by omega) (by omega) (by decide) dX3_leaves_45 (z_nV (fun V4 hV5 => ?_))
      have hM6 := MX.st hM 11 (by decide) (f := va_up (F 11) a1 (nI 109)) hV5
      refine z_iload_n C 0 rfl dX3_leaves_46 rfl ?_
      refine z_iconst C (v := (-1)) dX3_leaves_47 rfl ?_
      refine z_icmp_ne C 53 dX3_leaves_48 (by decide) (fun c48 => ?_) (fun c48 => ?_)
      · skip
        exfalso; exact absurd rfl c48
      · skip
        refine z_iconst C (v := (nI 0)) dX3_leaves_51 rfl ?_
        exact z_zret C hQ false rfl rfl ⟨_, by rw [e1]; exact ⟨hM6, hE, hU, hy, mA_sa hA a1 (nI 109) rfl rfl rfl rfl⟩, by rw [e1]⟩ (by decide) (by decide) dX3_leaves_52
  · skip
    have h45 : hld (ab a1) = nI 45 := c15
    refine z_aload_n C 1 rfl dX3_leaves_18 rfl ?_
    refine z_iload_n C 0 rfl dX3_leaves_19 rfl ?_
    refine z_callV C k_M hM.1 (As := [.int (nI (ab a1))]) (mX3_plans hM hst hbx hy hE hrc hwt hg (t := ab a1) hbb hbi) (lw_V q1590 q1592 qs47 q65 q1593) rfl hd_X3_plans rfl (Nat.le_of_ble_eq_true rfl) (by decide) (by decide) (by decide) (by decide) rfl dX3_leaves_20 (fun _ _ h => h.elim) (fun r7 V8 hP9 => ?_)
    obtain ⟨F2, hM2, hO2, hY2, o, hS, hres, hpl⟩ := hP9
    have hpq : qPlan (qS st rch bx wt ins hld unt Y ap ab hr ln sa mv nw lf) (ab a1) = o := qPlan_eq hS
    subst hres
    refine z_st (st' := [.int (sLen o)]) rfl ?_
    have hE2 := hO2.e hE
    have hU2 : ∀ b, b < 20 → F2 4 b = nI (unt b) := fun b hb => by rw [hO2 4 (by decide) (by decide) (by decide)]; exact hU b hb
    have hA2 := mA_off hO2 hA
    rcases o with _ | ms
    · skip
      have e10 : (.int (sLen none) : Value) = .int (-1) := rfl
      refine z_st (st' := [.int (-1)]) (by rw [e10]) ?_
      have e1 : qServe (qS st rch bx wt ins hld unt Y ap ab hr ln sa mv nw lf) a1 = (false, (qS st rch bx wt ins hld unt Y ap ab hr ln (va_up sa a1 (nI 109)) mv nw lf)) := qServe_none (fun _ => hpq)
      refine z_goto C 27 dX3_leaves_23 (by decide) ?_
      refine z_istore_n C [(3, .int (-1)), (2, .int (nI (ab a1))), (0, .ref m), (1, .int (nI a1))] dX3_leaves_27 rfl (by decide) rfl ?_
      refine z_aload_n C 2 rfl dX3_leaves_28 rfl ?_
      refine z_get C k_M hM2.1 17 (by decide) rfl q1404 dX3_leaves_29 ?_
      refine z_iload_n C 3 rfl dX3_leaves_32 rfl ?_
      refine z_iload_n C 0 rfl dX3_leaves_33 rfl ?_
      refine z_iconst C (v := (-1)) dX3_leaves_34 rfl ?_
      refine z_icmp_ne C 43 dX3_leaves_35 (by decide) (fun c35 => ?_) (fun c35 => ?_)
      · skip
        exfalso; exact absurd rfl c35
      · skip
        refine z_bipush C (v := (nI 109)) dX3_leaves_38 rfl ?_
        refine z_goto C 45 dX3_leaves_40 (by decide) ?_
        have ga11 : V8 (A 11) = some (.inl (D.arr 4, 30, .inl (F2 11))) := hM2.2.1 11 (by decide)
        refine z_cast C ga11 (by omega) (by omega) (by decide) dX3_leaves_45 (z_nV (fun V12 hV13 => ?_))
        have hM14 := MX.st hM2 11 (by decide) (f := va_up (F2 11) a1 (nI 109)) hV13
        refine z_iload_n C 0 rfl dX3_leaves_46 rfl ?_
        refine z_iconst C (v := (-1)) dX3_leaves_47 rfl ?_
        refine z_icmp_ne C 53 dX3_leaves_48 (by decide) (fun c48 => ?_) (fun c48 => ?_)
        · skip
          exfalso; exact absurd rfl c48
        · skip
          refine z_iconst C (v := (nI 0)) dX3_leaves_51 rfl ?_
          exact z_zret C hQ false rfl rfl ⟨_, by rw [e1]; exact ⟨hM14, hE2, hU2, hY2, mA_sa hA2 a1 (nI 109) rfl rfl rfl rfl⟩, by rw [e1]⟩ (by decide) (by decide) dX3_leaves_52
    · skip
      have e15 : (.int (sLen (some ms)) : Value) = .int (nI ms.length) := rfl
      refine z_st (st' := [.int (nI ms.length)]) (by rw [e15]) ?_
      have hml := plan_len hg.1 hst hb0 hS
      obtain ⟨Z, hZ1, hZ2⟩ := qPlan_run (S := (qS st rch bx wt ins hld unt Y ap ab hr ln sa mv nw lf)) (t := ab a1) hS
      have hZ1 : yRun (yLeg st rch wt ins (pin' hld) (ab a1)) Y ms = some Z := hZ1
      have hZg := yGood_run hrc ms hg hZ1
      have hZl := hZg.1.1
      have hbZ := List.mem_of_getLast? hZ2
      have hpst := hZg.1.lt hbZ
      have hlp : 0 < (Z (yPl Z (ab a1))).length := List.length_pos_of_mem hbZ
      obtain ⟨n0, hn0⟩ : ∃ n, (Z (yPl Z (ab a1))).length = n + 1 := ⟨(Z (yPl Z (ab a1))).length - 1, by omega⟩
      have hzl4 := hZl (yPl Z (ab a1))
      have e1 : qServe (qS st rch bx wt ins hld unt Y ap ab hr ln sa mv nw lf) a1 = (true, qOut (qMake (qS st rch bx wt ins hld unt Y ap ab hr ln (va_up sa a1 (nI 100)) mv nw lf) (ab a1) ms) (ab a1)) := qServe_some h45 hpq
      have hqy : qY (qOut (qMake (qS st rch bx wt ins hld unt Y ap ab hr ln (va_up sa a1 (nI 100)) mv nw lf) (ab a1) ms) (ab a1)) = va_up Z (yPl Z (ab a1)) (Z (yPl Z (ab a1))).dropLast := qOut_Y (qMake_Y (S := (qS st rch bx wt ins hld unt Y ap ab hr ln (va_up sa a1 (nI 100)) mv nw lf)) (t := ab a1) hZ1)
      refine z_goto C 27 dX3_leaves_23 (by decide) ?_
      refine z_istore_n C [(3, .int (nI ms.length)), (2, .int (nI (ab a1))), (0, .ref m), (1, .int (nI a1))] dX3_leaves_27 rfl (by decide) rfl ?_
      refine z_aload_n C 2 rfl dX3_leaves_28 rfl ?_
      refine z_get C k_M hM2.1 17 (by decide) rfl q1404 dX3_leaves_29 ?_
      refine z_iload_n C 3 rfl dX3_leaves_32 rfl ?_
      refine z_iload_n C 0 rfl dX3_leaves_33 rfl ?_
      refine z_iconst C (v := (-1)) dX3_leaves_34 rfl ?_
      refine z_icmp_ne C 43 dX3_leaves_35 (by decide) (fun c35 => ?_) (fun c35 => ?_)
      · skip
        refine z_bipush C (v := (nI 100)) dX3_leaves_43 rfl ?_
        have ga16 : V8 (A 11) = some (.inl (D.arr 4, 30, .inl (F2 11))) := hM2.2.1 11 (by decide)
        refine z_cast C ga16 (by omega) (by omega) (by decide) dX3_leaves_45 (z_nV (fun V17 hV18 => ?_))
        have hM19 := MX.st hM2 11 (by decide) (f := va_up (F2 11) a1 (nI 100)) hV18
        refine z_iload_n C 0 rfl dX3_leaves_46 rfl ?_
        refine z_iconst C (v := (-1)) dX3_leaves_47 rfl ?_
        refine z_icmp_ne C 53 dX3_leaves_48 (by decide) (fun c48 => ?_) (fun c48 => ?_)
        · skip
          refine z_aload_n C 2 rfl dX3_leaves_53 rfl ?_
          refine z_iload_n C 0 rfl dX3_leaves_54 rfl ?_
          refine z_callV C k_M hM19.1 (As := [.int (nI ms.length)]) (mX3_makes hM19 hst hbx (hY2.cong (F2 := (va_up F2 11 (va_up (F2 11) a1 (nI 100)))) rfl rfl) (mE_off hE2 rfl rfl rfl rfl : mE (va_up F2 11 (va_up (F2 11) a1 (nI 100))) st bx rch wt ins hld) hrc hwt hg (t := ab a1) (ms := ms) hZ1 rfl (by omega) (hpl ms rfl)) (lw_V q1626 q1628 qs52 q65 q1629) rfl hd_X3_makes rfl (Nat.le_of_ble_eq_true rfl) (by decide) (by decide) (by decide) (by decide) rfl dX3_leaves_55 (fun _ _ h => h.elim) (fun r20 V21 hP22 => ?_)
          obtain ⟨F3, hM3, hY3, hO3⟩ := hP22
          refine z_st (st' := []) rfl ?_
          have hE3 := hO3.e (mE_off hE2 rfl rfl rfl rfl : mE (va_up F2 11 (va_up (F2 11) a1 (nI 100))) st bx rch wt ins hld)
          have hU3 : ∀ b, b < 20 → F3 4 b = nI (unt b) := fun b hb => by rw [hO3.1 4 (by decide) (by decide)]; exact hU2 b hb
          have hA3 := mA_on hO3 (mA_sa hA2 (F2 := (va_up F2 11 (va_up (F2 11) a1 (nI 100)))) a1 (nI 100) rfl rfl rfl rfl)
          refine z_aload_n C 2 rfl dX3_leaves_58 rfl ?_
          refine z_get C k_M hM3.1 9 (by decide) rfl q1396 dX3_leaves_59 ?_
          refine z_aload_n C 2 rfl dX3_leaves_62 rfl ?_
          refine z_iconst C (v := (nI 0)) dX3_leaves_63 rfl ?_
          refine z_iload_n C 1 rfl dX3_leaves_64 rfl ?_
          refine z_callV C k_M hM3.1 (As := [.int (nI 0), .int (nI (ab a1))]) (mX3_placeOf hM3 hst hbx hY3 (by omega) hZg.1 hbZ) (lw_V q1506 q1508 qs38 q65 q1509) rfl hd_X3_placeOf rfl (Nat.le_of_ble_eq_true rfl) (by decide) (by decide) (by decide) (by decide) rfl dX3_leaves_65 (fun _ _ h => h.elim) (fun r23 V24 hP25 => ?_)
          rw [hP25.1, hP25.2]
          refine z_st (st' := [.int (nI (yPl Z (ab a1))), .ref (A 5)]) rfl ?_
          refine z_dup2 C dX3_leaves_68 rfl rfl ?_
          have ga26 : V21 (A 5) = some (.inl (D.arr 0, 24, .inl (F3 5))) := hM3.2.1 5 (by decide)
          refine z_iald C ga26 (by omega) (by omega) (v := (nI ((Z (yPl Z (ab a1))).length))) (mY_len hY3 (yPl Z (ab a1)) (by omega)) dX3_leaves_69 ?_
          refine z_iconst C (v := (nI 1)) dX3_leaves_70 rfl ?_
          refine z_isubN C (by omega) dX3_leaves_71 ?_
          refine z_top (v := .int (nI n0)) (by rw [hn0]; rfl) ?_
          refine z_iast C ga26 (by omega) (by omega) dX3_leaves_72 (z_nV (fun V27 hV28 => ?_))
          have hM29 := MX.st hM3 5 (by decide) (f := va_up (F3 5) (yPl Z (ab a1)) (nI n0)) hV28
          refine z_aload_n C 2 rfl dX3_leaves_73 rfl ?_
          refine z_get C k_M hM29.1 6 (by decide) rfl q1393 dX3_leaves_74 ?_
          refine z_iload_n C 1 rfl dX3_leaves_77 rfl ?_
          refine z_iconst C (v := (nI 0)) dX3_leaves_78 rfl ?_
          have ga30 : V27 (A 2) = some (.inl (D.arr 3, 20, .inl (F3 2))) := hM29.2.1 2 (by decide)
          refine z_zast C ga30 (by omega) (by omega) (by decide) dX3_leaves_79 (z_nV (fun V31 hV32 => ?_))
          have hM33 := MX.st hM29 2 (by decide) (f := va_up (F3 2) (ab a1) (nI 0)) hV32
          refine z_aload_n C 2 rfl dX3_leaves_80 rfl ?_
          refine z_dup C dX3_leaves_81 rfl ?_
          refine z_get C k_M hM33.1 18 (by decide) rfl q1405 dX3_leaves_82 ?_
          refine z_aload_n C 2 rfl dX3_leaves_85 rfl ?_
          refine z_get C k_M hM33.1 5 (by decide) rfl q1392 dX3_leaves_86 ?_
          refine z_iload_n C 1 rfl dX3_leaves_89 rfl ?_
          have ga34 : V31 (A 1) = some (.inl (D.arr 0, 20, .inl (F3 1))) := hM33.2.1 1 (by decide)
          refine z_iald C ga34 (by omega) (by omega) (v := (nI (wt (ab a1)))) (hE3.2.1 (ab a1) (by omega)) dX3_leaves_90 ?_
          refine z_i2l C (v := ((nI (wt (ab a1)))).toInt64) dX3_leaves_91 rfl ?_
          refine z_ladd C dX3_leaves_92 ?_
          refine z_put C k_M hM33.1 18 (by decide) [.int cd, .int (nI nw), .int (nI st), .ref (A 0), .int (nI bx), .ref (A 1), .ref (A 2), .ref (A 3), .ref (A 4), .ref (A 5), .ref (A 6), .ref (A 7), .int (mv + nI ms.length), .int (nI ap), .ref (A 8), .ref (A 9), .ref (A 10), .ref (A 11), .long (lf + (((nI (wt (ab a1)))).toInt64))] rfl (Nat.le_of_ble_eq_true rfl) rfl rfl rfl q1405 dX3_leaves_93 (z_nV (fun V35 hV36 => ?_))
          have hM37 := MX.ob (cd2 := cd) (nw2 := nw) (st2 := st) (bx2 := bx) (mv2 := (mv + nI ms.length)) (ap2 := ap) (lf2 := (lf + (((nI (wt (ab a1)))).toInt64))) hM33 hV36
          refine z_iconst C (v := (nI 1)) dX3_leaves_96 rfl ?_
          exact z_zret C hQ true rfl rfl ⟨_, by rw [e1]; exact ⟨hM37, mE_out hE3 rfl rfl rfl rfl, hU3, by rw [hqy]; exact (mY_down0 hZl (by omega) hn0 hY3).cong rfl rfl, hA3⟩, by rw [e1]⟩ (by decide) (by decide) dX3_leaves_97
        · skip
          exfalso; exact absurd c48 (nI_nem1 (by omega))
      · skip
        exfalso; exact absurd c35 (nI_nem1 (by omega))
