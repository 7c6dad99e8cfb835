/-! MODEL: the share, its beginning -/
set_option maxRecDepth 100000
theorem share_ok : ∀ d, d < 31 → ∀ n, n < 91 → n ≠ 0 → (FP.fdiv (FP.i2f (nI d)) (FP.i2f (nI n))) &&& 0x7fffffff ≤ 0x7f800000 := by decide +kernel
theorem qCnt_le {k : Nat} {S : QS} (h : qI k S) (c : Int32) : qCnt S c ≤ 30 := Nat.le_trans (fC_le _ _) h.2.2.2.1.1
/-- the beginning -/
def q0 : QS := qS 0 (fun _ => 0) 0 (fun _ => 0) (fun _ => false) (fun _ => 0) (fun _ => 0) (fun _ => []) 0 (fun _ => 0) (fun _ => 0) (fun _ => 0) (fun _ => 0) 0 0 0
theorem qI_0 : qI 3 q0 := by
  refine ⟨⟨by decide, by decide, fun s hs => absurd hs (Nat.not_lt_zero _), fun b hb => absurd hb (Nat.not_lt_zero _)⟩, ⟨⟨⟨fun s => Nat.zero_le _, fun s _ => rfl, fun s b hb => absurd hb List.not_mem_nil, fun s => List.nodup_nil, fun s t b hb => absurd hb List.not_mem_nil⟩, fun c hc => absurd hc (Nat.not_lt_zero _), fun s c hc => absurd hc List.not_mem_nil⟩, fun s hs => absurd hs (Nat.not_lt_zero _), by decide⟩, ⟨fun b _ => rfl, fun b => Nat.zero_le _, fun b hb => absurd hb (Nat.not_lt_zero _)⟩, ⟨by decide, fun a ha => absurd ha (Nat.not_lt_zero _), fun a ha => absurd ha (Nat.not_lt_zero _), fun a c ha => absurd ha (Nat.not_lt_zero _)⟩, by decide⟩
set_option maxHeartbeats 4000000 in
set_option maxRecDepth 100000 in
theorem mX3_doneShare {l : Launch} {D : ZD} {V : ZV} {kk m : Nat} {A : Nat → Nat} {F : Nat → Nat → Int32} {cd : Int32} {st : Nat} {rch : Nat → Nat} {bx : Nat} {wt : Nat → Nat} {ins : Nat → Bool} {hld : Nat → Int32} {unt : Nat → Nat} {Y : YD} {ap : Nat} {ab hr ln : Nat → Nat} {sa : Nat → Int32} {mv : Int32} {nw : Nat} {lf : Int64} (hR : mR D V m A F cd (qS st rch bx wt ins hld unt Y ap ab hr ln sa mv nw lf)) (hI : qI kk (qS st rch bx wt ins hld unt Y ap ab hr ln sa mv nw lf))  : ZM l D yX3_doneShare (ws_ yX3_doneShare cX3_doneShare 2 (some .float)) 2 0 0 eF V [.ref m] (fun r V' => ∃ F2, mR D V' m A F2 (nI (oShare (qS st rch bx wt ins hld unt Y ap ab hr ln sa mv nw lf)).1) (qS st rch bx wt ins hld unt Y ap ab hr ln sa mv nw lf) ∧ ((oShare (qS st rch bx wt ins hld unt Y ap ab hr ln sa mv nw lf)).1 = 0 → r = (oShare (qS st rch bx wt ins hld unt Y ap ab hr ln sa mv nw lf)).2)) zno_x := by
  refine z_enter (by decide +kernel) [(0, .ref m)] rfl (Nat.le_of_ble_eq_true rfl) (zcat_cons rfl zcat_nil) (fun Γ C hQ => ?_)
  have hM : MX D V m A F cd nw st bx mv ap lf := hR.1
  have hE : mE F st bx rch wt ins hld := hR.2.1
  have hU : ∀ b, b < 20 → F 4 b = nI (unt b) := hR.2.2.1
  have hy : mY F 0 Y := hR.2.2.2.1
  have hA : ∀ a, a < ap → F 8 a = nI (ab a) ∧ F 9 a = nI (hr a) ∧ F 10 a = nI (ln a) ∧ F 11 a = sa a := hR.2.2.2.2
  have hst : st ≤ 4 := hI.1.1
  have hbx : bx ≤ 20 := hI.1.2.1
  have hrc : ∀ s, s < st → rch s ≤ 4 := fun s hs => (hI.1.2.2.1 s hs).2
  have hwt : ∀ b, b < bx → wt b < 1000 := fun b hb => by have h9 : wt b ≤ 30 := (hI.1.2.2.2 b hb).2; omega
  have hg : yGood st bx ins Y := hI.2.1.1
  have hht : ∀ s, s < st → (Y s).length ≤ rch s := hI.2.1.2.1
  have hu1 : ∀ b, unt b ≤ 1000 := hI.2.2.1.2.1
  have hhl : ∀ b, b < bx → hld b = nI 45 ∨ hld b = nI 112 ∨ hld b = nI 108 := hI.2.2.1.2.2
  have hap : ap ≤ 30 := hI.2.2.2.1.1
  have haa : ∀ a, a < ap → ab a < bx ∧ hr a ≤ 999 ∧ ln a < 3 ∧ (sa a = nI 98 ∨ sa a = nI 99 ∨ sa a = nI 103 ∨ sa a = nI 100 ∨ sa a = nI 109) := hI.2.2.2.1.2.1
  have hnw : nw ≤ 999 := hI.2.2.2.2
  have hY4 : ∀ s, (Y s).length ≤ 4 := hg.1.1
  have hmm : ∀ s, ∀ c ∈ Y s, c < bx := fun s c hc => (hg.2.2 s c hc).1
  have k1 := qCnt_le hI (nI 100)
  have k2 := qCnt_le hI (nI 109)
  have k3 := qCnt_le hI (nI 103)
  refine z_aload_n C 0 rfl dX3_doneShare_0 rfl ?_
  refine z_iconst C (v := (nI 0)) dX3_doneShare_1 rfl ?_
  refine z_put C k_M hM.1 0 (by decide) [.int (nI 0), .int (nI nw), .int (nI st), .ref (A 0), .int (nI bx), .ref (A 1), .ref (A 2), .ref (A 3), .ref (A 4), .ref (A 5), .ref (A 6), .ref (A 7), .int mv, .int (nI ap), .ref (A 8), .ref (A 9), .ref (A 10), .ref (A 11), .long lf] rfl (Nat.le_of_ble_eq_true rfl) rfl rfl rfl q1387 dX3_doneShare_2 (z_nV (fun V1 hV2 => ?_))
  have hM3 := MX.ob (cd2 := (nI 0)) (nw2 := nw) (st2 := st) (bx2 := bx) (mv2 := mv) (ap2 := ap) (lf2 := lf) hM hV2
  refine z_aload_n C 0 rfl dX3_doneShare_5 rfl ?_
  refine z_bipush C (v := (nI 100)) dX3_doneShare_6 rfl ?_
  refine z_callV C k_M hM3.1 (As := [.int (nI 100)]) (mX3_counted (show mR D _ m A _ _ (qS st rch bx wt ins hld unt Y ap ab hr ln sa mv nw lf) from ⟨hM3, hE, hU, hy, hA⟩) hI (c := (nI 100))) (lw_V q1650 q1652 qs55 q65 q1653) rfl hd_X3_counted rfl (Nat.le_of_ble_eq_true rfl) (by decide) (by decide) (by decide) (by decide) rfl dX3_doneShare_8 (fun _ _ h => h.elim) (fun r4 V5 hP6 => ?_)
  rw [hP6.1, hP6.2]
  refine z_st (st' := [.int (nI (qCnt (qS st rch bx wt ins hld unt Y ap ab hr ln sa mv nw lf) (nI 100)))]) rfl ?_
  refine z_aload_n C 0 rfl dX3_doneShare_11 rfl ?_
  refine z_bipush C (v := (nI 109)) dX3_doneShare_12 rfl ?_
  refine z_callV C k_M hM3.1 (As := [.int (nI 109)]) (mX3_counted (show mR D _ m A _ _ (qS st rch bx wt ins hld unt Y ap ab hr ln sa mv nw lf) from ⟨hM3, hE, hU, hy, hA⟩) hI (c := (nI 109))) (lw_V q1650 q1652 qs55 q65 q1653) rfl hd_X3_counted rfl (Nat.le_of_ble_eq_true rfl) (by decide) (by decide) (by decide) (by decide) rfl dX3_doneShare_14 (fun _ _ h => h.elim) (fun r7 V8 hP9 => ?_)
  rw [hP9.1, hP9.2]
  refine z_st (st' := [.int (nI (qCnt (qS st rch bx wt ins hld unt Y ap ab hr ln sa mv nw lf) (nI 109))), .int (nI (qCnt (qS st rch bx wt ins hld unt Y ap ab hr ln sa mv nw lf) (nI 100)))]) rfl ?_
  refine z_iaddN C dX3_doneShare_17 ?_
  refine z_aload_n C 0 rfl dX3_doneShare_18 rfl ?_
  refine z_bipush C (v := (nI 103)) dX3_doneShare_19 rfl ?_
  refine z_callV C k_M hM3.1 (As := [.int (nI 103)]) (mX3_counted (show mR D _ m A _ _ (qS st rch bx wt ins hld unt Y ap ab hr ln sa mv nw lf) from ⟨hM3, hE, hU, hy, hA⟩) hI (c := (nI 103))) (lw_V q1650 q1652 qs55 q65 q1653) rfl hd_X3_counted rfl (Nat.le_of_ble_eq_true rfl) (by decide) (by decide) (by decide) (by decide) rfl dX3_doneShare_21 (fun _ _ h => h.elim) (fun r10 V11 hP12 => ?_)
  rw [hP12.1, hP12.2]
  refine z_st (st' := [.int (nI (qCnt (qS st rch bx wt ins hld unt Y ap ab hr ln sa mv nw lf) (nI 103))), .int (nI ((qCnt (qS st rch bx wt ins hld unt Y ap ab hr ln sa mv nw lf) (nI 100)) + (qCnt (qS st rch bx wt ins hld unt Y ap ab hr ln sa mv nw lf) (nI 109))))]) rfl ?_
  refine z_iaddN C dX3_doneShare_24 ?_
  refine z_istore_n C [(1, .int (nI (((qCnt (qS st rch bx wt ins hld unt Y ap ab hr ln sa mv nw lf) (nI 100)) + (qCnt (qS st rch bx wt ins hld unt Y ap ab hr ln sa mv nw lf) (nI 109))) + (qCnt (qS st rch bx wt ins hld unt Y ap ab hr ln sa mv nw lf) (nI 103))))), (0, .ref m)] dX3_doneShare_25 rfl (by decide) rfl ?_
  refine z_iload_n C 0 rfl dX3_doneShare_26 rfl ?_
  refine z_if_neN C 37 (by omega) dX3_doneShare_27 (by decide) (fun c27 => ?_) (fun c27 => ?_)
  · skip
    have e1 : oShare (qS st rch bx wt ins hld unt Y ap ab hr ln sa mv nw lf) = (0, FP.fdiv (FP.i2f (nI (qCnt (qS st rch bx wt ins hld unt Y ap ab hr ln sa mv nw lf) (nI 100)))) (FP.i2f (nI (qCnt (qS st rch bx wt ins hld unt Y ap ab hr ln sa mv nw lf) (nI 100) + qCnt (qS st rch bx wt ins hld unt Y ap ab hr ln sa mv nw lf) (nI 109) + qCnt (qS st rch bx wt ins hld unt Y ap ab hr ln sa mv nw lf) (nI 103))))) := if_neg (by omega)
    refine z_aload_n C 1 rfl dX3_doneShare_37 rfl ?_
    refine z_bipush C (v := (nI 100)) dX3_doneShare_38 rfl ?_
    refine z_callV C k_M hM3.1 (As := [.int (nI 100)]) (mX3_counted (show mR D _ m A _ _ (qS st rch bx wt ins hld unt Y ap ab hr ln sa mv nw lf) from ⟨hM3, hE, hU, hy, hA⟩) hI (c := (nI 100))) (lw_V q1650 q1652 qs55 q65 q1653) rfl hd_X3_counted rfl (Nat.le_of_ble_eq_true rfl) (by decide) (by decide) (by decide) (by decide) rfl dX3_doneShare_40 (fun _ _ h => h.elim) (fun r13 V14 hP15 => ?_)
    rw [hP15.1, hP15.2]
    refine z_st (st' := [.int (nI (qCnt (qS st rch bx wt ins hld unt Y ap ab hr ln sa mv nw lf) (nI 100)))]) rfl ?_
    refine z_i2f C dX3_doneShare_43 ?_
    refine z_iload_n C 0 rfl dX3_doneShare_44 rfl ?_
    refine z_i2f C dX3_doneShare_45 ?_
    refine z_fdiv C dX3_doneShare_46 (share_ok _ (by omega) _ (by omega) (by omega)) ?_
    exact z_fret C hQ (FP.fdiv (FP.i2f (nI (qCnt (qS st rch bx wt ins hld unt Y ap ab hr ln sa mv nw lf) (nI 100)))) (FP.i2f (nI (((qCnt (qS st rch bx wt ins hld unt Y ap ab hr ln sa mv nw lf) (nI 100)) + (qCnt (qS st rch bx wt ins hld unt Y ap ab hr ln sa mv nw lf) (nI 109))) + (qCnt (qS st rch bx wt ins hld unt Y ap ab hr ln sa mv nw lf) (nI 103)))))) rfl ⟨F, by rw [e1]; exact (show mR D _ m A _ _ (qS st rch bx wt ins hld unt Y ap ab hr ln sa mv nw lf) from ⟨hM3, hE, hU, hy, hA⟩), fun _ => by rw [e1]⟩ (by decide) (by decide) dX3_doneShare_47
  · skip
    have e1 : oShare (qS st rch bx wt ins hld unt Y ap ab hr ln sa mv nw lf) = (1, FP.fconst0) := if_pos (by omega)
    refine z_aload_n C 1 rfl dX3_doneShare_30 rfl ?_
    refine z_iconst C (v := (nI 1)) dX3_doneShare_31 rfl ?_
    refine z_put C k_M hM3.1 0 (by decide) [.int (nI 1), .int (nI nw), .int (nI st), .ref (A 0), .int (nI bx), .ref (A 1), .ref (A 2), .ref (A 3), .ref (A 4), .ref (A 5), .ref (A 6), .ref (A 7), .int mv, .int (nI ap), .ref (A 8), .ref (A 9), .ref (A 10), .ref (A 11), .long lf] rfl (Nat.le_of_ble_eq_true rfl) rfl rfl rfl q1387 dX3_doneShare_32 (z_nV (fun V16 hV17 => ?_))
    have hM18 := MX.ob (cd2 := (nI 1)) (nw2 := nw) (st2 := st) (bx2 := bx) (mv2 := mv) (ap2 := ap) (lf2 := lf) hM3 hV17
    refine z_fconst0 C dX3_doneShare_35 ?_
    exact z_fret C hQ FP.fconst0 rfl ⟨F, by rw [e1]; exact (show mR D _ m A _ _ (qS st rch bx wt ins hld unt Y ap ab hr ln sa mv nw lf) from ⟨hM18, hE, hU, hy, hA⟩), fun _ => by rw [e1]⟩ (by decide) (by decide) dX3_doneShare_36
set_option maxHeartbeats 4000000 in
set_option maxRecDepth 100000 in
theorem mX3_init {l : Launch} {D : ZD} {V : ZV} {m : Nat} (hm : V m = some (.inr (2, [.int 0, .int (nI 0), .int (nI 0), .null, .int (nI 0), .null, .null, .null, .null, .null, .null, .null, .int 0, .int (nI 0), .null, .null, .null, .null, .long 0]))) : ZM l D yX3_init (ws_ yX3_init cX3_init 1 none) 2 12 330 eU V [.ref m] (fun r V' => ∃ A F2, mR D V' m A F2 0 q0) zno_x := by
  refine z_enter (by decide +kernel) [(0, .ref m)] rfl (Nat.le_of_ble_eq_true rfl) (zcat_cons rfl zcat_nil) (fun Γ C hQ => ?_)
  refine z_aload_n C 0 rfl dX3_init_0 rfl ?_
  refine z_objInit C q1386 q103 q104 dX3_init_1 (by decide) (by decide) ?_
  refine z_aload_n C 0 rfl dX3_init_4 rfl ?_
  refine z_iconst C (v := (nI 4)) dX3_init_5 rfl ?_
  refine z_newa_i C q121 (by omega) (by decide) (by decide) dX3_init_6 (fun q1 hq2 => z_nV (fun V3 hV4 => ?_))
  have g5 := zup hV4 (zne_new hm hq2) hm
  have g6 : V3 q1 = some (.inl (D.arr 0, 4, .inl (fun _ => 0))) := zself hV4
  refine z_putF C k_M g5 3 (by decide) [.int 0, .int (nI 0), .int (nI 0), .ref q1, .int (nI 0), .null, .null, .null, .null, .null, .null, .null, .int 0, .int (nI 0), .null, .null, .null, .null, .long 0] rfl (Nat.le_of_ble_eq_true rfl) rfl rfl rfl rfl rfl q1390 dX3_init_8 (z_nV (fun V7 hV8 => ?_))
  have g9 := zup hV8 (zne_ao g6 g5) g6
  have g10 : V7 m = some (.inr (2, [.int 0, .int (nI 0), .int (nI 0), .ref q1, .int (nI 0), .null, .null, .null, .null, .null, .null, .null, .int 0, .int (nI 0), .null, .null, .null, .null, .long 0])) := zself hV8
  refine z_aload_n C 0 rfl dX3_init_11 rfl ?_
  refine z_bipush C (v := (nI 20)) dX3_init_12 rfl ?_
  refine z_newa_i C q121 (by omega) (by decide) (by decide) dX3_init_14 (fun q11 hq12 => z_nV (fun V13 hV14 => ?_))
  have g15 := zup hV14 (zne_new g9 hq12) g9
  have g16 := zup hV14 (zne_new g10 hq12) g10
  have g17 : V13 q11 = some (.inl (D.arr 0, 20, .inl (fun _ => 0))) := zself hV14
  refine z_putF C k_M g16 5 (by decide) [.int 0, .int (nI 0), .int (nI 0), .ref q1, .int (nI 0), .ref q11, .null, .null, .null, .null, .null, .null, .int 0, .int (nI 0), .null, .null, .null, .null, .long 0] rfl (Nat.le_of_ble_eq_true rfl) rfl rfl rfl rfl rfl q1392 dX3_init_16 (z_nV (fun V18 hV19 => ?_))
  have g20 := zup hV19 (zne_ao g15 g16) g15
  have g21 := zup hV19 (zne_ao g17 g16) g17
  have g22 : V18 m = some (.inr (2, [.int 0, .int (nI 0), .int (nI 0), .ref q1, .int (nI 0), .ref q11, .null, .null, .null, .null, .null, .null, .int 0, .int (nI 0), .null, .null, .null, .null, .long 0])) := zself hV19
  refine z_aload_n C 0 rfl dX3_init_19 rfl ?_
  refine z_bipush C (v := (nI 20)) dX3_init_20 rfl ?_
  refine z_newa_z C q1445 (by omega) (by decide) (by decide) dX3_init_22 (fun q23 hq24 => z_nV (fun V25 hV26 => ?_))
  have g27 := zup hV26 (zne_new g20 hq24) g20
  have nx28 : q11 ≠ q23 := (zne_new g21 hq24)
  have g29 := zup hV26 (zne_new g21 hq24) g21
  have g30 := zup hV26 (zne_new g22 hq24) g22
  have g31 : V25 q23 = some (.inl (D.arr 3, 20, .inl (fun _ => 0))) := zself hV26
  refine z_putF C k_M g30 6 (by decide) [.int 0, .int (nI 0), .int (nI 0), .ref q1, .int (nI 0), .ref q11, .ref q23, .null, .null, .null, .null, .null, .int 0, .int (nI 0), .null, .null, .null, .null, .long 0] rfl (Nat.le_of_ble_eq_true rfl) rfl rfl rfl rfl rfl q1393 dX3_init_24 (z_nV (fun V32 hV33 => ?_))
  have g34 := zup hV33 (zne_ao g27 g30) g27
  have g35 := zup hV33 (zne_ao g29 g30) g29
  have g36 := zup hV33 (zne_ao g31 g30) g31
  have g37 : V32 m = some (.inr (2, [.int 0, .int (nI 0), .int (nI 0), .ref q1, .int (nI 0), .ref q11, .ref q23, .null, .null, .null, .null, .null, .int 0, .int (nI 0), .null, .null, .null, .null, .long 0])) := zself hV33
  refine z_aload_n C 0 rfl dX3_init_27 rfl ?_
  refine z_bipush C (v := (nI 20)) dX3_init_28 rfl ?_
  refine z_newa_c C q1446 (by omega) (by decide) (by decide) dX3_init_30 (fun q38 hq39 => z_nV (fun V40 hV41 => ?_))
  have g42 := zup hV41 (zne_new g34 hq39) g34
  have nx43 : q11 ≠ q38 := (zne_new g35 hq39)
  have g44 := zup hV41 (zne_new g35 hq39) g35
  have nx45 : q23 ≠ q38 := (zne_new g36 hq39)
  have g46 := zup hV41 (zne_new g36 hq39) g36
  have g47 := zup hV41 (zne_new g37 hq39) g37
  have g48 : V40 q38 = some (.inl (D.arr 4, 20, .inl (fun _ => 0))) := zself hV41
  refine z_putF C k_M g47 7 (by decide) [.int 0, .int (nI 0), .int (nI 0), .ref q1, .int (nI 0), .ref q11, .ref q23, .ref q38, .null, .null, .null, .null, .int 0, .int (nI 0), .null, .null, .null, .null, .long 0] rfl (Nat.le_of_ble_eq_true rfl) rfl rfl rfl rfl rfl q1394 dX3_init_32 (z_nV (fun V49 hV50 => ?_))
  have g51 := zup hV50 (zne_ao g42 g47) g42
  have g52 := zup hV50 (zne_ao g44 g47) g44
  have g53 := zup hV50 (zne_ao g46 g47) g46
  have g54 := zup hV50 (zne_ao g48 g47) g48
  have g55 : V49 m = some (.inr (2, [.int 0, .int (nI 0), .int (nI 0), .ref q1, .int (nI 0), .ref q11, .ref q23, .ref q38, .null, .null, .null, .null, .int 0, .int (nI 0), .null, .null, .null, .null, .long 0])) := zself hV50
  refine z_aload_n C 0 rfl dX3_init_35 rfl ?_
  refine z_bipush C (v := (nI 20)) dX3_init_36 rfl ?_
  refine z_newa_i C q121 (by omega) (by decide) (by decide) dX3_init_38 (fun q56 hq57 => z_nV (fun V58 hV59 => ?_))
  have g60 := zup hV59 (zne_new g51 hq57) g51
  have nx61 : q11 ≠ q56 := (zne_new g52 hq57)
  have g62 := zup hV59 (zne_new g52 hq57) g52
  have nx63 : q23 ≠ q56 := (zne_new g53 hq57)
  have g64 := zup hV59 (zne_new g53 hq57) g53
  have nx65 : q38 ≠ q56 := (zne_new g54 hq57)
  have g66 := zup hV59 (zne_new g54 hq57) g54
  have g67 := zup hV59 (zne_new g55 hq57) g55
  have g68 : V58 q56 = some (.inl (D.arr 0, 20, .inl (fun _ => 0))) := zself hV59
  refine z_putF C k_M g67 8 (by decide) [.int 0, .int (nI 0), .int (nI 0), .ref q1, .int (nI 0), .ref q11, .ref q23, .ref q38, .ref q56, .null, .null, .null, .int 0, .int (nI 0), .null, .null, .null, .null, .long 0] rfl (Nat.le_of_ble_eq_true rfl) rfl rfl rfl rfl rfl q1395 dX3_init_40 (z_nV (fun V69 hV70 => ?_))
  have g71 := zup hV70 (zne_ao g60 g67) g60
  have g72 := zup hV70 (zne_ao g62 g67) g62
  have g73 := zup hV70 (zne_ao g64 g67) g64
  have g74 := zup hV70 (zne_ao g66 g67) g66
  have g75 := zup hV70 (zne_ao g68 g67) g68
  have g76 : V69 m = some (.inr (2, [.int 0, .int (nI 0), .int (nI 0), .ref q1, .int (nI 0), .ref q11, .ref q23, .ref q38, .ref q56, .null, .null, .null, .int 0, .int (nI 0), .null, .null, .null, .null, .long 0])) := zself hV70
  refine z_aload_n C 0 rfl dX3_init_43 rfl ?_
  refine z_bipush C (v := (nI 24)) dX3_init_44 rfl ?_
  refine z_newa_i C q121 (by omega) (by decide) (by decide) dX3_init_46 (fun q77 hq78 => z_nV (fun V79 hV80 => ?_))
  have g81 := zup hV80 (zne_new g71 hq78) g71
  have g82 := zup hV80 (zne_new g72 hq78) g72
  have g83 := zup hV80 (zne_new g73 hq78) g73
  have g84 := zup hV80 (zne_new g74 hq78) g74
  have g85 := zup hV80 (zne_new g75 hq78) g75
  have g86 := zup hV80 (zne_new g76 hq78) g76
  have g87 : V79 q77 = some (.inl (D.arr 0, 24, .inl (fun _ => 0))) := zself hV80
  refine z_putF C k_M g86 9 (by decide) [.int 0, .int (nI 0), .int (nI 0), .ref q1, .int (nI 0), .ref q11, .ref q23, .ref q38, .ref q56, .ref q77, .null, .null, .int 0, .int (nI 0), .null, .null, .null, .null, .long 0] rfl (Nat.le_of_ble_eq_true rfl) rfl rfl rfl rfl rfl q1396 dX3_init_48 (z_nV (fun V88 hV89 => ?_))
  have g90 := zup hV89 (zne_ao g81 g86) g81
  have g91 := zup hV89 (zne_ao g82 g86) g82
  have g92 := zup hV89 (zne_ao g83 g86) g83
  have g93 := zup hV89 (zne_ao g84 g86) g84
  have g94 := zup hV89 (zne_ao g85 g86) g85
  have g95 := zup hV89 (zne_ao g87 g86) g87
  have g96 : V88 m = some (.inr (2, [.int 0, .int (nI 0), .int (nI 0), .ref q1, .int (nI 0), .ref q11, .ref q23, .ref q38, .ref q56, .ref q77, .null, .null, .int 0, .int (nI 0), .null, .null, .null, .null, .long 0])) := zself hV89
  refine z_aload_n C 0 rfl dX3_init_51 rfl ?_
  refine z_bipush C (v := (nI 96)) dX3_init_52 rfl ?_
  refine z_newa_i C q121 (by omega) (by decide) (by decide) dX3_init_54 (fun q97 hq98 => z_nV (fun V99 hV100 => ?_))
  have g101 := zup hV100 (zne_new g90 hq98) g90
  have g102 := zup hV100 (zne_new g91 hq98) g91
  have g103 := zup hV100 (zne_new g92 hq98) g92
  have g104 := zup hV100 (zne_new g93 hq98) g93
  have g105 := zup hV100 (zne_new g94 hq98) g94
  have g106 := zup hV100 (zne_new g95 hq98) g95
  have g107 := zup hV100 (zne_new g96 hq98) g96
  have g108 : V99 q97 = some (.inl (D.arr 0, 96, .inl (fun _ => 0))) := zself hV100
  refine z_putF C k_M g107 10 (by decide) [.int 0, .int (nI 0), .int (nI 0), .ref q1, .int (nI 0), .ref q11, .ref q23, .ref q38, .ref q56, .ref q77, .ref q97, .null, .int 0, .int (nI 0), .null, .null, .null, .null, .long 0] rfl (Nat.le_of_ble_eq_true rfl) rfl rfl rfl rfl rfl q1397 dX3_init_56 (z_nV (fun V109 hV110 => ?_))
  have g111 := zup hV110 (zne_ao g101 g107) g101
  have g112 := zup hV110 (zne_ao g102 g107) g102
  have g113 := zup hV110 (zne_ao g103 g107) g103
  have g114 := zup hV110 (zne_ao g104 g107) g104
  have g115 := zup hV110 (zne_ao g105 g107) g105
  have g116 := zup hV110 (zne_ao g106 g107) g106
  have g117 := zup hV110 (zne_ao g108 g107) g108
  have g118 : V109 m = some (.inr (2, [.int 0, .int (nI 0), .int (nI 0), .ref q1, .int (nI 0), .ref q11, .ref q23, .ref q38, .ref q56, .ref q77, .ref q97, .null, .int 0, .int (nI 0), .null, .null, .null, .null, .long 0])) := zself hV110
  refine z_aload_n C 0 rfl dX3_init_59 rfl ?_
  refine z_bipush C (v := (nI 6)) dX3_init_60 rfl ?_
  refine z_newa_i C q121 (by omega) (by decide) (by decide) dX3_init_62 (fun q119 hq120 => z_nV (fun V121 hV122 => ?_))
  have g123 := zup hV122 (zne_new g111 hq120) g111
  have g124 := zup hV122 (zne_new g112 hq120) g112
  have g125 := zup hV122 (zne_new g113 hq120) g113
  have g126 := zup hV122 (zne_new g114 hq120) g114
  have g127 := zup hV122 (zne_new g115 hq120) g115
  have g128 := zup hV122 (zne_new g116 hq120) g116
  have g129 := zup hV122 (zne_new g117 hq120) g117
  have g130 := zup hV122 (zne_new g118 hq120) g118
  have g131 : V121 q119 = some (.inl (D.arr 0, 6, .inl (fun _ => 0))) := zself hV122
  refine z_putF C k_M g130 11 (by decide) [.int 0, .int (nI 0), .int (nI 0), .ref q1, .int (nI 0), .ref q11, .ref q23, .ref q38, .ref q56, .ref q77, .ref q97, .ref q119, .int 0, .int (nI 0), .null, .null, .null, .null, .long 0] rfl (Nat.le_of_ble_eq_true rfl) rfl rfl rfl rfl rfl q1398 dX3_init_64 (z_nV (fun V132 hV133 => ?_))
  have g134 := zup hV133 (zne_ao g123 g130) g123
  have g135 := zup hV133 (zne_ao g124 g130) g124
  have g136 := zup hV133 (zne_ao g125 g130) g125
  have g137 := zup hV133 (zne_ao g126 g130) g126
  have g138 := zup hV133 (zne_ao g127 g130) g127
  have g139 := zup hV133 (zne_ao g128 g130) g128
  have g140 := zup hV133 (zne_ao g129 g130) g129
  have g141 := zup hV133 (zne_ao g131 g130) g131
  have g142 : V132 m = some (.inr (2, [.int 0, .int (nI 0), .int (nI 0), .ref q1, .int (nI 0), .ref q11, .ref q23, .ref q38, .ref q56, .ref q77, .ref q97, .ref q119, .int 0, .int (nI 0), .null, .null, .null, .null, .long 0])) := zself hV133
  refine z_aload_n C 0 rfl dX3_init_67 rfl ?_
  refine z_bipush C (v := (nI 30)) dX3_init_68 rfl ?_
  refine z_newa_i C q121 (by omega) (by decide) (by decide) dX3_init_70 (fun q143 hq144 => z_nV (fun V145 hV146 => ?_))
  have g147 := zup hV146 (zne_new g134 hq144) g134
  have g148 := zup hV146 (zne_new g135 hq144) g135
  have g149 := zup hV146 (zne_new g136 hq144) g136
  have g150 := zup hV146 (zne_new g137 hq144) g137
  have g151 := zup hV146 (zne_new g138 hq144) g138
  have g152 := zup hV146 (zne_new g139 hq144) g139
  have g153 := zup hV146 (zne_new g140 hq144) g140
  have g154 := zup hV146 (zne_new g141 hq144) g141
  have g155 := zup hV146 (zne_new g142 hq144) g142
  have g156 : V145 q143 = some (.inl (D.arr 0, 30, .inl (fun _ => 0))) := zself hV146
  refine z_putF C k_M g155 14 (by decide) [.int 0, .int (nI 0), .int (nI 0), .ref q1, .int (nI 0), .ref q11, .ref q23, .ref q38, .ref q56, .ref q77, .ref q97, .ref q119, .int 0, .int (nI 0), .ref q143, .null, .null, .null, .long 0] rfl (Nat.le_of_ble_eq_true rfl) rfl rfl rfl rfl rfl q1401 dX3_init_72 (z_nV (fun V157 hV158 => ?_))
  have g159 := zup hV158 (zne_ao g147 g155) g147
  have g160 := zup hV158 (zne_ao g148 g155) g148
  have g161 := zup hV158 (zne_ao g149 g155) g149
  have g162 := zup hV158 (zne_ao g150 g155) g150
  have g163 := zup hV158 (zne_ao g151 g155) g151
  have g164 := zup hV158 (zne_ao g152 g155) g152
  have g165 := zup hV158 (zne_ao g153 g155) g153
  have g166 := zup hV158 (zne_ao g154 g155) g154
  have g167 := zup hV158 (zne_ao g156 g155) g156
  have g168 : V157 m = some (.inr (2, [.int 0, .int (nI 0), .int (nI 0), .ref q1, .int (nI 0), .ref q11, .ref q23, .ref q38, .ref q56, .ref q77, .ref q97, .ref q119, .int 0, .int (nI 0), .ref q143, .null, .null, .null, .long 0])) := zself hV158
  refine z_aload_n C 0 rfl dX3_init_75 rfl ?_
  refine z_bipush C (v := (nI 30)) dX3_init_76 rfl ?_
  refine z_newa_i C q121 (by omega) (by decide) (by decide) dX3_init_78 (fun q169 hq170 => z_nV (fun V171 hV172 => ?_))
  have g173 := zup hV172 (zne_new g159 hq170) g159
  have g174 := zup hV172 (zne_new g160 hq170) g160
  have g175 := zup hV172 (zne_new g161 hq170) g161
  have g176 := zup hV172 (zne_new g162 hq170) g162
  have g177 := zup hV172 (zne_new g163 hq170) g163
  have g178 := zup hV172 (zne_new g164 hq170) g164
  have g179 := zup hV172 (zne_new g165 hq170) g165
  have g180 := zup hV172 (zne_new g166 hq170) g166
  have nx181 : q143 ≠ q169 := (zne_new g167 hq170)
  have g182 := zup hV172 (zne_new g167 hq170) g167
  have g183 := zup hV172 (zne_new g168 hq170) g168
  have g184 : V171 q169 = some (.inl (D.arr 0, 30, .inl (fun _ => 0))) := zself hV172
  refine z_putF C k_M g183 15 (by decide) [.int 0, .int (nI 0), .int (nI 0), .ref q1, .int (nI 0), .ref q11, .ref q23, .ref q38, .ref q56, .ref q77, .ref q97, .ref q119, .int 0, .int (nI 0), .ref q143, .ref q169, .null, .null, .long 0] rfl (Nat.le_of_ble_eq_true rfl) rfl rfl rfl rfl rfl q1402 dX3_init_80 (z_nV (fun V185 hV186 => ?_))
  have g187 := zup hV186 (zne_ao g173 g183) g173
  have g188 := zup hV186 (zne_ao g174 g183) g174
  have g189 := zup hV186 (zne_ao g175 g183) g175
  have g190 := zup hV186 (zne_ao g176 g183) g176
  have g191 := zup hV186 (zne_ao g177 g183) g177
  have g192 := zup hV186 (zne_ao g178 g183) g178
  have g193 := zup hV186 (zne_ao g179 g183) g179
  have g194 := zup hV186 (zne_ao g180 g183) g180
  have g195 := zup hV186 (zne_ao g182 g183) g182
  have g196 := zup hV186 (zne_ao g184 g183) g184
  have g197 : V185 m = some (.inr (2, [.int 0, .int (nI 0), .int (nI 0), .ref q1, .int (nI 0), .ref q11, .ref q23, .ref q38, .ref q56, .ref q77, .ref q97, .ref q119, .int 0, .int (nI 0), .ref q143, .ref q169, .null, .null, .long 0])) := zself hV186
  refine z_aload_n C 0 rfl dX3_init_83 rfl ?_
  refine z_bipush C (v := (nI 30)) dX3_init_84 rfl ?_
  refine z_newa_i C q121 (by omega) (by decide) (by decide) dX3_init_86 (fun q198 hq199 => z_nV (fun V200 hV201 => ?_))
  have g202 := zup hV201 (zne_new g187 hq199) g187
  have g203 := zup hV201 (zne_new g188 hq199) g188
  have g204 := zup hV201 (zne_new g189 hq199) g189
  have g205 := zup hV201 (zne_new g190 hq199) g190
  have g206 := zup hV201 (zne_new g191 hq199) g191
  have g207 := zup hV201 (zne_new g192 hq199) g192
  have g208 := zup hV201 (zne_new g193 hq199) g193
  have g209 := zup hV201 (zne_new g194 hq199) g194
  have nx210 : q143 ≠ q198 := (zne_new g195 hq199)
  have g211 := zup hV201 (zne_new g195 hq199) g195
  have nx212 : q169 ≠ q198 := (zne_new g196 hq199)
  have g213 := zup hV201 (zne_new g196 hq199) g196
  have g214 := zup hV201 (zne_new g197 hq199) g197
  have g215 : V200 q198 = some (.inl (D.arr 0, 30, .inl (fun _ => 0))) := zself hV201
  refine z_putF C k_M g214 16 (by decide) [.int 0, .int (nI 0), .int (nI 0), .ref q1, .int (nI 0), .ref q11, .ref q23, .ref q38, .ref q56, .ref q77, .ref q97, .ref q119, .int 0, .int (nI 0), .ref q143, .ref q169, .ref q198, .null, .long 0] rfl (Nat.le_of_ble_eq_true rfl) rfl rfl rfl rfl rfl q1403 dX3_init_88 (z_nV (fun V216 hV217 => ?_))
  have g218 := zup hV217 (zne_ao g202 g214) g202
  have g219 := zup hV217 (zne_ao g203 g214) g203
  have g220 := zup hV217 (zne_ao g204 g214) g204
  have g221 := zup hV217 (zne_ao g205 g214) g205
  have g222 := zup hV217 (zne_ao g206 g214) g206
  have g223 := zup hV217 (zne_ao g207 g214) g207
  have g224 := zup hV217 (zne_ao g208 g214) g208
  have g225 := zup hV217 (zne_ao g209 g214) g209
  have g226 := zup hV217 (zne_ao g211 g214) g211
  have g227 := zup hV217 (zne_ao g213 g214) g213
  have g228 := zup hV217 (zne_ao g215 g214) g215
  have g229 : V216 m = some (.inr (2, [.int 0, .int (nI 0), .int (nI 0), .ref q1, .int (nI 0), .ref q11, .ref q23, .ref q38, .ref q56, .ref q77, .ref q97, .ref q119, .int 0, .int (nI 0), .ref q143, .ref q169, .ref q198, .null, .long 0])) := zself hV217
  refine z_aload_n C 0 rfl dX3_init_91 rfl ?_
  refine z_bipush C (v := (nI 30)) dX3_init_92 rfl ?_
  refine z_newa_c C q1446 (by omega) (by decide) (by decide) dX3_init_94 (fun q230 hq231 => z_nV (fun V232 hV233 => ?_))
  have g234 := zup hV233 (zne_new g218 hq231) g218
  have g235 := zup hV233 (zne_new g219 hq231) g219
  have g236 := zup hV233 (zne_new g220 hq231) g220
  have g237 := zup hV233 (zne_new g221 hq231) g221
  have g238 := zup hV233 (zne_new g222 hq231) g222
  have g239 := zup hV233 (zne_new g223 hq231) g223
  have g240 := zup hV233 (zne_new g224 hq231) g224
  have g241 := zup hV233 (zne_new g225 hq231) g225
  have nx242 : q143 ≠ q230 := (zne_new g226 hq231)
  have g243 := zup hV233 (zne_new g226 hq231) g226
  have nx244 : q169 ≠ q230 := (zne_new g227 hq231)
  have g245 := zup hV233 (zne_new g227 hq231) g227
  have nx246 : q198 ≠ q230 := (zne_new g228 hq231)
  have g247 := zup hV233 (zne_new g228 hq231) g228
  have g248 := zup hV233 (zne_new g229 hq231) g229
  have g249 : V232 q230 = some (.inl (D.arr 4, 30, .inl (fun _ => 0))) := zself hV233
  refine z_putF C k_M g248 17 (by decide) [.int 0, .int (nI 0), .int (nI 0), .ref q1, .int (nI 0), .ref q11, .ref q23, .ref q38, .ref q56, .ref q77, .ref q97, .ref q119, .int 0, .int (nI 0), .ref q143, .ref q169, .ref q198, .ref q230, .long 0] rfl (Nat.le_of_ble_eq_true rfl) rfl rfl rfl rfl rfl q1404 dX3_init_96 (z_nV (fun V250 hV251 => ?_))
  have g252 := zup hV251 (zne_ao g234 g248) g234
  have g253 := zup hV251 (zne_ao g235 g248) g235
  have g254 := zup hV251 (zne_ao g236 g248) g236
  have g255 := zup hV251 (zne_ao g237 g248) g237
  have g256 := zup hV251 (zne_ao g238 g248) g238
  have g257 := zup hV251 (zne_ao g239 g248) g239
  have g258 := zup hV251 (zne_ao g240 g248) g240
  have g259 := zup hV251 (zne_ao g241 g248) g241
  have g260 := zup hV251 (zne_ao g243 g248) g243
  have g261 := zup hV251 (zne_ao g245 g248) g245
  have g262 := zup hV251 (zne_ao g247 g248) g247
  have g263 := zup hV251 (zne_ao g249 g248) g249
  have g264 : V250 m = some (.inr (2, [.int 0, .int (nI 0), .int (nI 0), .ref q1, .int (nI 0), .ref q11, .ref q23, .ref q38, .ref q56, .ref q77, .ref q97, .ref q119, .int 0, .int (nI 0), .ref q143, .ref q169, .ref q198, .ref q230, .long 0])) := zself hV251
  have hall : ∀ i, i < 12 → V250 ((fun i => [q1, q11, q23, q38, q56, q77, q97, q119, q143, q169, q198, q230].getD i 0) i) = some (mEn D i (fun _ => 0)) := by
    intro i hi
    rcases (show i = 0 ∨ i = 1 ∨ i = 2 ∨ i = 3 ∨ i = 4 ∨ i = 5 ∨ i = 6 ∨ i = 7 ∨ i = 8 ∨ i = 9 ∨ i = 10 ∨ i = 11 by omega) with rfl | rfl | rfl | rfl | rfl | rfl | rfl | rfl | rfl | rfl | rfl | rfl
    · exact g252
    · exact g253
    · exact g254
    · exact g255
    · exact g256
    · exact g257
    · exact g258
    · exact g259
    · exact g260
    · exact g261
    · exact g262
    · exact g263
  have hinj : ∀ i j, i < 12 → j < 12 → (fun i => [q1, q11, q23, q38, q56, q77, q97, q119, q143, q169, q198, q230].getD i 0) i = (fun i => [q1, q11, q23, q38, q56, q77, q97, q119, q143, q169, q198, q230].getD i 0) j → i = j := by
    intro i j hi hj h
    rcases (show i = 0 ∨ i = 1 ∨ i = 2 ∨ i = 3 ∨ i = 4 ∨ i = 5 ∨ i = 6 ∨ i = 7 ∨ i = 8 ∨ i = 9 ∨ i = 10 ∨ i = 11 by omega) with rfl | rfl | rfl | rfl | rfl | rfl | rfl | rfl | rfl | rfl | rfl | rfl
    · rcases (show j = 0 ∨ j = 1 ∨ j = 2 ∨ j = 3 ∨ j = 4 ∨ j = 5 ∨ j = 6 ∨ j = 7 ∨ j = 8 ∨ j = 9 ∨ j = 10 ∨ j = 11 by omega) with rfl | rfl | rfl | rfl | rfl | rfl | rfl | rfl | rfl | rfl | rfl | rfl
      · rfl
      · exact absurd (show q1 = q11 from h) (zne_len g252 g253 (by decide))
      · exact absurd (show q1 = q23 from h) (zne_len g252 g254 (by decide))
      · exact absurd (show q1 = q38 from h) (zne_len g252 g255 (by decide))
      · exact absurd (show q1 = q56 from h) (zne_len g252 g256 (by decide))
      · exact absurd (show q1 = q77 from h) (zne_len g252 g257 (by decide))
      · exact absurd (show q1 = q97 from h) (zne_len g252 g258 (by decide))
      · exact absurd (show q1 = q119 from h) (zne_len g252 g259 (by decide))
      · exact absurd (show q1 = q143 from h) (zne_len g252 g260 (by decide))
      · exact absurd (show q1 = q169 from h) (zne_len g252 g261 (by decide))
      · exact absurd (show q1 = q198 from h) (zne_len g252 g262 (by decide))
      · exact absurd (show q1 = q230 from h) (zne_len g252 g263 (by decide))
    · rcases (show j = 0 ∨ j = 1 ∨ j = 2 ∨ j = 3 ∨ j = 4 ∨ j = 5 ∨ j = 6 ∨ j = 7 ∨ j = 8 ∨ j = 9 ∨ j = 10 ∨ j = 11 by omega) with rfl | rfl | rfl | rfl | rfl | rfl | rfl | rfl | rfl | rfl | rfl | rfl
      · exact absurd (show q11 = q1 from h) (zne_len g253 g252 (by decide))
      · rfl
      · exact absurd (show q11 = q23 from h) nx28
      · exact absurd (show q11 = q38 from h) nx43
      · exact absurd (show q11 = q56 from h) nx61
      · exact absurd (show q11 = q77 from h) (zne_len g253 g257 (by decide))
      · exact absurd (show q11 = q97 from h) (zne_len g253 g258 (by decide))
      · exact absurd (show q11 = q119 from h) (zne_len g253 g259 (by decide))
      · exact absurd (show q11 = q143 from h) (zne_len g253 g260 (by decide))
      · exact absurd (show q11 = q169 from h) (zne_len g253 g261 (by decide))
      · exact absurd (show q11 = q198 from h) (zne_len g253 g262 (by decide))
      · exact absurd (show q11 = q230 from h) (zne_len g253 g263 (by decide))
    · rcases (show j = 0 ∨ j = 1 ∨ j = 2 ∨ j = 3 ∨ j = 4 ∨ j = 5 ∨ j = 6 ∨ j = 7 ∨ j = 8 ∨ j = 9 ∨ j = 10 ∨ j = 11 by omega) with rfl | rfl | rfl | rfl | rfl | rfl | rfl | rfl | rfl | rfl | rfl | rfl
      · exact absurd (show q23 = q1 from h) (zne_len g254 g252 (by decide))
      · exact absurd (show q23 = q11 from h) (Ne.symm nx28)
      · rfl
      · exact absurd (show q23 = q38 from h) nx45
      · exact absurd (show q23 = q56 from h) nx63
      · exact absurd (show q23 = q77 from h) (zne_len g254 g257 (by decide))
      · exact absurd (show q23 = q97 from h) (zne_len g254 g258 (by decide))
      · exact absurd (show q23 = q119 from h) (zne_len g254 g259 (by decide))
      · exact absurd (show q23 = q143 from h) (zne_len g254 g260 (by decide))
      · exact absurd (show q23 = q169 from h) (zne_len g254 g261 (by decide))
      · exact absurd (show q23 = q198 from h) (zne_len g254 g262 (by decide))
      · exact absurd (show q23 = q230 from h) (zne_len g254 g263 (by decide))
    · rcases (show j = 0 ∨ j = 1 ∨ j = 2 ∨ j = 3 ∨ j = 4 ∨ j = 5 ∨ j = 6 ∨ j = 7 ∨ j = 8 ∨ j = 9 ∨ j = 10 ∨ j = 11 by omega) with rfl | rfl | rfl | rfl | rfl | rfl | rfl | rfl | rfl | rfl | rfl | rfl
      · exact absurd (show q38 = q1 from h) (zne_len g255 g252 (by decide))
      · exact absurd (show q38 = q11 from h) (Ne.symm nx43)
      · exact absurd (show q38 = q23 from h) (Ne.symm nx45)
      · rfl
      · exact absurd (show q38 = q56 from h) nx65
      · exact absurd (show q38 = q77 from h) (zne_len g255 g257 (by decide))
      · exact absurd (show q38 = q97 from h) (zne_len g255 g258 (by decide))
      · exact absurd (show q38 = q119 from h) (zne_len g255 g259 (by decide))
      · exact absurd (show q38 = q143 from h) (zne_len g255 g260 (by decide))
      · exact absurd (show q38 = q169 from h) (zne_len g255 g261 (by decide))
      · exact absurd (show q38 = q198 from h) (zne_len g255 g262 (by decide))
      · exact absurd (show q38 = q230 from h) (zne_len g255 g263 (by decide))
    · rcases (show j = 0 ∨ j = 1 ∨ j = 2 ∨ j = 3 ∨ j = 4 ∨ j = 5 ∨ j = 6 ∨ j = 7 ∨ j = 8 ∨ j = 9 ∨ j = 10 ∨ j = 11 by omega) with rfl | rfl | rfl | rfl | rfl | rfl | rfl | rfl | rfl | rfl | rfl | rfl
      · exact absurd (show q56 = q1 from h) (zne_len g256 g252 (by decide))
      · exact absurd (show q56 = q11 from h) (Ne.symm nx61)
      · exact absurd (show q56 = q23 from h) (Ne.symm nx63)
      · exact absurd (show q56 = q38 from h) (Ne.symm nx65)
      · rfl
      · exact absurd (show q56 = q77 from h) (zne_len g256 g257 (by decide))
      · exact absurd (show q56 = q97 from h) (zne_len g256 g258 (by decide))
      · exact absurd (show q56 = q119 from h) (zne_len g256 g259 (by decide))
      · exact absurd (show q56 = q143 from h) (zne_len g256 g260 (by decide))
      · exact absurd (show q56 = q169 from h) (zne_len g256 g261 (by decide))
      · exact absurd (show q56 = q198 from h) (zne_len g256 g262 (by decide))
      · exact absurd (show q56 = q230 from h) (zne_len g256 g263 (by decide))
    · rcases (show j = 0 ∨ j = 1 ∨ j = 2 ∨ j = 3 ∨ j = 4 ∨ j = 5 ∨ j = 6 ∨ j = 7 ∨ j = 8 ∨ j = 9 ∨ j = 10 ∨ j = 11 by omega) with rfl | rfl | rfl | rfl | rfl | rfl | rfl | rfl | rfl | rfl | rfl | rfl
      · exact absurd (show q77 = q1 from h) (zne_len g257 g252 (by decide))
      · exact absurd (show q77 = q11 from h) (zne_len g257 g253 (by decide))
      · exact absurd (show q77 = q23 from h) (zne_len g257 g254 (by decide))
      · exact absurd (show q77 = q38 from h) (zne_len g257 g255 (by decide))
      · exact absurd (show q77 = q56 from h) (zne_len g257 g256 (by decide))
      · rfl
      · exact absurd (show q77 = q97 from h) (zne_len g257 g258 (by decide))
      · exact absurd (show q77 = q119 from h) (zne_len g257 g259 (by decide))
      · exact absurd (show q77 = q143 from h) (zne_len g257 g260 (by decide))
      · exact absurd (show q77 = q169 from h) (zne_len g257 g261 (by decide))
      · exact absurd (show q77 = q198 from h) (zne_len g257 g262 (by decide))
      · exact absurd (show q77 = q230 from h) (zne_len g257 g263 (by decide))
    · rcases (show j = 0 ∨ j = 1 ∨ j = 2 ∨ j = 3 ∨ j = 4 ∨ j = 5 ∨ j = 6 ∨ j = 7 ∨ j = 8 ∨ j = 9 ∨ j = 10 ∨ j = 11 by omega) with rfl | rfl | rfl | rfl | rfl | rfl | rfl | rfl | rfl | rfl | rfl | rfl
      · exact absurd (show q97 = q1 from h) (zne_len g258 g252 (by decide))
      · exact absurd (show q97 = q11 from h) (zne_len g258 g253 (by decide))
      · exact absurd (show q97 = q23 from h) (zne_len g258 g254 (by decide))
      · exact absurd (show q97 = q38 from h) (zne_len g258 g255 (by decide))
      · exact absurd (show q97 = q56 from h) (zne_len g258 g256 (by decide))
      · exact absurd (show q97 = q77 from h) (zne_len g258 g257 (by decide))
      · rfl
      · exact absurd (show q97 = q119 from h) (zne_len g258 g259 (by decide))
      · exact absurd (show q97 = q143 from h) (zne_len g258 g260 (by decide))
      · exact absurd (show q97 = q169 from h) (zne_len g258 g261 (by decide))
      · exact absurd (show q97 = q198 from h) (zne_len g258 g262 (by decide))
      · exact absurd (show q97 = q230 from h) (zne_len g258 g263 (by decide))
    · rcases (show j = 0 ∨ j = 1 ∨ j = 2 ∨ j = 3 ∨ j = 4 ∨ j = 5 ∨ j = 6 ∨ j = 7 ∨ j = 8 ∨ j = 9 ∨ j = 10 ∨ j = 11 by omega) with rfl | rfl | rfl | rfl | rfl | rfl | rfl | rfl | rfl | rfl | rfl | rfl
      · exact absurd (show q119 = q1 from h) (zne_len g259 g252 (by decide))
      · exact absurd (show q119 = q11 from h) (zne_len g259 g253 (by decide))
      · exact absurd (show q119 = q23 from h) (zne_len g259 g254 (by decide))
      · exact absurd (show q119 = q38 from h) (zne_len g259 g255 (by decide))
      · exact absurd (show q119 = q56 from h) (zne_len g259 g256 (by decide))
      · exact absurd (show q119 = q77 from h) (zne_len g259 g257 (by decide))
      · exact absurd (show q119 = q97 from h) (zne_len g259 g258 (by decide))
      · rfl
      · exact absurd (show q119 = q143 from h) (zne_len g259 g260 (by decide))
      · exact absurd (show q119 = q169 from h) (zne_len g259 g261 (by decide))
      · exact absurd (show q119 = q198 from h) (zne_len g259 g262 (by decide))
      · exact absurd (show q119 = q230 from h) (zne_len g259 g263 (by decide))
    · rcases (show j = 0 ∨ j = 1 ∨ j = 2 ∨ j = 3 ∨ j = 4 ∨ j = 5 ∨ j = 6 ∨ j = 7 ∨ j = 8 ∨ j = 9 ∨ j = 10 ∨ j = 11 by omega) with rfl | rfl | rfl | rfl | rfl | rfl | rfl | rfl | rfl | rfl | rfl | rfl
      · exact absurd (show q143 = q1 from h) (zne_len g260 g252 (by decide))
      · exact absurd (show q143 = q11 from h) (zne_len g260 g253 (by decide))
      · exact absurd (show q143 = q23 from h) (zne_len g260 g254 (by decide))
      · exact absurd (show q143 = q38 from h) (zne_len g260 g255 (by decide))
      · exact absurd (show q143 = q56 from h) (zne_len g260 g256 (by decide))
      · exact absurd (show q143 = q77 from h) (zne_len g260 g257 (by decide))
      · exact absurd (show q143 = q97 from h) (zne_len g260 g258 (by decide))
      · exact absurd (show q143 = q119 from h) (zne_len g260 g259 (by decide))
      · rfl
      · exact absurd (show q143 = q169 from h) nx181
      · exact absurd (show q143 = q198 from h) nx210
      · exact absurd (show q143 = q230 from h) nx242
    · rcases (show j = 0 ∨ j = 1 ∨ j = 2 ∨ j = 3 ∨ j = 4 ∨ j = 5 ∨ j = 6 ∨ j = 7 ∨ j = 8 ∨ j = 9 ∨ j = 10 ∨ j = 11 by omega) with rfl | rfl | rfl | rfl | rfl | rfl | rfl | rfl | rfl | rfl | rfl | rfl
      · exact absurd (show q169 = q1 from h) (zne_len g261 g252 (by decide))
      · exact absurd (show q169 = q11 from h) (zne_len g261 g253 (by decide))
      · exact absurd (show q169 = q23 from h) (zne_len g261 g254 (by decide))
      · exact absurd (show q169 = q38 from h) (zne_len g261 g255 (by decide))
      · exact absurd (show q169 = q56 from h) (zne_len g261 g256 (by decide))
      · exact absurd (show q169 = q77 from h) (zne_len g261 g257 (by decide))
      · exact absurd (show q169 = q97 from h) (zne_len g261 g258 (by decide))
      · exact absurd (show q169 = q119 from h) (zne_len g261 g259 (by decide))
      · exact absurd (show q169 = q143 from h) (Ne.symm nx181)
      · rfl
      · exact absurd (show q169 = q198 from h) nx212
      · exact absurd (show q169 = q230 from h) nx244
    · rcases (show j = 0 ∨ j = 1 ∨ j = 2 ∨ j = 3 ∨ j = 4 ∨ j = 5 ∨ j = 6 ∨ j = 7 ∨ j = 8 ∨ j = 9 ∨ j = 10 ∨ j = 11 by omega) with rfl | rfl | rfl | rfl | rfl | rfl | rfl | rfl | rfl | rfl | rfl | rfl
      · exact absurd (show q198 = q1 from h) (zne_len g262 g252 (by decide))
      · exact absurd (show q198 = q11 from h) (zne_len g262 g253 (by decide))
      · exact absurd (show q198 = q23 from h) (zne_len g262 g254 (by decide))
      · exact absurd (show q198 = q38 from h) (zne_len g262 g255 (by decide))
      · exact absurd (show q198 = q56 from h) (zne_len g262 g256 (by decide))
      · exact absurd (show q198 = q77 from h) (zne_len g262 g257 (by decide))
      · exact absurd (show q198 = q97 from h) (zne_len g262 g258 (by decide))
      · exact absurd (show q198 = q119 from h) (zne_len g262 g259 (by decide))
      · exact absurd (show q198 = q143 from h) (Ne.symm nx210)
      · exact absurd (show q198 = q169 from h) (Ne.symm nx212)
      · rfl
      · exact absurd (show q198 = q230 from h) nx246
    · rcases (show j = 0 ∨ j = 1 ∨ j = 2 ∨ j = 3 ∨ j = 4 ∨ j = 5 ∨ j = 6 ∨ j = 7 ∨ j = 8 ∨ j = 9 ∨ j = 10 ∨ j = 11 by omega) with rfl | rfl | rfl | rfl | rfl | rfl | rfl | rfl | rfl | rfl | rfl | rfl
      · exact absurd (show q230 = q1 from h) (zne_len g263 g252 (by decide))
      · exact absurd (show q230 = q11 from h) (zne_len g263 g253 (by decide))
      · exact absurd (show q230 = q23 from h) (zne_len g263 g254 (by decide))
      · exact absurd (show q230 = q38 from h) (zne_len g263 g255 (by decide))
      · exact absurd (show q230 = q56 from h) (zne_len g263 g256 (by decide))
      · exact absurd (show q230 = q77 from h) (zne_len g263 g257 (by decide))
      · exact absurd (show q230 = q97 from h) (zne_len g263 g258 (by decide))
      · exact absurd (show q230 = q119 from h) (zne_len g263 g259 (by decide))
      · exact absurd (show q230 = q143 from h) (Ne.symm nx242)
      · exact absurd (show q230 = q169 from h) (Ne.symm nx244)
      · exact absurd (show q230 = q198 from h) (Ne.symm nx246)
      · rfl
  have hMX : MX D V250 m (fun i => [q1, q11, q23, q38, q56, q77, q97, q119, q143, q169, q198, q230].getD i 0) (fun _ _ => 0) 0 0 0 0 0 0 0 := ⟨g264, hall, hinj⟩
  exact z_vret C hQ () rfl ⟨_, _, hMX, ⟨fun s hs => absurd hs (Nat.not_lt_zero _), fun b hb => absurd hb (Nat.not_lt_zero _), fun b hb => absurd hb (Nat.not_lt_zero _), fun b hb => absurd hb (Nat.not_lt_zero _)⟩, fun b _ => rfl, ⟨fun s _ => rfl, fun s k b _ hk => by have hk : ([] : List Nat)[k]? = some b := hk; simp at hk⟩, fun a ha => absurd ha (Nat.not_lt_zero _)⟩ (by decide) (by decide) dX3_init_99
