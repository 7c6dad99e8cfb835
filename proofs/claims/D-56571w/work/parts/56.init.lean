/-! COMPONENT: a new Quaylock -/
set_option maxRecDepth 100000
theorem cR_0 {D : ZD} {V : ZV} {x y yb yh rr bb al t : Nat} {mb : Int32} (hx : V x = some (.inr (0, [.ref y, .ref rr, .ref bb, .ref al, .ref t, .int (nI 0), .int (nI 0), .int (nI 0), .int (nI 0), .int (nI 0), .long 0]))) (hY : hYd D V y yb yh (fun _ => none) (fun _ => 0)) (hr : V rr = some (.inl (D.arr 0, 4, .inl (fun _ => 0)))) (hne : rr ≠ yh) (hb : V bb = some (.inl (D.arr 1, 20, .inr (.inr (.inr (.inr (fun _ => none))))))) (ha : hAL D V al [] (D.at 0) 0 (fun _ => none) 0) (hT : tM V t [] [] mb) : cR D V x q0 := by
  refine ⟨y, yb, yh, rr, bb, al, t, D.at 0, 0, fun _ => none, fun _ => 0, fun _ => 0, fun _ => none, fun _ => 0, fun _ => 0, fun _ => 0, fun _ => none, 0, fun _ => 0, fun _ => 0, [], [], mb, fun _ => [], ?_, ?_, ?_, ?_, ?_⟩
  · exact hx
  · exact ⟨hY, ⟨fun s _ => rfl, fun s k b _ h => by simp [q0, qY] at h⟩, fun i z _ h => (by cases h), hr, hne, fun s hs => absurd hs (Nat.not_lt_zero _)⟩
  · exact ⟨hb, fun b _ => (if_neg (fun h => absurd h.1 (Nat.not_lt_zero _))).symm, fun c hc => absurd hc (Nat.not_lt_zero _), fun b h => absurd h (Nat.not_lt_zero _)⟩
  · exact ⟨ha, fun a h => absurd h (Nat.not_lt_zero _), fun a h => absurd h (Nat.not_lt_zero _)⟩
  · exact ⟨hT, fun i j p q h => by simp at h, fun a h => absurd h (Nat.not_lt_zero _), fun q h => absurd h (by simp), fun a h => absurd h (Nat.not_lt_zero _), rfl⟩

set_option maxHeartbeats 4000000 in
set_option maxRecDepth 100000 in
theorem mX1_init {l : Launch} {D : ZD} {V : ZV} {x : Nat} (hx : V x = some (.inr (0, [.null, .null, .null, .null, .null, .int (nI 0), .int (nI 0), .int (nI 0), .int (nI 0), .int (nI 0), .long 0]))) : ZM l D yX1_init (ws_ yX1_init cX1_init 1 none) 6 7 70 eU V [.ref x] (fun r V' => cR D V' x q0) zno_x := by
  refine z_enter (by decide +kernel) [(0, .ref x)] rfl (Nat.le_of_ble_eq_true rfl) (zcat_cons rfl zcat_nil) (fun Γ C hQ => ?_)
  refine z_aload_n C 0 rfl dX1_init_0 rfl ?_
  refine z_objInit C q102 q103 q104 dX1_init_1 (by decide) (by decide) ?_
  refine z_aload_n C 0 rfl dX1_init_4 rfl ?_
  refine z_new C k_Y q105 q106 q59 [.null, .null] k0_Y (by simp only [zr]; omega) (by simp only [zr]; omega) dX1_init_5 (fun q1 hq2 => z_nV (fun V3 hV4 => ?_))
  have g5 := zup hV4 (zne_new hx hq2) hx
  have g6 : V3 q1 = some (.inr (1, [.null, .null])) := zself hV4
  refine z_dup C dX1_init_8 rfl ?_
  refine z_callI C (rt := none) (As := []) (mX2_init g6) q109 q59 q107 q108 rfl hd_X2_init rfl (Nat.le_of_ble_eq_true rfl) (by decide) (by decide) (by omega) (by omega) rfl dX1_init_9 (fun _ _ h => h.elim) (fun r7 V8 hP9 => ?_)
  obtain ⟨yb, yh, hYd0, hu0⟩ := hP9
  refine z_st (st' := [.ref q1, .ref x]) rfl ?_
  have gx0 := hu0.get (fun e => zne_cc g5 g6 (by decide) e) g5
  refine z_putF C k_Q gx0 0 (by decide) [.ref q1, .null, .null, .null, .null, .int (nI 0), .int (nI 0), .int (nI 0), .int (nI 0), .int (nI 0), .long 0] rfl (Nat.le_of_ble_eq_true rfl) rfl rfl rfl rfl rfl q185 dX1_init_12 (z_nV (fun V10 hV11 => ?_))
  have g12 := zup hV11 (zne_cc hYd0.1 gx0 (by decide)) hYd0.1
  have g13 := zup hV11 (zne_ao hYd0.2.1 gx0) hYd0.2.1
  have g14 := zup hV11 (zne_ao hYd0.2.2 gx0) hYd0.2.2
  have g15 : V10 x = some (.inr (0, [.ref q1, .null, .null, .null, .null, .int (nI 0), .int (nI 0), .int (nI 0), .int (nI 0), .int (nI 0), .long 0])) := zself hV11
  refine z_aload_n C 0 rfl dX1_init_15 rfl ?_
  refine z_iconst C (v := (nI 4)) dX1_init_16 rfl ?_
  refine z_newa_i C q121 (by omega) (by simp only [zr]; omega) (by simp only [zr]; omega) dX1_init_17 (fun q16 hq17 => z_nV (fun V18 hV19 => ?_))
  have g20 := zup hV19 (zne_new g12 hq17) g12
  have g21 := zup hV19 (zne_new g13 hq17) g13
  have nx22 : yh ≠ q16 := (zne_new g14 hq17)
  have g23 := zup hV19 (zne_new g14 hq17) g14
  have g24 := zup hV19 (zne_new g15 hq17) g15
  have g25 : V18 q16 = some (.inl (D.arr 0, 4, .inl (fun _ => 0))) := zself hV19
  skip
  have hrny : q16 ≠ yh := Ne.symm nx22
  refine z_putF C k_Q g24 1 (by decide) [.ref q1, .ref q16, .null, .null, .null, .int (nI 0), .int (nI 0), .int (nI 0), .int (nI 0), .int (nI 0), .long 0] rfl (Nat.le_of_ble_eq_true rfl) rfl rfl rfl rfl rfl q186 dX1_init_19 (z_nV (fun V26 hV27 => ?_))
  have g28 := zup hV27 (zne_cc g20 g24 (by decide)) g20
  have g29 := zup hV27 (zne_ao g21 g24) g21
  have g30 := zup hV27 (zne_ao g23 g24) g23
  have g31 := zup hV27 (zne_ao g25 g24) g25
  have g32 : V26 x = some (.inr (0, [.ref q1, .ref q16, .null, .null, .null, .int (nI 0), .int (nI 0), .int (nI 0), .int (nI 0), .int (nI 0), .long 0])) := zself hV27
  refine z_aload_n C 0 rfl dX1_init_22 rfl ?_
  refine z_bipush C (v := (nI 20)) dX1_init_23 rfl ?_
  refine z_newq C 1 (by decide) q122 (by omega) (by simp only [zr]; omega) (by simp only [zr]; omega) dX1_init_25 (fun q33 hq34 => z_nV (fun V35 hV36 => ?_))
  have g37 := zup hV36 (zne_new g28 hq34) g28
  have g38 := zup hV36 (zne_new g29 hq34) g29
  have g39 := zup hV36 (zne_new g30 hq34) g30
  have g40 := zup hV36 (zne_new g31 hq34) g31
  have g41 := zup hV36 (zne_new g32 hq34) g32
  have g42 : V35 q33 = some (.inl (D.arr 1, 20, .inr (.inr (.inr (.inr (fun _ => none)))))) := zself hV36
  refine z_putF C k_Q g41 2 (by decide) [.ref q1, .ref q16, .ref q33, .null, .null, .int (nI 0), .int (nI 0), .int (nI 0), .int (nI 0), .int (nI 0), .long 0] rfl (Nat.le_of_ble_eq_true rfl) rfl rfl rfl rfl rfl q187 dX1_init_28 (z_nV (fun V43 hV44 => ?_))
  have g45 := zup hV44 (zne_cc g37 g41 (by decide)) g37
  have g46 := zup hV44 (zne_ao g38 g41) g38
  have g47 := zup hV44 (zne_ao g39 g41) g39
  have g48 := zup hV44 (zne_ao g40 g41) g40
  have g49 := zup hV44 (zne_ao g42 g41) g42
  have g50 : V43 x = some (.inr (0, [.ref q1, .ref q16, .ref q33, .null, .null, .int (nI 0), .int (nI 0), .int (nI 0), .int (nI 0), .int (nI 0), .long 0])) := zself hV44
  refine z_aload_n C 0 rfl dX1_init_31 rfl ?_
  refine z_new C k_AL q123 q124 q62 [.int (nI 0), .null, .int (nI 0)] k0_AL (by simp only [zr]; omega) (by simp only [zr]; omega) dX1_init_32 (fun q51 hq52 => z_nV (fun V53 hV54 => ?_))
  have g55 := zup hV54 (zne_new g45 hq52) g45
  have g56 := zup hV54 (zne_new g46 hq52) g46
  have g57 := zup hV54 (zne_new g47 hq52) g47
  have g58 := zup hV54 (zne_new g48 hq52) g48
  have g59 := zup hV54 (zne_new g49 hq52) g49
  have g60 := zup hV54 (zne_new g50 hq52) g50
  have g61 : V53 q51 = some (.inr (8, [.int (nI 0), .null, .int (nI 0)])) := zself hV54
  refine z_dup C dX1_init_35 rfl ?_
  refine z_callI C (rt := none) (As := []) (mJ2_init g61) q127 q62 q125 q126 rfl hd_J2_init rfl (Nat.le_of_ble_eq_true rfl) (by decide) (by decide) (by omega) (by omega) rfl dX1_init_36 (fun _ _ h => h.elim) (fun r62 V63 hP64 => ?_)
  obtain ⟨hal0, hua⟩ := hP64
  refine z_st (st' := [.ref q51, .ref x]) rfl ?_
  have g65 := hua.get (fun e => (zne_cc g55 g61 (by decide)) e) g55
  have g66 := hua.get (fun e => (zne_ao g56 g61) e) g56
  have g67 := hua.get (fun e => (zne_ao g57 g61) e) g57
  have g68 := hua.get (fun e => (zne_ao g58 g61) e) g58
  have g69 := hua.get (fun e => (zne_ao g59 g61) e) g59
  have g70 := hua.get (fun e => (zne_cc g60 g61 (by decide)) e) g60
  refine z_putF C k_Q g70 3 (by decide) [.ref q1, .ref q16, .ref q33, .ref q51, .null, .int (nI 0), .int (nI 0), .int (nI 0), .int (nI 0), .int (nI 0), .long 0] rfl (Nat.le_of_ble_eq_true rfl) rfl rfl rfl rfl rfl q188 dX1_init_39 (z_nV (fun V71 hV72 => ?_))
  have g73 := zup hV72 (zne_cc g65 g70 (by decide)) g65
  have g74 := zup hV72 (zne_ao g66 g70) g66
  have g75 := zup hV72 (zne_ao g67 g70) g67
  have g76 := zup hV72 (zne_ao g68 g70) g68
  have g77 := zup hV72 (zne_ao g69 g70) g69
  have g78 := zup hV72 (zne_cc hal0.1 g70 (by decide)) hal0.1
  have g79 : V71 x = some (.inr (0, [.ref q1, .ref q16, .ref q33, .ref q51, .null, .int (nI 0), .int (nI 0), .int (nI 0), .int (nI 0), .int (nI 0), .long 0])) := zself hV72
  refine z_aload_n C 0 rfl dX1_init_42 rfl ?_
  refine z_new C k_TM q152 q153 q64 [.null, .null, .null, .null, .int (nI 0), .int (nI 0), .null, .null, .null] k0_TM (by simp only [zr]; omega) (by simp only [zr]; omega) dX1_init_43 (fun q80 hq81 => z_nV (fun V82 hV83 => ?_))
  have g84 := zup hV83 (zne_new g73 hq81) g73
  have g85 := zup hV83 (zne_new g74 hq81) g74
  have g86 := zup hV83 (zne_new g75 hq81) g75
  have g87 := zup hV83 (zne_new g76 hq81) g76
  have g88 := zup hV83 (zne_new g77 hq81) g77
  have g89 := zup hV83 (zne_new g78 hq81) g78
  have g90 := zup hV83 (zne_new g79 hq81) g79
  have g91 : V82 q80 = some (.inr (9, [.null, .null, .null, .null, .int (nI 0), .int (nI 0), .null, .null, .null])) := zself hV83
  refine z_dup C dX1_init_46 rfl ?_
  refine z_callI C (rt := none) (As := []) (mJ4_init g91) q156 q64 q154 q155 rfl hd_J4_init rfl (Nat.le_of_ble_eq_true rfl) (by decide) (by decide) (by omega) (by omega) rfl dX1_init_47 (fun _ _ h => h.elim) (fun r92 V93 hP94 => ?_)
  obtain ⟨htm0, hut⟩ := hP94
  refine z_st (st' := [.ref q80, .ref x]) rfl ?_
  have g95 := hut.get (fun e => (zne_cc g84 g91 (by decide)) e) g84
  have g96 := hut.get (fun e => (zne_ao g85 g91) e) g85
  have g97 := hut.get (fun e => (zne_ao g86 g91) e) g86
  have g98 := hut.get (fun e => (zne_ao g87 g91) e) g87
  have g99 := hut.get (fun e => (zne_ao g88 g91) e) g88
  have g100 := hut.get (fun e => (zne_cc g89 g91 (by decide)) e) g89
  have g101 := hut.get (fun e => (zne_cc g90 g91 (by decide)) e) g90
  refine z_putF C k_Q g101 4 (by decide) [.ref q1, .ref q16, .ref q33, .ref q51, .ref q80, .int (nI 0), .int (nI 0), .int (nI 0), .int (nI 0), .int (nI 0), .long 0] rfl (Nat.le_of_ble_eq_true rfl) rfl rfl rfl rfl rfl q189 dX1_init_50 (z_nV (fun V102 hV103 => ?_))
  have hT104 := htm0.mv (up_u hV103) (fun a hc z => by obtain ⟨e, k1, k2⟩ := htm0.kd a hc; rw [show a = x from z, g101] at k1; cases k1; exact absurd (show (0 : Nat) = 4 from k2) (by decide))
  have g105 := zup hV103 (zne_cc g95 g101 (by decide)) g95
  have g106 := zup hV103 (zne_ao g96 g101) g96
  have g107 := zup hV103 (zne_ao g97 g101) g97
  have g108 := zup hV103 (zne_ao g98 g101) g98
  have g109 := zup hV103 (zne_ao g99 g101) g99
  have g110 := zup hV103 (zne_cc g100 g101 (by decide)) g100
  have g111 : V102 x = some (.inr (0, [.ref q1, .ref q16, .ref q33, .ref q51, .ref q80, .int (nI 0), .int (nI 0), .int (nI 0), .int (nI 0), .int (nI 0), .long 0])) := zself hV103
  exact z_vret C hQ () rfl (cR_0 g111 ⟨g105, g106, g107⟩ g108 hrny g109 ⟨g110, Or.inl ⟨rfl, rfl, rfl⟩⟩ hT104) (by omega) (by omega) dX1_init_53
set_option maxHeartbeats 4000000 in
set_option maxRecDepth 100000 in
theorem mX1_numberAt {l : Launch} {D : ZD} {V : ZV} {a n : Nat} {f : Nat → Int32} {v2 : Int32} (ha : V a = some (.inl (D.arr 0, n, .inl f))) (hn : n < 100) : ZM l D yX1_numberAt (ws_ yX1_numberAt cX1_numberAt 2 (some .int)) 7 1 6 eI V [.ref a, .int v2] (fun r V' => V' = V ∧ vN v2 < n ∧ r = f (vN v2)) (fun E V' => E = "java/util/NoSuchElementException" ∧ V' = V ∧ ¬ vN v2 < n) := by
  refine z_enter (by decide +kernel) [(0, .ref a), (1, .int v2)] rfl (Nat.le_of_ble_eq_true rfl) (zcat_cons rfl (zcat_cons rfl zcat_nil)) (fun Γ C hQ => ?_)
  refine z_iload_n C 1 rfl dX1_numberAt_0 rfl ?_
  refine z_iconst C (v := (nI 0)) dX1_numberAt_1 rfl ?_
  refine z_aload_n C 0 rfl dX1_numberAt_2 rfl ?_
  refine z_alen C 0 rfl ha (n := n) rfl dX1_numberAt_3 ?_
  refine z_iconst C (v := (nI 1)) dX1_numberAt_4 rfl ?_
  refine z_isub C dX1_numberAt_5 ?_
  refine z_callS C (As := [.int v2, .int (nI 0), .int ((nI n) - (nI 1))]) (mX1_isBetween) (lw_S q231 q232 q58 q233) hd_X1_isBetween rfl (Nat.le_of_ble_eq_true rfl) (by decide) (by decide) (by omega) (by omega) rfl dX1_numberAt_6 (fun _ _ h => h.elim) (fun r1 V2 hP3 => ?_)
  have hq4 : r1 = decide (0 ≤ vN v2 ∧ vN v2 < n) := hP3.2.trans (in_lt (by omega) (by omega))
  rw [hP3.1, hq4]
  refine z_st (st' := [.int (zb (decide (0 ≤ vN v2 ∧ vN v2 < n)))]) rfl ?_
  refine z_callS C (As := [.int (zb (decide (0 ≤ vN v2 ∧ vN v2 < n)))]) (mX1_checkElement) (lw_S q525 q526 q58 q527) hd_X1_checkElement rfl (Nat.le_of_ble_eq_true rfl) (by decide) (by decide) (by omega) (by omega) rfl dX1_numberAt_9 (fun E V9 hE9 => ?_) (fun r5 V6 hP7 => ?_)
  · skip
    obtain ⟨rfl, rfl, hf8⟩ := hE9
    exact z_out C hQ (fun _ h => nomatch h) ⟨rfl, rfl, by simpa using hf8⟩ (by omega) (by omega)
  · skip
    obtain ⟨e9, hb9⟩ := hP7
    rw [e9]
    refine z_st (st' := []) rfl ?_
    have hvn : vN v2 < n := by simpa using hb9
    have hv10 := vN_of (v := v2) hvn (by omega)
    have e11 : (.int v2 : Value) = .int (nI (vN v2)) := (congrArg Value.int hv10)
    refine z_lv (lv' := [(0, .ref a), (1, .int (nI (vN v2)))]) (by rw [e11]) ?_
    refine z_aload_n C 0 rfl dX1_numberAt_12 rfl ?_
    refine z_iload_n C 1 rfl dX1_numberAt_13 rfl ?_
    refine z_iald C ha (by omega) (by omega) (v := (f (vN v2))) rfl dX1_numberAt_14 ?_
    exact z_iret C hQ (f (vN v2)) rfl ⟨rfl, hvn, rfl⟩ (by decide) (by decide) dX1_numberAt_15
