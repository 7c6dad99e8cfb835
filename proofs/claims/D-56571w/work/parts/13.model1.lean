/-! MODEL, the yards: placeOf .. copies -/
set_option maxRecDepth 100000
set_option maxHeartbeats 4000000 in
set_option maxRecDepth 100000 in
theorem mX3_placeOf {l : Launch} {D : ZD} {V : ZV} {m : Nat} {A : Nat → Nat} {F : Nat → Nat → Int32} {cd : Int32} {nw st bx : Nat} {mv : Int32} {ap : Nat} {lf : Int64} (hM : MX D V m A F cd nw st bx mv ap lf) (hst : st ≤ 4) (hbx : bx ≤ 20) {y : Nat} {Y : YD} (hy : mY F y Y) (hyl : y < 6) (hok : yOK st Y) {b t : Nat} (hb : b ∈ Y t) : ZM l D yX3_placeOf (ws_ yX3_placeOf cX3_placeOf 5 (some .int)) 1 0 0 eN V [.ref m, .int (nI y), .int (nI b)] (fun r V' => V' = V ∧ r = t) zno_x := by
  refine z_enter (by decide +kernel) [(0, .ref m), (1, .int (nI y)), (2, .int (nI b))] rfl (Nat.le_of_ble_eq_true rfl) (zcat_cons rfl (zcat_cons rfl (zcat_cons rfl zcat_nil))) (fun Γ C hQ => ?_)
  have htl := hok.lt hb
  have hb20 := hok.2.2.1 t b hb
  refine z_iconst C (v := (nI 0)) dX3_placeOf_0 rfl ?_
  refine z_istore_n C [(3, .int (nI 0)), (0, .ref m), (1, .int (nI y)), (2, .int (nI b))] dX3_placeOf_1 rfl (by decide) rfl ?_
  have loop1 : ∀ (n_loop1 : Nat) (s : Nat), s ≤ t → t - s < n_loop1 → ZW l D Γ (zr 1 0 0) 2 [(3, .int (nI s)), (0, .ref m), (1, .int (nI y)), (2, .int (nI b))] [] V 0 0 := by
    intro n_loop1
    induction n_loop1 with
    | zero => intro s _ hm; exact absurd hm (Nat.not_lt_zero _)
    | succ n_loop1 ih_loop1 =>
      intro s hloop1_0 hm
      have hl4 := hok.1 s
      refine z_iload_n C 0 rfl dX3_placeOf_2 rfl ?_
      refine z_aload_n C 1 rfl dX3_placeOf_3 rfl ?_
      refine z_get C k_M hM.1 2 (by decide) rfl q1389 dX3_placeOf_4 ?_
      refine z_icmp_geN C 62 (by omega) (by omega) dX3_placeOf_7 (by decide) (fun c7 => ?_) (fun c7 => ?_)
      · skip
        exfalso; omega
      · skip
        refine z_iconst C (v := (nI 0)) dX3_placeOf_10 rfl ?_
        refine z_istore C [(4, .int (nI 0)), (3, .int (nI s)), (0, .ref m), (1, .int (nI y)), (2, .int (nI b))] dX3_placeOf_11 (by decide) rfl ?_
        have loop2 : ∀ (n_loop2 : Nat) (k : Nat), k ≤ (Y s).length → (∀ j, j < k → (Y s)[j]? ≠ some b) → (Y s).length - k < n_loop2 → ZW l D Γ (zr 1 0 0) 13 [(4, .int (nI k)), (3, .int (nI s)), (0, .ref m), (1, .int (nI y)), (2, .int (nI b))] [] V 0 0 := by
          intro n_loop2
          induction n_loop2 with
          | zero => intro k _ _ hm; exact absurd hm (Nat.not_lt_zero _)
          | succ n_loop2 ih_loop2 =>
            intro k hloop2_0 hloop2_1 hm
            refine z_iload C 0 rfl dX3_placeOf_13 ?_
            refine z_aload_n C 2 rfl dX3_placeOf_15 rfl ?_
            refine z_get C k_M hM.1 9 (by decide) rfl q1396 dX3_placeOf_16 ?_
            refine z_iconst C (v := (nI 4)) dX3_placeOf_19 rfl ?_
            refine z_iload_n C 3 rfl dX3_placeOf_20 rfl ?_
            refine z_imulN C dX3_placeOf_21 ?_
            refine z_iload_n C 1 rfl dX3_placeOf_22 rfl ?_
            refine z_iaddN C dX3_placeOf_23 ?_
            have ga3 : V (A 5) = some (.inl (D.arr 0, 24, .inl (F 5))) := hM.2.1 5 (by decide)
            refine z_iald C ga3 (by omega) (by omega) (v := (nI ((Y s).length))) (hy.1 s (by omega)) dX3_placeOf_24 ?_
            refine z_icmp_geN C 56 (by omega) (by omega) dX3_placeOf_25 (by decide) (fun c25 => ?_) (fun c25 => ?_)
            · skip
              have hns : s ≠ t := fun e => by subst e; obtain ⟨j, hj, hjb⟩ := List.getElem_of_mem hb; exact hloop2_1 j (by omega) (by rw [List.getElem?_eq_getElem hj, hjb])
              refine z_iincN C 1 1 [(3, .int (nI (s + 1))), (4, .int (nI k)), (0, .ref m), (1, .int (nI y)), (2, .int (nI b))] rfl dX3_placeOf_56 rfl (by decide) rfl ?_
              refine z_goto C 2 dX3_placeOf_59 (by decide) ?_
              refine z_pick [(3, .int (nI (s + 1))), (0, .ref m), (1, .int (nI y)), (2, .int (nI b))] [0, 2, 3, 4] rfl ?_
              exact ih_loop1 (s + 1) (by omega) (by omega)
            · skip
              obtain ⟨c, hc⟩ : ∃ c, (Y s)[k]? = some c := ⟨_, List.getElem?_eq_getElem (by omega)⟩
              have hc20 := hok.2.2.1 s c (List.mem_of_getElem? hc)
              refine z_aload_n C 2 rfl dX3_placeOf_28 rfl ?_
              refine z_get C k_M hM.1 10 (by decide) rfl q1397 dX3_placeOf_29 ?_
              refine z_bipush C (v := (nI 16)) dX3_placeOf_32 rfl ?_
              refine z_iload_n C 3 rfl dX3_placeOf_34 rfl ?_
              refine z_imulN C dX3_placeOf_35 ?_
              refine z_iconst C (v := (nI 4)) dX3_placeOf_36 rfl ?_
              refine z_iload_n C 1 rfl dX3_placeOf_37 rfl ?_
              refine z_imulN C dX3_placeOf_38 ?_
              refine z_iaddN C dX3_placeOf_39 ?_
              refine z_iload C 0 rfl dX3_placeOf_40 ?_
              refine z_iaddN C dX3_placeOf_42 ?_
              have ga4 : V (A 6) = some (.inl (D.arr 0, 96, .inl (F 6))) := hM.2.1 6 (by decide)
              refine z_iald C ga4 (by omega) (by omega) (v := (nI c)) (hy.2 _ _ _ (by omega) hc) dX3_placeOf_43 ?_
              refine z_iload_n C 4 rfl dX3_placeOf_44 rfl ?_
              refine z_icmp_neN C 50 (by omega) (by omega) dX3_placeOf_45 (by decide) (fun c45 => ?_) (fun c45 => ?_)
              · skip
                refine z_iincN C 0 1 [(4, .int (nI (k + 1))), (3, .int (nI s)), (0, .ref m), (1, .int (nI y)), (2, .int (nI b))] rfl dX3_placeOf_50 rfl (by decide) rfl ?_
                refine z_goto C 13 dX3_placeOf_53 (by decide) ?_
                have hnext : ∀ j, j < k + 1 → (Y s)[j]? ≠ some b := by
                  intro j hj
                  rcases Nat.lt_or_ge j k with q | q
                  · exact hloop2_1 j q
                  · obtain rfl : j = k := by omega
                    rw [hc]; intro e; have := Option.some.inj e; omega
                exact ih_loop2 (k + 1) (by omega) hnext (by omega)
              · skip
                have hcb : c = b := by omega
                have hst2 : s = t := hok.2.2.2.2 s t b (by rw [← hcb]; exact List.mem_of_getElem? hc) hb
                refine z_iload_n C 1 rfl dX3_placeOf_48 rfl ?_
                exact z_iret C hQ s rfl ⟨rfl, hst2⟩ (by decide) (by decide) dX3_placeOf_49
        exact loop2 _ 0 (Nat.zero_le _) (fun j hj => absurd hj (Nat.not_lt_zero _)) (Nat.lt_succ_self _)
  exact loop1 _ 0 (Nat.zero_le _) (Nat.lt_succ_self _)
set_option maxHeartbeats 4000000 in
set_option maxRecDepth 100000 in
theorem mX3_levelOf {l : Launch} {D : ZD} {V : ZV} {m : Nat} {A : Nat → Nat} {F : Nat → Nat → Int32} {cd : Int32} {nw st bx : Nat} {mv : Int32} {ap : Nat} {lf : Int64} (hM : MX D V m A F cd nw st bx mv ap lf) (hst : st ≤ 4) (hbx : bx ≤ 20) {y : Nat} {Y : YD} (hy : mY F y Y) (hyl : y < 6) (hok : yOK st Y) {b t : Nat} (hb : b ∈ Y t) {k : Nat} (hk : (Y t)[k]? = some b) : ZM l D yX3_levelOf (ws_ yX3_levelOf cX3_levelOf 5 (some .int)) 2 0 0 eN V [.ref m, .int (nI y), .int (nI b)] (fun r V' => V' = V ∧ r = k) zno_x := by
  refine z_enter (by decide +kernel) [(0, .ref m), (1, .int (nI y)), (2, .int (nI b))] rfl (Nat.le_of_ble_eq_true rfl) (zcat_cons rfl (zcat_cons rfl (zcat_cons rfl zcat_nil))) (fun Γ C hQ => ?_)
  have htl := hok.lt hb
  have hb20 := hok.2.2.1 t b hb
  have hl4 := hok.1 t
  have hkl : k < (Y t).length := (List.getElem?_eq_some_iff.mp hk).1
  refine z_aload_n C 0 rfl dX3_levelOf_0 rfl ?_
  refine z_iload_n C 1 rfl dX3_levelOf_1 rfl ?_
  refine z_iload_n C 2 rfl dX3_levelOf_2 rfl ?_
  refine z_callV C k_M hM.1 (As := [.int (nI y), .int (nI b)]) (mX3_placeOf hM hst hbx hy hyl hok hb) (lw_V q1506 q1508 qs38 q65 q1509) rfl hd_X3_placeOf rfl (Nat.le_of_ble_eq_true rfl) (by decide) (by decide) (by decide) (by decide) rfl dX3_levelOf_3 (fun _ _ h => h.elim) (fun r1 V2 hP3 => ?_)
  rw [hP3.1, hP3.2]
  refine z_st (st' := [.int (nI t)]) rfl ?_
  refine z_istore_n C [(3, .int (nI t)), (0, .ref m), (1, .int (nI y)), (2, .int (nI b))] dX3_levelOf_6 rfl (by decide) rfl ?_
  refine z_iconst C (v := (nI 0)) dX3_levelOf_7 rfl ?_
  refine z_istore C [(4, .int (nI 0)), (3, .int (nI t)), (0, .ref m), (1, .int (nI y)), (2, .int (nI b))] dX3_levelOf_8 (by decide) rfl ?_
  have loop4 : ∀ (n_loop4 : Nat) (j : Nat), j ≤ k → k - j < n_loop4 → ZW l D Γ (zr 2 0 0) 10 [(4, .int (nI j)), (3, .int (nI t)), (0, .ref m), (1, .int (nI y)), (2, .int (nI b))] [] V (0 + 0) (0 + 0) := by
    intro n_loop4
    induction n_loop4 with
    | zero => intro j _ hm; exact absurd hm (Nat.not_lt_zero _)
    | succ n_loop4 ih_loop4 =>
      intro j hloop4_0 hm
      obtain ⟨c, hc⟩ : ∃ c, (Y t)[j]? = some c := ⟨_, List.getElem?_eq_getElem (by omega)⟩
      have hc20 := hok.2.2.1 t c (List.mem_of_getElem? hc)
      refine z_aload_n C 2 rfl dX3_levelOf_10 rfl ?_
      refine z_get C k_M hM.1 10 (by decide) rfl q1397 dX3_levelOf_11 ?_
      refine z_bipush C (v := (nI 16)) dX3_levelOf_14 rfl ?_
      refine z_iload_n C 3 rfl dX3_levelOf_16 rfl ?_
      refine z_imulN C dX3_levelOf_17 ?_
      refine z_iconst C (v := (nI 4)) dX3_levelOf_18 rfl ?_
      refine z_iload_n C 1 rfl dX3_levelOf_19 rfl ?_
      refine z_imulN C dX3_levelOf_20 ?_
      refine z_iaddN C dX3_levelOf_21 ?_
      refine z_iload C 0 rfl dX3_levelOf_22 ?_
      refine z_iaddN C dX3_levelOf_24 ?_
      have ga5 : V (A 6) = some (.inl (D.arr 0, 96, .inl (F 6))) := hM.2.1 6 (by decide)
      refine z_iald C ga5 (by omega) (by omega) (v := (nI c)) (hy.2 _ _ _ (by omega) hc) dX3_levelOf_25 ?_
      refine z_iload_n C 4 rfl dX3_levelOf_26 rfl ?_
      refine z_icmp_eqN C 36 (by omega) (by omega) dX3_levelOf_27 (by decide) (fun c27 => ?_) (fun c27 => ?_)
      · skip
        obtain rfl : j = k := (List.getElem?_inj (by omega) (hok.2.2.2.1 t)).mp (by rw [hc, hk, c27])
        refine z_iload C 0 rfl dX3_levelOf_36 ?_
        exact z_iret C hQ j rfl ⟨rfl, rfl⟩ (by decide) (by decide) dX3_levelOf_38
      · skip
        have hne : j ≠ k := fun e => by rw [e, hk] at hc; exact c27 (Option.some.inj hc).symm
        refine z_iincN C 0 1 [(4, .int (nI (j + 1))), (3, .int (nI t)), (0, .ref m), (1, .int (nI y)), (2, .int (nI b))] rfl dX3_levelOf_30 rfl (by decide) rfl ?_
        refine z_goto C 10 dX3_levelOf_33 (by decide) ?_
        exact ih_loop4 (j + 1) (by omega) (by omega)
  exact loop4 _ 0 (Nat.zero_le _) (Nat.lt_succ_self _)
set_option maxHeartbeats 4000000 in
set_option maxRecDepth 100000 in
theorem mX3_topOf {l : Launch} {D : ZD} {V : ZV} {m : Nat} {A : Nat → Nat} {F : Nat → Nat → Int32} {cd : Int32} {nw st bx : Nat} {mv : Int32} {ap : Nat} {lf : Int64} (hM : MX D V m A F cd nw st bx mv ap lf) (hst : st ≤ 4) (hbx : bx ≤ 20) {y : Nat} {Y : YD} (hy : mY F y Y) (hyl : y < 6) (hok : yOK st Y) {s : Nat} (hs : s < 4) : ZM l D yX3_topOf (ws_ yX3_topOf cX3_topOf 4 (some .int)) 1 0 0 eI V [.ref m, .int (nI y), .int (nI s)] (fun r V' => V' = V ∧ r = oInt (Y s).getLast?) zno_x := by
  refine z_enter (by decide +kernel) [(0, .ref m), (1, .int (nI y)), (2, .int (nI s))] rfl (Nat.le_of_ble_eq_true rfl) (zcat_cons rfl (zcat_cons rfl (zcat_cons rfl zcat_nil))) (fun Γ C hQ => ?_)
  have hl4 := hok.1 s
  refine z_aload_n C 0 rfl dX3_topOf_0 rfl ?_
  refine z_get C k_M hM.1 9 (by decide) rfl q1396 dX3_topOf_1 ?_
  refine z_iconst C (v := (nI 4)) dX3_topOf_4 rfl ?_
  refine z_iload_n C 1 rfl dX3_topOf_5 rfl ?_
  refine z_imulN C dX3_topOf_6 ?_
  refine z_iload_n C 2 rfl dX3_topOf_7 rfl ?_
  refine z_iaddN C dX3_topOf_8 ?_
  have ga1 : V (A 5) = some (.inl (D.arr 0, 24, .inl (F 5))) := hM.2.1 5 (by decide)
  refine z_iald C ga1 (by omega) (by omega) (v := (nI ((Y s).length))) (hy.1 s (by omega)) dX3_topOf_9 ?_
  refine z_istore_n C [(3, .int (nI ((Y s).length))), (0, .ref m), (1, .int (nI y)), (2, .int (nI s))] dX3_topOf_10 rfl (by decide) rfl ?_
  refine z_iload_n C 0 rfl dX3_topOf_11 rfl ?_
  refine z_if_neN C 19 (by omega) dX3_topOf_12 (by decide) (fun c12 => ?_) (fun c12 => ?_)
  · skip
    obtain ⟨n0, hn0⟩ : ∃ n, (Y s).length = n + 1 := ⟨(Y s).length - 1, by omega⟩
    obtain ⟨u, hu, hul⟩ := yLast hn0
    refine z_aload_n C 1 rfl dX3_topOf_19 rfl ?_
    refine z_get C k_M hM.1 10 (by decide) rfl q1397 dX3_topOf_20 ?_
    refine z_bipush C (v := (nI 16)) dX3_topOf_23 rfl ?_
    refine z_iload_n C 2 rfl dX3_topOf_25 rfl ?_
    refine z_imulN C dX3_topOf_26 ?_
    refine z_iconst C (v := (nI 4)) dX3_topOf_27 rfl ?_
    refine z_iload_n C 3 rfl dX3_topOf_28 rfl ?_
    refine z_imulN C dX3_topOf_29 ?_
    refine z_iaddN C dX3_topOf_30 ?_
    refine z_iload_n C 0 rfl dX3_topOf_31 rfl ?_
    refine z_iaddN C dX3_topOf_32 ?_
    refine z_iconst C (v := (nI 1)) dX3_topOf_33 rfl ?_
    refine z_isubN C (by omega) dX3_topOf_34 ?_
    refine z_top (v := .int (nI (((16 * y) + (4 * s)) + n0))) (by rw [hn0]; congr 2) ?_
    have ga2 : V (A 6) = some (.inl (D.arr 0, 96, .inl (F 6))) := hM.2.1 6 (by decide)
    refine z_iald C ga2 (by omega) (by omega) (v := (nI u)) (hy.2 _ _ _ (by omega) hu) dX3_topOf_35 ?_
    exact z_iret C hQ (nI u) rfl ⟨rfl, by rw [hul]; rfl⟩ (by decide) (by decide) dX3_topOf_36
  · skip
    have hlast : (Y s).getLast? = none := by rw [List.getLast?_eq_none_iff]; exact List.length_eq_zero_iff.mp c12
    refine z_iconst C (v := (-1)) dX3_topOf_15 rfl ?_
    refine z_goto C 36 dX3_topOf_16 (by decide) ?_
    exact z_iret C hQ (-1) rfl ⟨rfl, by rw [hlast]; rfl⟩ (by decide) (by decide) dX3_topOf_36
set_option maxHeartbeats 4000000 in
set_option maxRecDepth 100000 in
theorem mX3_isTop {l : Launch} {D : ZD} {V : ZV} {m : Nat} {A : Nat → Nat} {F : Nat → Nat → Int32} {cd : Int32} {nw st bx : Nat} {mv : Int32} {ap : Nat} {lf : Int64} (hM : MX D V m A F cd nw st bx mv ap lf) (hst : st ≤ 4) (hbx : bx ≤ 20) {y : Nat} {Y : YD} (hy : mY F y Y) (hyl : y < 6) (hok : yOK st Y) {b t : Nat} (hb : b ∈ Y t) : ZM l D yX3_isTop (ws_ yX3_isTop cX3_isTop 3 (some .boolean)) 2 0 0 eB V [.ref m, .int (nI y), .int (nI b)] (fun r V' => V' = V ∧ r = decide ((Y t).getLast? = some b)) zno_x := by
  refine z_enter (by decide +kernel) [(0, .ref m), (1, .int (nI y)), (2, .int (nI b))] rfl (Nat.le_of_ble_eq_true rfl) (zcat_cons rfl (zcat_cons rfl (zcat_cons rfl zcat_nil))) (fun Γ C hQ => ?_)
  have htl := hok.lt hb
  have hb20 := hok.2.2.1 t b hb
  have hl4 := hok.1 t
  have hlp : 0 < (Y t).length := List.length_pos_of_mem hb
  obtain ⟨n0, hn0⟩ : ∃ n, (Y t).length = n + 1 := ⟨(Y t).length - 1, by omega⟩
  obtain ⟨u, hu, hul⟩ := yLast hn0
  have hu20 := hok.2.2.1 t u (List.mem_of_getElem? hu)
  refine z_aload_n C 0 rfl dX3_isTop_0 rfl ?_
  refine z_iload_n C 1 rfl dX3_isTop_1 rfl ?_
  refine z_aload_n C 0 rfl dX3_isTop_2 rfl ?_
  refine z_iload_n C 1 rfl dX3_isTop_3 rfl ?_
  refine z_iload_n C 2 rfl dX3_isTop_4 rfl ?_
  refine z_callV C k_M hM.1 (As := [.int (nI y), .int (nI b)]) (mX3_placeOf hM hst hbx hy hyl hok hb) (lw_V q1506 q1508 qs38 q65 q1509) rfl hd_X3_placeOf rfl (Nat.le_of_ble_eq_true rfl) (by decide) (by decide) (by decide) (by decide) rfl dX3_isTop_5 (fun _ _ h => h.elim) (fun r1 V2 hP3 => ?_)
  rw [hP3.1, hP3.2]
  refine z_st (st' := [.int (nI t), .int (nI y), .ref m]) rfl ?_
  refine z_callV C k_M hM.1 (As := [.int (nI y), .int (nI t)]) (mX3_topOf hM hst hbx hy hyl hok (s := t) (by omega)) (lw_V q1474 q1476 qs34 q65 q1477) rfl hd_X3_topOf rfl (Nat.le_of_ble_eq_true rfl) (by decide) (by decide) (by decide) (by decide) rfl dX3_isTop_8 (fun _ _ h => h.elim) (fun r4 V5 hP6 => ?_)
  rw [hP6.1, hP6.2]
  refine z_st (st' := [.int (oInt (Y t).getLast?)]) rfl ?_
  refine z_top (v := .int (nI u)) (by rw [hul]; rfl) ?_
  refine z_iload_n C 2 rfl dX3_isTop_11 rfl ?_
  refine z_icmp_neN C 19 (by omega) (by omega) dX3_isTop_12 (by decide) (fun c12 => ?_) (fun c12 => ?_)
  · skip
    refine z_iconst C (v := (nI 0)) dX3_isTop_19 rfl ?_
    exact z_zret C hQ false rfl rfl ⟨rfl, by rw [hul]; simp; omega⟩ (by decide) (by decide) dX3_isTop_20
  · skip
    refine z_iconst C (v := (nI 1)) dX3_isTop_15 rfl ?_
    refine z_goto C 20 dX3_isTop_16 (by decide) ?_
    exact z_zret C hQ true rfl rfl ⟨rfl, by rw [hul]; simp; omega⟩ (by decide) (by decide) dX3_isTop_20
set_option maxHeartbeats 4000000 in
set_option maxRecDepth 100000 in
theorem mX3_isPinned {l : Launch} {D : ZD} {V : ZV} {m : Nat} {A : Nat → Nat} {F : Nat → Nat → Int32} {cd : Int32} {nw st bx : Nat} {mv : Int32} {ap : Nat} {lf : Int64} (hM : MX D V m A F cd nw st bx mv ap lf) (hst : st ≤ 4) (hbx : bx ≤ 20)  {rch wt : Nat → Nat} {ins : Nat → Bool} {hld : Nat → Int32} (hE : mE F st bx rch wt ins hld) {b : Nat} (hb : b < bx) : ZM l D yX3_isPinned (ws_ yX3_isPinned cX3_isPinned 2 (some .boolean)) 1 0 0 eB V [.ref m, .int (nI b)] (fun r V' => V' = V ∧ r = pin' hld b) zno_x := by
  refine z_enter (by decide +kernel) [(0, .ref m), (1, .int (nI b))] rfl (Nat.le_of_ble_eq_true rfl) (zcat_cons rfl (zcat_cons rfl zcat_nil)) (fun Γ C hQ => ?_)
  refine z_aload_n C 0 rfl dX3_isPinned_0 rfl ?_
  refine z_get C k_M hM.1 7 (by decide) rfl q1394 dX3_isPinned_1 ?_
  refine z_iload_n C 1 rfl dX3_isPinned_4 rfl ?_
  have ga1 : V (A 3) = some (.inl (D.arr 4, 20, .inl (F 3))) := hM.2.1 3 (by decide)
  refine z_cald C ga1 (by omega) (by omega) (v := (hld b)) (hE.2.2.2 b (by omega)) dX3_isPinned_5 ?_
  refine z_bipush C (v := (nI 112)) dX3_isPinned_6 rfl ?_
  refine z_icmp_ne C 15 dX3_isPinned_8 (by decide) (fun c8 => ?_) (fun c8 => ?_)
  · skip
    refine z_iconst C (v := (nI 0)) dX3_isPinned_15 rfl ?_
    exact z_zret C hQ false rfl rfl ⟨rfl, by unfold pin'; simp; exact c8⟩ (by decide) (by decide) dX3_isPinned_16
  · skip
    refine z_iconst C (v := (nI 1)) dX3_isPinned_11 rfl ?_
    refine z_goto C 16 dX3_isPinned_12 (by decide) ?_
    exact z_zret C hQ true rfl rfl ⟨rfl, by unfold pin'; simp; exact c8⟩ (by decide) (by decide) dX3_isPinned_16
set_option maxHeartbeats 4000000 in
set_option maxRecDepth 100000 in
theorem mX3_takes {l : Launch} {D : ZD} {V : ZV} {m : Nat} {A : Nat → Nat} {F : Nat → Nat → Int32} {cd : Int32} {nw st bx : Nat} {mv : Int32} {ap : Nat} {lf : Int64} (hM : MX D V m A F cd nw st bx mv ap lf) (hst : st ≤ 4) (hbx : bx ≤ 20) {y : Nat} {Y : YD} (hy : mY F y Y) (hyl : y < 6) (hok : yOK st Y) {rch wt : Nat → Nat} {ins : Nat → Bool} {hld : Nat → Int32} (hE : mE F st bx rch wt ins hld) (hrc : ∀ s, s < st → rch s ≤ 4) (hwt : ∀ b, b < bx → wt b < 1000) {s w : Nat} (hs : s < st) (hm : ∀ c ∈ Y s, c < bx) (hw : w < 1000) : ZM l D yX3_takes (ws_ yX3_takes cX3_takes 4 (some .boolean)) 2 0 0 eB V [.ref m, .int (nI y), .int (nI s), .int (nI w)] (fun r V' => V' = V ∧ r = yTk wt Y s (rch s) w) zno_x := by
  refine z_enter (by decide +kernel) [(0, .ref m), (1, .int (nI y)), (2, .int (nI s)), (3, .int (nI w))] rfl (Nat.le_of_ble_eq_true rfl) (zcat_cons rfl (zcat_cons rfl (zcat_cons rfl (zcat_cons rfl zcat_nil)))) (fun Γ C hQ => ?_)
  have hl4 := hok.1 s
  have hr4 := hrc s hs
  refine z_aload_n C 0 rfl dX3_takes_0 rfl ?_
  refine z_get C k_M hM.1 9 (by decide) rfl q1396 dX3_takes_1 ?_
  refine z_iconst C (v := (nI 4)) dX3_takes_4 rfl ?_
  refine z_iload_n C 1 rfl dX3_takes_5 rfl ?_
  refine z_imulN C dX3_takes_6 ?_
  refine z_iload_n C 2 rfl dX3_takes_7 rfl ?_
  refine z_iaddN C dX3_takes_8 ?_
  have ga1 : V (A 5) = some (.inl (D.arr 0, 24, .inl (F 5))) := hM.2.1 5 (by decide)
  refine z_iald C ga1 (by omega) (by omega) (v := (nI ((Y s).length))) (hy.1 s (by omega)) dX3_takes_9 ?_
  refine z_aload_n C 0 rfl dX3_takes_10 rfl ?_
  refine z_get C k_M hM.1 3 (by decide) rfl q1390 dX3_takes_11 ?_
  refine z_iload_n C 2 rfl dX3_takes_14 rfl ?_
  have ga2 : V (A 0) = some (.inl (D.arr 0, 4, .inl (F 0))) := hM.2.1 0 (by decide)
  refine z_iald C ga2 (by omega) (by omega) (v := (nI (rch s))) (hE.1 s (by omega)) dX3_takes_15 ?_
  refine z_icmp_geN C 51 (by omega) (by omega) dX3_takes_16 (by decide) (fun c16 => ?_) (fun c16 => ?_)
  · skip
    refine z_iconst C (v := (nI 0)) dX3_takes_51 rfl ?_
    exact z_zret C hQ false rfl rfl ⟨rfl, by unfold yTk; simp; omega⟩ (by decide) (by decide) dX3_takes_52
  · skip
    refine z_aload_n C 0 rfl dX3_takes_19 rfl ?_
    refine z_get C k_M hM.1 9 (by decide) rfl q1396 dX3_takes_20 ?_
    refine z_iconst C (v := (nI 4)) dX3_takes_23 rfl ?_
    refine z_iload_n C 1 rfl dX3_takes_24 rfl ?_
    refine z_imulN C dX3_takes_25 ?_
    refine z_iload_n C 2 rfl dX3_takes_26 rfl ?_
    refine z_iaddN C dX3_takes_27 ?_
    refine z_iald C ga1 (by omega) (by omega) (v := (nI ((Y s).length))) (hy.1 s (by omega)) dX3_takes_28 ?_
    refine z_if_eqN C 47 (by omega) dX3_takes_29 (by decide) (fun c29 => ?_) (fun c29 => ?_)
    · skip
      have hlast : (Y s).getLast? = none := by rw [List.getLast?_eq_none_iff]; exact List.length_eq_zero_iff.mp c29
      refine z_iconst C (v := (nI 1)) dX3_takes_47 rfl ?_
      refine z_goto C 52 dX3_takes_48 (by decide) ?_
      exact z_zret C hQ true rfl rfl ⟨rfl, by unfold yTk; rw [hlast]; simp; omega⟩ (by decide) (by decide) dX3_takes_52
    · skip
      obtain ⟨n0, hn0⟩ : ∃ n, (Y s).length = n + 1 := ⟨(Y s).length - 1, by omega⟩
      obtain ⟨u, hu, hul⟩ := yLast hn0
      have hub := hm u (List.mem_of_getElem? hu)
      have hwu := hwt u hub
      refine z_aload_n C 0 rfl dX3_takes_32 rfl ?_
      refine z_get C k_M hM.1 5 (by decide) rfl q1392 dX3_takes_33 ?_
      refine z_aload_n C 0 rfl dX3_takes_36 rfl ?_
      refine z_iload_n C 1 rfl dX3_takes_37 rfl ?_
      refine z_iload_n C 2 rfl dX3_takes_38 rfl ?_
      refine z_callV C k_M hM.1 (As := [.int (nI y), .int (nI s)]) (mX3_topOf hM hst hbx hy hyl hok (s := s) (by omega)) (lw_V q1474 q1476 qs34 q65 q1477) rfl hd_X3_topOf rfl (Nat.le_of_ble_eq_true rfl) (by decide) (by decide) (by decide) (by decide) rfl dX3_takes_39 (fun _ _ h => h.elim) (fun r3 V4 hP5 => ?_)
      rw [hP5.1, hP5.2]
      refine z_st (st' := [.int (oInt (Y s).getLast?), .ref (A 1)]) rfl ?_
      refine z_top (v := .int (nI u)) (by rw [hul]; rfl) ?_
      have ga6 : V (A 1) = some (.inl (D.arr 0, 20, .inl (F 1))) := hM.2.1 1 (by decide)
      refine z_iald C ga6 (by omega) (by omega) (v := (nI (wt u))) (hE.2.1 u (by omega)) dX3_takes_42 ?_
      refine z_iload_n C 3 rfl dX3_takes_43 rfl ?_
      refine z_icmp_ltN C 51 (by omega) (by omega) dX3_takes_44 (by decide) (fun c44 => ?_) (fun c44 => ?_)
      · skip
        refine z_iconst C (v := (nI 0)) dX3_takes_51 rfl ?_
        exact z_zret C hQ false rfl rfl ⟨rfl, by unfold yTk; rw [hul]; simp; omega⟩ (by decide) (by decide) dX3_takes_52
      · skip
        refine z_iconst C (v := (nI 1)) dX3_takes_47 rfl ?_
        refine z_goto C 52 dX3_takes_48 (by decide) ?_
        exact z_zret C hQ true rfl rfl ⟨rfl, by unfold yTk; rw [hul]; simp; omega⟩ (by decide) (by decide) dX3_takes_52
set_option maxHeartbeats 4000000 in
set_option maxRecDepth 100000 in
theorem mX3_canMove {l : Launch} {D : ZD} {V : ZV} {m : Nat} {A : Nat → Nat} {F : Nat → Nat → Int32} {cd : Int32} {nw st bx : Nat} {mv : Int32} {ap : Nat} {lf : Int64} (hM : MX D V m A F cd nw st bx mv ap lf) (hst : st ≤ 4) (hbx : bx ≤ 20) {y : Nat} {Y : YD} (hy : mY F y Y) (hyl : y < 6) (hok : yOK st Y) {b t : Nat} (hb : b ∈ Y t) {rch wt : Nat → Nat} {ins : Nat → Bool} {hld : Nat → Int32} (hE : mE F st bx rch wt ins hld) (hrc : ∀ s, s < st → rch s ≤ 4) (hwt : ∀ b, b < bx → wt b < 1000) {s : Nat} (hs : s < st) (hbb : b < bx) (hm : ∀ s, ∀ c ∈ Y s, c < bx) : ZM l D yX3_canMove (ws_ yX3_canMove cX3_canMove 4 (some .boolean)) 3 0 0 eB V [.ref m, .int (nI y), .int (nI b), .int (nI s)] (fun r V' => V' = V ∧ r = yCan rch wt (pin' hld) Y t b s) zno_x := by
  refine z_enter (by decide +kernel) [(0, .ref m), (1, .int (nI y)), (2, .int (nI b)), (3, .int (nI s))] rfl (Nat.le_of_ble_eq_true rfl) (zcat_cons rfl (zcat_cons rfl (zcat_cons rfl (zcat_cons rfl zcat_nil)))) (fun Γ C hQ => ?_)
  have htl := hok.lt hb
  have hwb := hwt b hbb
  have hb20 := hok.2.2.1 t b hb
  refine z_aload_n C 0 rfl dX3_canMove_0 rfl ?_
  refine z_iload_n C 1 rfl dX3_canMove_1 rfl ?_
  refine z_iload_n C 2 rfl dX3_canMove_2 rfl ?_
  refine z_callV C k_M hM.1 (As := [.int (nI y), .int (nI b)]) (mX3_isTop hM hst hbx hy hyl hok hb) (lw_V q1566 q1568 qs43 q65 q1569) rfl hd_X3_isTop rfl (Nat.le_of_ble_eq_true rfl) (by decide) (by decide) (by decide) (by decide) rfl dX3_canMove_3 (fun _ _ h => h.elim) (fun r1 V2 hP3 => ?_)
  rw [hP3.1, hP3.2]
  refine z_st (st' := [.int (zb (decide ((Y t).getLast? = some b)))]) rfl ?_
  refine z_if_eqB C 46 dX3_canMove_6 (by decide) (fun c6 => ?_) (fun c6 => ?_)
  · skip
    refine z_iconst C (v := (nI 0)) dX3_canMove_46 rfl ?_
    exact z_zret C hQ false rfl rfl ⟨rfl, by unfold yCan; simp_all⟩ (by decide) (by decide) dX3_canMove_47
  · skip
    refine z_aload_n C 0 rfl dX3_canMove_9 rfl ?_
    refine z_iload_n C 2 rfl dX3_canMove_10 rfl ?_
    refine z_callV C k_M hM.1 (As := [.int (nI b)]) (mX3_isPinned hM hst hbx hE (b := b) (by omega)) (lw_V q1558 q1560 qs42 q65 q1561) rfl hd_X3_isPinned rfl (Nat.le_of_ble_eq_true rfl) (by decide) (by decide) (by decide) (by decide) rfl dX3_canMove_11 (fun _ _ h => h.elim) (fun r4 V5 hP6 => ?_)
    rw [hP6.1, hP6.2]
    refine z_st (st' := [.int (zb (pin' hld b))]) rfl ?_
    refine z_if_neB C 46 dX3_canMove_14 (by decide) (fun c14 => ?_) (fun c14 => ?_)
    · skip
      refine z_iconst C (v := (nI 0)) dX3_canMove_46 rfl ?_
      exact z_zret C hQ false rfl rfl ⟨rfl, by unfold yCan; simp_all⟩ (by decide) (by decide) dX3_canMove_47
    · skip
      refine z_aload_n C 0 rfl dX3_canMove_17 rfl ?_
      refine z_iload_n C 1 rfl dX3_canMove_18 rfl ?_
      refine z_iload_n C 2 rfl dX3_canMove_19 rfl ?_
      refine z_callV C k_M hM.1 (As := [.int (nI y), .int (nI b)]) (mX3_placeOf hM hst hbx hy hyl hok hb) (lw_V q1506 q1508 qs38 q65 q1509) rfl hd_X3_placeOf rfl (Nat.le_of_ble_eq_true rfl) (by decide) (by decide) (by decide) (by decide) rfl dX3_canMove_20 (fun _ _ h => h.elim) (fun r7 V8 hP9 => ?_)
      rw [hP9.1, hP9.2]
      refine z_st (st' := [.int (nI t)]) rfl ?_
      refine z_iload_n C 3 rfl dX3_canMove_23 rfl ?_
      refine z_icmp_eqN C 46 (by omega) (by omega) dX3_canMove_24 (by decide) (fun c24 => ?_) (fun c24 => ?_)
      · skip
        refine z_iconst C (v := (nI 0)) dX3_canMove_46 rfl ?_
        exact z_zret C hQ false rfl rfl ⟨rfl, by unfold yCan; simp_all⟩ (by decide) (by decide) dX3_canMove_47
      · skip
        refine z_aload_n C 0 rfl dX3_canMove_27 rfl ?_
        refine z_iload_n C 1 rfl dX3_canMove_28 rfl ?_
        refine z_iload_n C 3 rfl dX3_canMove_29 rfl ?_
        refine z_aload_n C 0 rfl dX3_canMove_30 rfl ?_
        refine z_get C k_M hM.1 5 (by decide) rfl q1392 dX3_canMove_31 ?_
        refine z_iload_n C 2 rfl dX3_canMove_34 rfl ?_
        have ga10 : V (A 1) = some (.inl (D.arr 0, 20, .inl (F 1))) := hM.2.1 1 (by decide)
        refine z_iald C ga10 (by omega) (by omega) (v := (nI (wt b))) (hE.2.1 b (by omega)) dX3_canMove_35 ?_
        refine z_callV C k_M hM.1 (As := [.int (nI y), .int (nI s), .int (nI (wt b))]) (mX3_takes hM hst hbx hy hyl hok hE hrc hwt (s := s) (w := wt b) (by omega) (hm _) (by omega)) (lw_V q1470 q1472 qs33 q65 q1473) rfl hd_X3_takes rfl (Nat.le_of_ble_eq_true rfl) (by decide) (by decide) (by decide) (by decide) rfl dX3_canMove_36 (fun _ _ h => h.elim) (fun r11 V12 hP13 => ?_)
        rw [hP13.1, hP13.2]
        refine z_st (st' := [.int (zb (yTk wt Y s (rch s) (wt b)))]) rfl ?_
        refine z_if_eqB C 46 dX3_canMove_39 (by decide) (fun c39 => ?_) (fun c39 => ?_)
        · skip
          refine z_iconst C (v := (nI 0)) dX3_canMove_46 rfl ?_
          exact z_zret C hQ false rfl rfl ⟨rfl, by unfold yCan; simp_all⟩ (by decide) (by decide) dX3_canMove_47
        · skip
          refine z_iconst C (v := (nI 1)) dX3_canMove_42 rfl ?_
          refine z_goto C 47 dX3_canMove_43 (by decide) ?_
          exact z_zret C hQ true rfl rfl ⟨rfl, by unfold yCan; simp_all⟩ (by decide) (by decide) dX3_canMove_47
set_option maxHeartbeats 4000000 in
set_option maxRecDepth 100000 in
theorem mX3_lays {l : Launch} {D : ZD} {V : ZV} {m : Nat} {A : Nat → Nat} {F : Nat → Nat → Int32} {cd : Int32} {nw st bx : Nat} {mv : Int32} {ap : Nat} {lf : Int64} (hM : MX D V m A F cd nw st bx mv ap lf) (hst : st ≤ 4) (hbx : bx ≤ 20) {y : Nat} {Y : YD} (hy : mY F y Y) (hyl : y < 6) {s b : Nat} (hl : ∀ s, (Y s).length ≤ 4) (hs : s < 4) (hlt : (Y s).length < 4) : ZM l D yX3_lays (ws_ yX3_lays cX3_lays 4 none) 1 0 0 eU V [.ref m, .int (nI y), .int (nI s), .int (nI b)] (fun r V' => ∃ F2, MX D V' m A F2 cd nw st bx mv ap lf ∧ mY F2 y (va_up Y s (Y s ++ [b])) ∧ mOn F F2 y) zno_x := by
  refine z_enter (by decide +kernel) [(0, .ref m), (1, .int (nI y)), (2, .int (nI s)), (3, .int (nI b))] rfl (Nat.le_of_ble_eq_true rfl) (zcat_cons rfl (zcat_cons rfl (zcat_cons rfl (zcat_cons rfl zcat_nil)))) (fun Γ C hQ => ?_)
  refine z_aload_n C 0 rfl dX3_lays_0 rfl ?_
  refine z_get C k_M hM.1 10 (by decide) rfl q1397 dX3_lays_1 ?_
  refine z_bipush C (v := (nI 16)) dX3_lays_4 rfl ?_
  refine z_iload_n C 1 rfl dX3_lays_6 rfl ?_
  refine z_imulN C dX3_lays_7 ?_
  refine z_iconst C (v := (nI 4)) dX3_lays_8 rfl ?_
  refine z_iload_n C 2 rfl dX3_lays_9 rfl ?_
  refine z_imulN C dX3_lays_10 ?_
  refine z_iaddN C dX3_lays_11 ?_
  refine z_aload_n C 0 rfl dX3_lays_12 rfl ?_
  refine z_get C k_M hM.1 9 (by decide) rfl q1396 dX3_lays_13 ?_
  refine z_iconst C (v := (nI 4)) dX3_lays_16 rfl ?_
  refine z_iload_n C 1 rfl dX3_lays_17 rfl ?_
  refine z_imulN C dX3_lays_18 ?_
  refine z_iload_n C 2 rfl dX3_lays_19 rfl ?_
  refine z_iaddN C dX3_lays_20 ?_
  have ga1 : V (A 5) = some (.inl (D.arr 0, 24, .inl (F 5))) := hM.2.1 5 (by decide)
  refine z_iald C ga1 (by omega) (by omega) (v := (nI ((Y s).length))) (hy.1 s (by omega)) dX3_lays_21 ?_
  refine z_iaddN C dX3_lays_22 ?_
  refine z_iload_n C 3 rfl dX3_lays_23 rfl ?_
  have ga2 : V (A 6) = some (.inl (D.arr 0, 96, .inl (F 6))) := hM.2.1 6 (by decide)
  refine z_iast C ga2 (by omega) (by omega) dX3_lays_24 (z_nV (fun V3 hV4 => ?_))
  have hM5 := MX.st hM 6 (by decide) (f := va_up (F 6) (((16 * y) + (4 * s)) + ((Y s).length)) (nI b)) hV4
  refine z_aload_n C 0 rfl dX3_lays_25 rfl ?_
  refine z_get C k_M hM5.1 9 (by decide) rfl q1396 dX3_lays_26 ?_
  refine z_iconst C (v := (nI 4)) dX3_lays_29 rfl ?_
  refine z_iload_n C 1 rfl dX3_lays_30 rfl ?_
  refine z_imulN C dX3_lays_31 ?_
  refine z_iload_n C 2 rfl dX3_lays_32 rfl ?_
  refine z_iaddN C dX3_lays_33 ?_
  refine z_dup2 C dX3_lays_34 rfl rfl ?_
  have ga6 : V3 (A 5) = some (.inl (D.arr 0, 24, .inl (F 5))) := hM5.2.1 5 (by decide)
  refine z_iald C ga6 (by omega) (by omega) (v := (nI ((Y s).length))) (hy.1 s (by omega)) dX3_lays_35 ?_
  refine z_iconst C (v := (nI 1)) dX3_lays_36 rfl ?_
  refine z_iaddN C dX3_lays_37 ?_
  refine z_iast C ga6 (by omega) (by omega) dX3_lays_38 (z_nV (fun V7 hV8 => ?_))
  have hM9 := MX.st hM5 5 (by decide) (f := va_up (F 5) ((4 * y) + s) (nI (((Y s).length) + 1))) hV8
  exact z_vret C hQ () rfl ⟨_, hM9, mY.lay hl hs hlt hy, (mOn.up6 (F := F) (j := 16 * y + 4 * s + (Y s).length) (v := nI b) ⟨by omega, by omega⟩).tr (by have h9 := mOn.up5 (F := va_up F 6 (va_up (F 6) (16 * y + 4 * s + (Y s).length) (nI b))) (y := y) (j := 4 * y + s) (v := nI ((Y s).length + 1)) ⟨by omega, by omega⟩; exact h9)⟩ (by decide) (by decide) dX3_lays_39
set_option maxHeartbeats 4000000 in
set_option maxRecDepth 100000 in
theorem mX3_moves {l : Launch} {D : ZD} {V : ZV} {m : Nat} {A : Nat → Nat} {F : Nat → Nat → Int32} {cd : Int32} {nw st bx : Nat} {mv : Int32} {ap : Nat} {lf : Int64} (hM : MX D V m A F cd nw st bx mv ap lf) (hst : st ≤ 4) (hbx : bx ≤ 20) {y : Nat} {Y : YD} (hy : mY F y Y) (hyl : y < 6) (hok : yOK st Y) {b t : Nat} (hb : b ∈ Y t) {s : Nat} (hs : s < 4) (hne : t ≠ s) (hlt : (Y s).length < 4) (hlast : (Y t).getLast? = some b) : ZM l D yX3_moves (ws_ yX3_moves cX3_moves 4 none) 2 0 0 eU V [.ref m, .int (nI y), .int (nI b), .int (nI s)] (fun r V' => ∃ F2, MX D V' m A F2 cd nw st bx mv ap lf ∧ mY F2 y (yMv Y t s b) ∧ mOn F F2 y) zno_x := by
  refine z_enter (by decide +kernel) [(0, .ref m), (1, .int (nI y)), (2, .int (nI b)), (3, .int (nI s))] rfl (Nat.le_of_ble_eq_true rfl) (zcat_cons rfl (zcat_cons rfl (zcat_cons rfl (zcat_cons rfl zcat_nil)))) (fun Γ C hQ => ?_)
  have htl := hok.lt hb
  have hl4 := hok.1 t
  have hlp : 0 < (Y t).length := List.length_pos_of_mem hb
  obtain ⟨n0, hn0⟩ : ∃ n, (Y t).length = n + 1 := ⟨(Y t).length - 1, by omega⟩
  refine z_aload_n C 0 rfl dX3_moves_0 rfl ?_
  refine z_get C k_M hM.1 9 (by decide) rfl q1396 dX3_moves_1 ?_
  refine z_iconst C (v := (nI 4)) dX3_moves_4 rfl ?_
  refine z_iload_n C 1 rfl dX3_moves_5 rfl ?_
  refine z_imulN C dX3_moves_6 ?_
  refine z_aload_n C 0 rfl dX3_moves_7 rfl ?_
  refine z_iload_n C 1 rfl dX3_moves_8 rfl ?_
  refine z_iload_n C 2 rfl dX3_moves_9 rfl ?_
  refine z_callV C k_M hM.1 (As := [.int (nI y), .int (nI b)]) (mX3_placeOf hM hst hbx hy hyl hok hb) (lw_V q1506 q1508 qs38 q65 q1509) rfl hd_X3_placeOf rfl (Nat.le_of_ble_eq_true rfl) (by decide) (by decide) (by decide) (by decide) rfl dX3_moves_10 (fun _ _ h => h.elim) (fun r1 V2 hP3 => ?_)
  rw [hP3.1, hP3.2]
  refine z_st (st' := [.int (nI t), .int (nI (4 * y)), .ref (A 5)]) rfl ?_
  refine z_iaddN C dX3_moves_13 ?_
  refine z_dup2 C dX3_moves_14 rfl rfl ?_
  have ga4 : V (A 5) = some (.inl (D.arr 0, 24, .inl (F 5))) := hM.2.1 5 (by decide)
  refine z_iald C ga4 (by omega) (by omega) (v := (nI ((Y t).length))) (hy.1 t (by omega)) dX3_moves_15 ?_
  refine z_iconst C (v := (nI 1)) dX3_moves_16 rfl ?_
  refine z_isubN C (by omega) dX3_moves_17 ?_
  refine z_top (v := .int (nI n0)) (by rw [hn0]; rfl) ?_
  refine z_iast C ga4 (by omega) (by omega) dX3_moves_18 (z_nV (fun V5 hV6 => ?_))
  have hM7 := MX.st hM 5 (by decide) (f := va_up (F 5) ((4 * y) + t) (nI n0)) hV6
  refine z_aload_n C 0 rfl dX3_moves_19 rfl ?_
  refine z_iload_n C 1 rfl dX3_moves_20 rfl ?_
  refine z_iload_n C 3 rfl dX3_moves_21 rfl ?_
  refine z_iload_n C 2 rfl dX3_moves_22 rfl ?_
  have hd1 := mY.down (y := y) (n := n0) hok.1 (by omega : t < 4) hn0 hy
  have hlen2 : ∀ z, (va_up Y t (Y t).dropLast z).length ≤ 4 := fun z => by by_cases e : z = t; rw [e, zvs, List.length_dropLast]; omega; rw [zvn e]; exact hok.1 z
  refine z_callV C k_M hM7.1 (As := [.int (nI y), .int (nI s), .int (nI b)]) (mX3_lays hM7 hst hbx hd1 hyl (b := b) hlen2 hs (by rw [zvn (Ne.symm hne)]; exact hlt)) (lw_V q1482 q1484 qs36 q65 q1485) rfl hd_X3_lays rfl (Nat.le_of_ble_eq_true rfl) (by decide) (by decide) (by decide) (by decide) rfl dX3_moves_23 (fun _ _ h => h.elim) (fun r8 V9 hP10 => ?_)
  obtain ⟨F11, hM12, hr13⟩ := hP10
  refine z_st (st' := []) rfl ?_
  exact z_vret C hQ () rfl ⟨F11, hM12, hr13.1, (mOn.up5 ⟨by omega, by omega⟩).tr hr13.2⟩ (by decide) (by decide) dX3_moves_26
set_option maxHeartbeats 4000000 in
set_option maxRecDepth 100000 in
theorem mX3_copies {l : Launch} {D : ZD} {V : ZV} {m : Nat} {A : Nat → Nat} {F : Nat → Nat → Int32} {cd : Int32} {nw st bx : Nat} {mv : Int32} {ap : Nat} {lf : Int64} (hM : MX D V m A F cd nw st bx mv ap lf) (hst : st ≤ 4) (hbx : bx ≤ 20) {z y : Nat} (hz : z < 6) (hyl : y < 6) (hne : z ≠ y) : ZM l D yX3_copies (ws_ yX3_copies cX3_copies 4 none) 1 0 0 eU V [.ref m, .int (nI z), .int (nI y)] (fun r V' => MX D V' m A (mCp F z y) cd nw st bx mv ap lf) zno_x := by
  refine z_enter (by decide +kernel) [(0, .ref m), (1, .int (nI z)), (2, .int (nI y))] rfl (Nat.le_of_ble_eq_true rfl) (zcat_cons rfl (zcat_cons rfl (zcat_cons rfl zcat_nil))) (fun Γ C hQ => ?_)
  refine z_iconst C (v := (nI 0)) dX3_copies_0 rfl ?_
  refine z_istore_n C [(3, .int (nI 0)), (0, .ref m), (1, .int (nI z)), (2, .int (nI y))] dX3_copies_1 rfl (by decide) rfl ?_
  have e05 : va_up F 5 (F 5) = F := zup_id F 5
  have h05 : MX D V m A (va_up F 5 (va_cpy (F 5) (F 5) (4 * z) (4 * y) 0)) cd nw st bx mv ap lf := by rw [zcpy_0, e05]; exact hM
  have loop1 : ∀ (n_loop1 : Nat) (k : Nat) (V1 : ZV), k ≤ 4 → MX D V1 m A (va_up F 5 (va_cpy (F 5) (F 5) (4 * z) (4 * y) k)) cd nw st bx mv ap lf → 4 - k < n_loop1 → ZW l D Γ (zr 1 0 0) 2 [(3, .int (nI k)), (0, .ref m), (1, .int (nI z)), (2, .int (nI y))] [] V1 0 0 := by
    intro n_loop1
    induction n_loop1 with
    | zero => intro k V1 _ _ hm; exact absurd hm (Nat.not_lt_zero _)
    | succ n_loop1 ih_loop1 =>
      intro k V1 hloop1_0 hloop1_1 hm
      refine z_iload_n C 0 rfl dX3_copies_2 rfl ?_
      refine z_iconst C (v := (nI 4)) dX3_copies_3 rfl ?_
      refine z_icmp_geN C 33 (by omega) (by omega) dX3_copies_4 (by decide) (fun c4 => ?_) (fun c4 => ?_)
      · skip
        obtain rfl : k = 4 := by omega
        refine z_iconst C (v := (nI 0)) dX3_copies_33 rfl ?_
        refine z_istore_n C [(3, .int (nI 0)), (0, .ref m), (1, .int (nI z)), (2, .int (nI y))] dX3_copies_34 rfl (by decide) rfl ?_
        have e06 : va_up (va_up F 5 (va_cpy (F 5) (F 5) (4 * z) (4 * y) 4)) 6 (F 6) = (va_up F 5 (va_cpy (F 5) (F 5) (4 * z) (4 * y) 4)) := zup_id (va_up F 5 (va_cpy (F 5) (F 5) (4 * z) (4 * y) 4)) 6
        have h06 : MX D V1 m A (va_up (va_up F 5 (va_cpy (F 5) (F 5) (4 * z) (4 * y) 4)) 6 (va_cpy (F 6) (F 6) (16 * z) (16 * y) 0)) cd nw st bx mv ap lf := by rw [zcpy_0, e06]; exact hloop1_1
        have loop2 : ∀ (n_loop2 : Nat) (k : Nat) (V1 : ZV), k ≤ 16 → MX D V1 m A (va_up (va_up F 5 (va_cpy (F 5) (F 5) (4 * z) (4 * y) 4)) 6 (va_cpy (F 6) (F 6) (16 * z) (16 * y) k)) cd nw st bx mv ap lf → 16 - k < n_loop2 → ZW l D Γ (zr 1 0 0) 35 [(3, .int (nI k)), (0, .ref m), (1, .int (nI z)), (2, .int (nI y))] [] V1 0 0 := by
          intro n_loop2
          induction n_loop2 with
          | zero => intro k V1 _ _ hm; exact absurd hm (Nat.not_lt_zero _)
          | succ n_loop2 ih_loop2 =>
            intro k V1 hloop2_0 hloop2_1 hm
            refine z_iload_n C 0 rfl dX3_copies_35 rfl ?_
            refine z_bipush C (v := (nI 16)) dX3_copies_36 rfl ?_
            refine z_icmp_geN C 69 (by omega) (by omega) dX3_copies_38 (by decide) (fun c38 => ?_) (fun c38 => ?_)
            · skip
              obtain rfl : k = 16 := by omega
              exact z_vret C hQ () rfl hloop2_1 (by decide) (by decide) dX3_copies_69
            · skip
              refine z_aload_n C 1 rfl dX3_copies_41 rfl ?_
              refine z_get C k_M hloop2_1.1 10 (by decide) rfl q1397 dX3_copies_42 ?_
              refine z_bipush C (v := (nI 16)) dX3_copies_45 rfl ?_
              refine z_iload_n C 3 rfl dX3_copies_47 rfl ?_
              refine z_imulN C dX3_copies_48 ?_
              refine z_iload_n C 0 rfl dX3_copies_49 rfl ?_
              refine z_iaddN C dX3_copies_50 ?_
              refine z_aload_n C 1 rfl dX3_copies_51 rfl ?_
              refine z_get C k_M hloop2_1.1 10 (by decide) rfl q1397 dX3_copies_52 ?_
              refine z_bipush C (v := (nI 16)) dX3_copies_55 rfl ?_
              refine z_iload_n C 2 rfl dX3_copies_57 rfl ?_
              refine z_imulN C dX3_copies_58 ?_
              refine z_iload_n C 0 rfl dX3_copies_59 rfl ?_
              refine z_iaddN C dX3_copies_60 ?_
              have ga3 : V1 (A 6) = some (.inl (D.arr 0, 96, .inl (va_cpy (F 6) (F 6) (16 * z) (16 * y) k))) := hloop2_1.2.1 6 (by decide)
              refine z_iald C ga3 (by omega) (by omega) (v := (F 6 ((16 * z) + k))) (zcpy_out (by omega)) dX3_copies_61 ?_
              refine z_iast C ga3 (by omega) (by omega) dX3_copies_62 (z_nV (fun V4 hV5 => ?_))
              have hM6 := MX.st hloop2_1 6 (by decide) (f := va_up (va_cpy (F 6) (F 6) (16 * z) (16 * y) k) ((16 * y) + k) (F 6 ((16 * z) + k))) hV5
              refine z_iincN C 0 1 [(3, .int (nI (k + 1))), (0, .ref m), (1, .int (nI z)), (2, .int (nI y))] rfl dX3_copies_63 rfl (by decide) rfl ?_
              refine z_goto C 35 dX3_copies_66 (by decide) ?_
              rw [zuu, zcpy_step] at hM6
              exact ih_loop2 (k + 1) _ (by omega) hM6 (by omega)
        exact loop2 _ 0 _ (by omega) h06 (Nat.lt_succ_self _)
      · skip
        refine z_aload_n C 1 rfl dX3_copies_7 rfl ?_
        refine z_get C k_M hloop1_1.1 9 (by decide) rfl q1396 dX3_copies_8 ?_
        refine z_iconst C (v := (nI 4)) dX3_copies_11 rfl ?_
        refine z_iload_n C 3 rfl dX3_copies_12 rfl ?_
        refine z_imulN C dX3_copies_13 ?_
        refine z_iload_n C 0 rfl dX3_copies_14 rfl ?_
        refine z_iaddN C dX3_copies_15 ?_
        refine z_aload_n C 1 rfl dX3_copies_16 rfl ?_
        refine z_get C k_M hloop1_1.1 9 (by decide) rfl q1396 dX3_copies_17 ?_
        refine z_iconst C (v := (nI 4)) dX3_copies_20 rfl ?_
        refine z_iload_n C 2 rfl dX3_copies_21 rfl ?_
        refine z_imulN C dX3_copies_22 ?_
        refine z_iload_n C 0 rfl dX3_copies_23 rfl ?_
        refine z_iaddN C dX3_copies_24 ?_
        have ga7 : V1 (A 5) = some (.inl (D.arr 0, 24, .inl (va_cpy (F 5) (F 5) (4 * z) (4 * y) k))) := hloop1_1.2.1 5 (by decide)
        refine z_iald C ga7 (by omega) (by omega) (v := (F 5 ((4 * z) + k))) (zcpy_out (by omega)) dX3_copies_25 ?_
        refine z_iast C ga7 (by omega) (by omega) dX3_copies_26 (z_nV (fun V8 hV9 => ?_))
        have hM10 := MX.st hloop1_1 5 (by decide) (f := va_up (va_cpy (F 5) (F 5) (4 * z) (4 * y) k) ((4 * y) + k) (F 5 ((4 * z) + k))) hV9
        refine z_iincN C 0 1 [(3, .int (nI (k + 1))), (0, .ref m), (1, .int (nI z)), (2, .int (nI y))] rfl dX3_copies_27 rfl (by decide) rfl ?_
        refine z_goto C 2 dX3_copies_30 (by decide) ?_
        rw [zuu, zcpy_step] at hM10
        exact ih_loop1 (k + 1) _ (by omega) hM10 (by omega)
  exact loop1 _ 0 _ (by omega) h05 (Nat.lt_succ_self _)
