/-! MODEL: aboveOf, plans, makes -/
set_option maxRecDepth 100000
/-- how many boxes lie above a box -/
def yAb (Y : YD) (t : Nat) : Nat := (Y (yPl Y t)).length - (Y (yPl Y t)).idxOf t - 1
theorem yAb_at {st : Nat} {Y : YD} {t p : Nat} (h : yOK st Y) (hst : st ≤ 4) (hb : t ∈ Y p) : (Y p)[(Y p).idxOf t]? = some t ∧ (Y p).idxOf t < (Y p).length ∧ yAb Y t = (Y p).length - (Y p).idxOf t - 1 := by
  have hi := List.idxOf_lt_length_of_mem hb
  refine ⟨?_, hi, ?_⟩
  · rw [List.getElem?_eq_getElem hi, List.getElem_idxOf hi]
  · unfold yAb; rw [yPl_eq h hst hb]
/-- the shortest plan, the first of that length; at most one move more than boxes above -/
def sPlan (L : YD → Nat → Bool) (t : Nat) (Y : YD) (o : Option (List Nat)) : Prop :=
  match o with
  | some ms => ms.length ≤ yAb Y t + 1 ∧ sFirst L t Y ms.length (some ms) ∧ ∀ n, n < ms.length → sFirst L t Y n none
  | none => ∀ n, n ≤ yAb Y t + 1 → sFirst L t Y n none
theorem sPlan_uq {L : YD → Nat → Bool} {t : Nat} {Y : YD} {o o2 : Option (List Nat)} (h : sPlan L t Y o) (h2 : sPlan L t Y o2) : o = o2 := by
  cases o with
  | none =>
    cases o2 with
    | none => rfl
    | some b => exact absurd h2.2.1.2.1 (h _ h2.1 _ rfl)
  | some a =>
    cases o2 with
    | none => exact absurd h.2.1.2.1 (h2 _ h.1 _ rfl)
    | some b =>
      rcases Nat.lt_trichotomy a.length b.length with k | k | k
      · exact absurd h.2.1.2.1 (h2.2.2 _ k _ rfl)
      · rcases h.2.1.2.2 b k.symm h2.2.1.2.1 with e | e
        · rw [e]
        · rcases h2.2.1.2.2 a k h.2.1.2.1 with e2 | e2
          · rw [e2]
          · exact absurd e2 (lexL_as e)
      · exact absurd h2.2.1.2.1 (h.2.2 _ k _ rfl)
def sLen (o : Option (List Nat)) : Int32 := match o with | some ms => nI ms.length | none => -1
theorem nI_add1 (k : Nat) : nI (k + 1) = nI k + nI 1 := by unfold nI; rw [Int32.ofNat_add]
theorem yRun_take {L : YD → Nat → Bool} {Y Z : YD} {ms : List Nat} {k q : Nat} (h : yRun L Y ms = some Z) (hk : ms[k]? = some q) : ∃ W, yRun L Y (ms.take k) = some W ∧ L W q = true ∧ yRun L Y (ms.take (k + 1)) = some (yGo W q) := by
  have hlt := (List.getElem?_eq_some_iff.mp hk).1
  have e : ms = ms.take k ++ q :: ms.drop (k + 1) := by
    have h3 : ms[k] = q := (List.getElem?_eq_some_iff.mp hk).2
    rw [← h3, List.getElem_cons_drop, List.take_append_drop]
  rw [e] at h
  obtain ⟨W, h1, h2, h3⟩ := yRun_mid h
  refine ⟨W, h1, h2, ?_⟩
  rw [List.take_add_one, hk]
  exact yRun_snoc h1 h2

set_option maxHeartbeats 4000000 in
set_option maxRecDepth 100000 in
theorem mX3_aboveOf {l : Launch} {D : ZD} {V : ZV} {m : Nat} {A : Nat → Nat} {F : Nat → Nat → Int32} {cd : Int32} {nw st bx : Nat} {mv : Int32} {ap : Nat} {lf : Int64} (hM : MX D V m A F cd nw st bx mv ap lf) (hst : st ≤ 4) (hbx : bx ≤ 20) {Y : YD} (hy : mY F 0 Y) (hok : yOK st Y) {b t : Nat} (hb : b ∈ Y t) : ZM l D yX3_aboveOf (ws_ yX3_aboveOf cX3_aboveOf 2 (some .int)) 3 0 0 eN V [.ref m, .int (nI b)] (fun r V' => V' = V ∧ r = yAb Y b) zno_x := by
  refine z_enter (by decide +kernel) [(0, .ref m), (1, .int (nI b))] rfl (Nat.le_of_ble_eq_true rfl) (zcat_cons rfl (zcat_cons rfl zcat_nil)) (fun Γ C hQ => ?_)
  obtain ⟨hk, hkl, hab⟩ := yAb_at hok hst hb
  have htl := hok.lt hb
  have hl4 := hok.1 t
  have hb20 := hok.2.2.1 t b hb
  refine z_aload_n C 0 rfl dX3_aboveOf_0 rfl ?_
  refine z_get C k_M hM.1 9 (by decide) rfl q1396 dX3_aboveOf_1 ?_
  refine z_aload_n C 0 rfl dX3_aboveOf_4 rfl ?_
  refine z_iconst C (v := (nI 0)) dX3_aboveOf_5 rfl ?_
  refine z_iload_n C 1 rfl dX3_aboveOf_6 rfl ?_
  refine z_callV C k_M hM.1 (As := [.int (nI 0), .int (nI b)]) (mX3_placeOf hM hst hbx hy (by omega) hok hb) (lw_V q1506 q1508 qs38 q65 q1509) rfl hd_X3_placeOf rfl (Nat.le_of_ble_eq_true rfl) (by decide) (by decide) (by decide) (by decide) rfl dX3_aboveOf_7 (fun _ _ h => h.elim) (fun r1 V2 hP3 => ?_)
  rw [hP3.1, hP3.2]
  refine z_st (st' := [.int (nI t), .ref (A 5)]) rfl ?_
  have ga4 : V (A 5) = some (.inl (D.arr 0, 24, .inl (F 5))) := hM.2.1 5 (by decide)
  refine z_iald C ga4 (by omega) (by omega) (v := (nI ((Y t).length))) (by have h9 := hy.1 t (by omega); simpa using h9) dX3_aboveOf_10 ?_
  refine z_aload_n C 0 rfl dX3_aboveOf_11 rfl ?_
  refine z_iconst C (v := (nI 0)) dX3_aboveOf_12 rfl ?_
  refine z_iload_n C 1 rfl dX3_aboveOf_13 rfl ?_
  refine z_callV C k_M hM.1 (As := [.int (nI 0), .int (nI b)]) (mX3_levelOf hM hst hbx hy (by omega) hok hb hk) (lw_V q1514 q1516 qs39 q65 q1517) rfl hd_X3_levelOf rfl (Nat.le_of_ble_eq_true rfl) (by decide) (by decide) (by decide) (by decide) rfl dX3_aboveOf_14 (fun _ _ h => h.elim) (fun r5 V6 hP7 => ?_)
  rw [hP7.1, hP7.2]
  refine z_st (st' := [.int (nI ((Y t).idxOf b)), .int (nI ((Y t).length))]) rfl ?_
  refine z_isubN C (by omega) dX3_aboveOf_17 ?_
  refine z_iconst C (v := (nI 1)) dX3_aboveOf_18 rfl ?_
  refine z_isubN C (by omega) dX3_aboveOf_19 ?_
  exact z_iret C hQ ((((Y t).length) - ((Y t).idxOf b)) - 1) rfl ⟨rfl, hab.symm⟩ (by decide) (by decide) dX3_aboveOf_20
set_option maxHeartbeats 4000000 in
set_option maxRecDepth 100000 in
theorem mX3_plans {l : Launch} {D : ZD} {V : ZV} {m : Nat} {A : Nat → Nat} {F : Nat → Nat → Int32} {cd : Int32} {nw st bx : Nat} {mv : Int32} {ap : Nat} {lf : Int64} (hM : MX D V m A F cd nw st bx mv ap lf) (hst : st ≤ 4) (hbx : bx ≤ 20) {Y : YD} (hy : mY F 0 Y) {rch wt : Nat → Nat} {ins : Nat → Bool} {hld : Nat → Int32} (hE : mE F st bx rch wt ins hld) (hrc : ∀ s, s < st → rch s ≤ 4) (hwt : ∀ b, b < bx → wt b < 1000) (hg : yGood st bx ins Y) {t : Nat} (ht : t < bx) (hti : ins t = true) : ZM l D yX3_plans (ws_ yX3_plans cX3_plans 3 (some .int)) 6 0 0 eI V [.ref m, .int (nI t)] (fun r V' => ∃ F2, MX D V' m A F2 cd nw st bx mv ap lf ∧ mOff F F2 ∧ mY F2 0 Y ∧ ∃ o, sPlan (yLeg st rch wt ins (pin' hld) t) t Y o ∧ r = sLen o ∧ ∀ ms, o = some ms → ∀ i q, ms[i]? = some q → F2 7 i = nI q) zno_x := by
  refine z_enter (by decide +kernel) [(0, .ref m), (1, .int (nI t))] rfl (Nat.le_of_ble_eq_true rfl) (zcat_cons rfl (zcat_cons rfl zcat_nil)) (fun Γ C hQ => ?_)
  obtain ⟨p, hb⟩ := hg.2.1 t ht hti
  obtain ⟨hk, hkl, hab⟩ := yAb_at hg.1 hst hb
  have hl4 := hg.1.1 p
  refine z_iconst C (v := (nI 0)) dX3_plans_0 rfl ?_
  refine z_istore_n C [(2, .int (nI 0)), (0, .ref m), (1, .int (nI t))] dX3_plans_1 rfl (by decide) rfl ?_
  have loop1 : ∀ (n_loop1 : Nat) (k : Nat) (F1 : Nat → Nat → Int32) (V1 : ZV), k ≤ yAb Y t + 2 → MX D V1 m A F1 cd nw st bx mv ap lf → mOff F F1 → mY F1 0 Y → (∀ j, j < k → sFirst (yLeg st rch wt ins (pin' hld) t) t Y j none) → yAb Y t + 2 - k < n_loop1 → ZW l D Γ (zr 6 0 0) 2 [(2, .int (nI k)), (0, .ref m), (1, .int (nI t))] [] V1 0 0 := by
    intro n_loop1
    induction n_loop1 with
    | zero => intro k F1 V1 _ _ _ _ _ hm; exact absurd hm (Nat.not_lt_zero _)
    | succ n_loop1 ih_loop1 =>
      intro k F1 V1 hloop1_0 hloop1_1 hloop1_2 hloop1_3 hloop1_4 hm
      refine z_iload_n C 0 rfl dX3_plans_2 rfl ?_
      refine z_aload_n C 1 rfl dX3_plans_3 rfl ?_
      refine z_iload_n C 2 rfl dX3_plans_4 rfl ?_
      refine z_callV C k_M hloop1_1.1 (As := [.int (nI t)]) (mX3_aboveOf hloop1_1 hst hbx hloop1_3 hg.1 hb) (lw_V q1522 q1524 qs40 q65 q1525) rfl hd_X3_aboveOf rfl (Nat.le_of_ble_eq_true rfl) (by decide) (by decide) (by decide) (by decide) rfl dX3_plans_5 (fun _ _ h => h.elim) (fun r2 V3 hP4 => ?_)
      rw [hP4.1, hP4.2]
      refine z_st (st' := [.int (nI (yAb Y t)), .int (nI k)]) rfl ?_
      refine z_iconst C (v := (nI 1)) dX3_plans_8 rfl ?_
      refine z_iaddN C dX3_plans_9 ?_
      refine z_icmp_gtN C 30 (by omega) (by omega) dX3_plans_10 (by decide) (fun c10 => ?_) (fun c10 => ?_)
      · skip
        refine z_iconst C (v := (-1)) dX3_plans_30 rfl ?_
        exact z_iret C hQ (-1) rfl ⟨F1, hloop1_1, hloop1_2, hloop1_3, none, fun j hj => hloop1_4 j (by omega), rfl, fun _ h => by cases h⟩ (by decide) (by decide) dX3_plans_31
      · skip
        refine z_aload_n C 1 rfl dX3_plans_13 rfl ?_
        refine z_iload_n C 2 rfl dX3_plans_14 rfl ?_
        refine z_iload_n C 0 rfl dX3_plans_15 rfl ?_
        refine z_callV C k_M hloop1_1.1 (As := [.int (nI t), .int (nI k)]) (mX3_finds hloop1_1 hst hbx hloop1_3 (hloop1_2.e hE) hrc hwt hg (n := k) (by omega) ht hti) (lw_V q1594 q1596 qs48 q65 q1597) rfl hd_X3_finds rfl (Nat.le_of_ble_eq_true rfl) (by decide) (by decide) (by decide) (by decide) rfl dX3_plans_16 (fun _ _ h => h.elim) (fun r5 V6 hP7 => ?_)
        obtain ⟨F8, hM9, hO2, hY2, o, hS, hT1, hT2⟩ := hP7
        refine z_st (st' := [.int (zb r5)]) rfl ?_
        refine z_if_eqB C 24 dX3_plans_19 (by decide) (fun c19 => ?_) (fun c19 => ?_)
        · skip
          obtain rfl := hT2 (by simpa using c19)
          have hnext : ∀ j, j < k + 1 → sFirst (yLeg st rch wt ins (pin' hld) t) t Y j none := by
            intro j hj
            rcases Nat.lt_or_ge j k with q | q
            · exact hloop1_4 j q
            · obtain rfl : j = k := by omega
              exact hS
          refine z_iincN C 0 1 [(2, .int (nI (k + 1))), (0, .ref m), (1, .int (nI t))] rfl dX3_plans_24 rfl (by decide) rfl ?_
          refine z_goto C 2 dX3_plans_27 (by decide) ?_
          exact ih_loop1 (k + 1) F8 _ (by omega) hM9 (fun i a b c => (hO2 i a b c).trans (hloop1_2 i a b c)) hY2 hnext (by omega)
        · skip
          obtain ⟨ms, rfl, hpl⟩ := hT1 (by simpa using c19)
          have hml : ms.length = k := hS.1
          refine z_iload_n C 0 rfl dX3_plans_22 rfl ?_
          exact z_iret C hQ (nI k) rfl ⟨F8, hM9, fun i a b c => (hO2 i a b c).trans (hloop1_2 i a b c), hY2, some ms, ⟨by omega, by rw [hml]; exact hS, fun j hj => hloop1_4 j (by omega)⟩, by show nI k = nI ms.length; rw [hml], fun ms2 e => by cases e; exact hpl⟩ (by decide) (by decide) dX3_plans_23
  exact loop1 _ 0 F V (by omega) hM (fun _ _ _ _ => rfl) hy (fun j h => absurd h (Nat.not_lt_zero _)) (Nat.lt_succ_self _)
set_option maxHeartbeats 4000000 in
set_option maxRecDepth 100000 in
theorem mX3_makes {l : Launch} {D : ZD} {V : ZV} {m : Nat} {A : Nat → Nat} {F : Nat → Nat → Int32} {cd : Int32} {nw st bx : Nat} {mv : Int32} {ap : Nat} {lf : Int64} (hM : MX D V m A F cd nw st bx mv ap lf) (hst : st ≤ 4) (hbx : bx ≤ 20) {Y Z : YD} (hy : mY F 0 Y) {rch wt : Nat → Nat} {ins : Nat → Bool} {hld : Nat → Int32} (hE : mE F st bx rch wt ins hld) (hrc : ∀ s, s < st → rch s ≤ 4) (hwt : ∀ b, b < bx → wt b < 1000) (hg : yGood st bx ins Y) {t n : Nat} {ms : List Nat} (hZ : yRun (yLeg st rch wt ins (pin' hld) t) Y ms = some Z) (hn : ms.length = n) (hn6 : n ≤ 5) (hp : ∀ i q, ms[i]? = some q → F 7 i = nI q) : ZM l D yX3_makes (ws_ yX3_makes cX3_makes 3 none) 3 0 0 eU V [.ref m, .int (nI n)] (fun r V' => ∃ F2, MX D V' m A F2 cd nw st bx (mv + nI n) ap lf ∧ mY F2 0 Z ∧ mOn F F2 0) zno_x := by
  refine z_enter (by decide +kernel) [(0, .ref m), (1, .int (nI n))] rfl (Nat.le_of_ble_eq_true rfl) (zcat_cons rfl (zcat_cons rfl zcat_nil)) (fun Γ C hQ => ?_)
  have hgr : ∀ (a : List Nat) (W : YD), yRun (yLeg st rch wt ins (pin' hld) t) Y a = some W → yGood st bx ins W := fun a W h => yGood_run hrc a hg h
  refine z_iconst C (v := (nI 0)) dX3_makes_0 rfl ?_
  refine z_istore_n C [(2, .int (nI 0)), (0, .ref m), (1, .int (nI n))] dX3_makes_1 rfl (by decide) rfl ?_
  have hM0 : MX D V m A F cd nw st bx (mv + nI 0) ap lf := by have e : mv + nI 0 = mv := Int32.add_zero mv; rw [e]; exact hM
  have loop1 : ∀ (n_loop1 : Nat) (k : Nat) (F1 : Nat → Nat → Int32) (V1 : ZV), k ≤ n → MX D V1 m A F1 cd nw st bx (mv + nI k) ap lf → mOn F F1 0 → (∃ W, yRun (yLeg st rch wt ins (pin' hld) t) Y (ms.take k) = some W ∧ mY F1 0 W) → n - k < n_loop1 → ZW l D Γ (zr 3 0 0) 2 [(2, .int (nI k)), (0, .ref m), (1, .int (nI n))] [] V1 0 0 := by
    intro n_loop1
    induction n_loop1 with
    | zero => intro k F1 V1 _ _ _ _ hm; exact absurd hm (Nat.not_lt_zero _)
    | succ n_loop1 ih_loop1 =>
      intro k F1 V1 hloop1_0 hloop1_1 hloop1_2 hloop1_3 hm
      refine z_iload_n C 0 rfl dX3_makes_2 rfl ?_
      refine z_iload_n C 2 rfl dX3_makes_3 rfl ?_
      refine z_icmp_geN C 44 (by omega) (by omega) dX3_makes_4 (by decide) (fun c4 => ?_) (fun c4 => ?_)
      · skip
        obtain rfl : k = n := by omega
        obtain ⟨W, hW1, hW2⟩ := hloop1_3
        rw [List.take_of_length_le (by omega), hZ] at hW1
        cases hW1
        exact z_vret C hQ () rfl ⟨F1, hloop1_1, hW2, hloop1_2⟩ (by decide) (by decide) dX3_makes_44
      · skip
        obtain ⟨q, hq⟩ : ∃ q, ms[k]? = some q := ⟨_, List.getElem?_eq_getElem (by omega)⟩
        obtain ⟨W, hW1, hW2⟩ := hloop1_3
        obtain ⟨W2, j1, j2, j3⟩ := yRun_take hZ hq
        rw [j1] at hW1; cases hW1
        have hWg := hgr _ _ j1
        have hq80 := yLeg_lt hWg q j2
        obtain ⟨i1, i2, i3, i4⟩ := yLeg_spec j2
        obtain ⟨c1, c2, c3, c4⟩ := yCan_spec i4
        have hrs := hrc _ i2
        have hbz := List.mem_of_getLast? c1
        have hp7 : F1 7 k = nI q := by rw [hloop1_2.1 7 (by decide) (by decide)]; exact hp k q hq
        refine z_aload_n C 1 rfl dX3_makes_7 rfl ?_
        refine z_iconst C (v := (nI 0)) dX3_makes_8 rfl ?_
        refine z_aload_n C 1 rfl dX3_makes_9 rfl ?_
        refine z_get C k_M hloop1_1.1 11 (by decide) rfl q1398 dX3_makes_10 ?_
        refine z_iload_n C 0 rfl dX3_makes_13 rfl ?_
        have ga2 : V1 (A 7) = some (.inl (D.arr 0, 6, .inl (F1 7))) := hloop1_1.2.1 7 (by decide)
        refine z_iald C ga2 (by omega) (by omega) (v := (nI q)) hp7 dX3_makes_14 ?_
        refine z_iconst C (v := (nI 4)) dX3_makes_15 rfl ?_
        refine z_idivN C (by omega) (by omega) (by omega) dX3_makes_16 ?_
        refine z_aload_n C 1 rfl dX3_makes_17 rfl ?_
        refine z_get C k_M hloop1_1.1 11 (by decide) rfl q1398 dX3_makes_18 ?_
        refine z_iload_n C 0 rfl dX3_makes_21 rfl ?_
        refine z_iald C ga2 (by omega) (by omega) (v := (nI q)) hp7 dX3_makes_22 ?_
        refine z_iconst C (v := (nI 4)) dX3_makes_23 rfl ?_
        refine z_iremN C (by omega) (by omega) (by omega) dX3_makes_24 ?_
        refine z_callV C k_M hloop1_1.1 (As := [.int (nI 0), .int (nI (q / 4)), .int (nI (q % 4))]) (mX3_moves hloop1_1 hst hbx hW2 (by omega) hWg.1 hbz (s := q % 4) (by omega) c3 (by omega) c1) (lw_V q1578 q1580 qs45 q65 q1581) rfl hd_X3_moves rfl (Nat.le_of_ble_eq_true rfl) (by decide) (by decide) (by decide) (by decide) rfl dX3_makes_25 (fun _ _ h => h.elim) (fun r3 V4 hP5 => ?_)
        obtain ⟨F6, hM7, hr8⟩ := hP5
        refine z_st (st' := []) rfl ?_
        refine z_aload_n C 1 rfl dX3_makes_28 rfl ?_
        refine z_dup C dX3_makes_29 rfl ?_
        refine z_get C k_M hM7.1 12 (by decide) rfl q1399 dX3_makes_30 ?_
        refine z_iconst C (v := (nI 1)) dX3_makes_33 rfl ?_
        refine z_iadd C dX3_makes_34 ?_
        refine z_put C k_M hM7.1 12 (by decide) [.int cd, .int (nI nw), .int (nI st), .ref (A 0), .int (nI bx), .ref (A 1), .ref (A 2), .ref (A 3), .ref (A 4), .ref (A 5), .ref (A 6), .ref (A 7), .int ((mv + nI k) + (nI 1)), .int (nI ap), .ref (A 8), .ref (A 9), .ref (A 10), .ref (A 11), .long lf] rfl (Nat.le_of_ble_eq_true rfl) rfl rfl rfl q1399 dX3_makes_35 (z_nV (fun V9 hV10 => ?_))
        have hM11 := MX.ob (cd2 := cd) (nw2 := nw) (st2 := st) (bx2 := bx) (mv2 := ((mv + nI k) + (nI 1))) (ap2 := ap) (lf2 := lf) hM7 hV10
        refine z_iincN C 0 1 [(2, .int (nI (k + 1))), (0, .ref m), (1, .int (nI n))] rfl dX3_makes_38 rfl (by decide) rfl ?_
        refine z_goto C 2 dX3_makes_41 (by decide) ?_
        rw [Int32.add_assoc, ← nI_add1] at hM11
        exact ih_loop1 (k + 1) F6 _ (by omega) hM11 (hloop1_2.tr hr8.2) ⟨_, j3, hr8.1⟩ (by omega)
  exact loop1 _ 0 F V (by omega) hM0 mOn.rf ⟨Y, rfl, hy⟩ (Nat.lt_succ_self _)
