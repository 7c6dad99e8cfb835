/-! YARD: the methods of Quaylock$Yard that read and write its two arrays -/
set_option maxHeartbeats 4000000 in
set_option maxRecDepth 100000 in
theorem mX2_at {l : Launch} {D : ZD} {V : ZV} {y yb yh : Nat} {fb : Nat → Option Nat} {fh : Nat → Int32} (hY : hYd D V y yb yh fb fh) {s k : Nat} (hs : s < 4) (hk : k < 4) : ZM l D yX2_at (ws_ yX2_at cX2_at 3 (some (.object "Quaylock$Box"))) 1 0 0 eO V [.ref y, .int (nI s), .int (nI k)] (fun r V' => V' = V ∧ r = fb (4 * s + k)) zno_x := by
  refine z_enter (by decide +kernel) [(0, .ref y), (1, .int (nI s)), (2, .int (nI k))] rfl (Nat.le_of_ble_eq_true rfl) (zcat_cons rfl (zcat_cons rfl (zcat_cons rfl zcat_nil))) (fun Γ C hQ => ?_)
  refine z_aload_n C 0 rfl dX2_at_0 rfl ?_
  refine z_get C k_Y hY.1 0 (by decide) rfl q113 dX2_at_1 ?_
  refine z_iconst C (v := (nI 4)) dX2_at_4 rfl ?_
  refine z_iload_n C 1 rfl dX2_at_5 rfl ?_
  refine z_imulN C dX2_at_6 ?_
  refine z_iload_n C 2 rfl dX2_at_7 rfl ?_
  refine z_iaddN C dX2_at_8 ?_
  refine z_aald C 1 (by decide) hY.2.1 (by omega) (by omega) rfl dX2_at_9 ?_
  exact z_aretQ C hQ (fb ((4 * s) + k)) rfl (Or.inl ⟨_, rfl⟩) ⟨rfl, rfl⟩ (by decide) (by decide) dX2_at_10
set_option maxHeartbeats 4000000 in
set_option maxRecDepth 100000 in
theorem mX2_top {l : Launch} {D : ZD} {V : ZV} {y yb yh : Nat} {fb : Nat → Option Nat} {fh : Nat → Int32} (hY : hYd D V y yb yh fb fh) {s n : Nat} (hs : s < 4) (hn : n ≤ 4) (hh : fh s = nI n) : ZM l D yX2_top (ws_ yX2_top cX2_top 2 (some (.object "Quaylock$Box"))) 2 0 0 eO V [.ref y, .int (nI s)] (fun r V' => V' = V ∧ r = if n = 0 then none else fb (4 * s + (n - 1))) zno_x := by
  refine z_enter (by decide +kernel) [(0, .ref y), (1, .int (nI s))] rfl (Nat.le_of_ble_eq_true rfl) (zcat_cons rfl (zcat_cons rfl zcat_nil)) (fun Γ C hQ => ?_)
  refine z_aload_n C 0 rfl dX2_top_0 rfl ?_
  refine z_get C k_Y hY.1 1 (by decide) rfl q114 dX2_top_1 ?_
  refine z_iload_n C 1 rfl dX2_top_4 rfl ?_
  refine z_iald C hY.2.2 (by omega) (by omega) (v := (nI n)) hh dX2_top_5 ?_
  refine z_if_neN C 13 (by omega) dX2_top_6 (by decide) (fun c6 => ?_) (fun c6 => ?_)
  · skip
    refine z_aload_n C 0 rfl dX2_top_13 rfl ?_
    refine z_iload_n C 1 rfl dX2_top_14 rfl ?_
    refine z_aload_n C 0 rfl dX2_top_15 rfl ?_
    refine z_get C k_Y hY.1 1 (by decide) rfl q114 dX2_top_16 ?_
    refine z_iload_n C 1 rfl dX2_top_19 rfl ?_
    refine z_iald C hY.2.2 (by omega) (by omega) (v := (nI n)) hh dX2_top_20 ?_
    refine z_iconst C (v := (nI 1)) dX2_top_21 rfl ?_
    refine z_isubN C (by omega) dX2_top_22 ?_
    refine z_callV C k_Y hY.1 (As := [.int (nI s), .int (nI (n - 1))]) (mX2_at hY (s := s) (k := n - 1) (by omega) (by omega)) (lw_V q438 q439 q440 q59 q441) rfl hd_X2_at rfl (Nat.le_of_ble_eq_true rfl) (by decide) (by decide) (by decide) (by decide) rfl dX2_top_23 (fun _ _ h => h.elim) (fun r1 V2 hP3 => ?_)
    rw [hP3.1, hP3.2]
    refine z_st (st' := [va_rf (fb (4 * s + (n - 1)))]) rfl ?_
    exact z_aretQ C hQ (fb (4 * s + (n - 1))) rfl (Or.inl ⟨_, rfl⟩) ⟨rfl, by first | rw [if_pos (by omega)] | rw [if_neg (by omega)]⟩ (by decide) (by decide) dX2_top_26
  · skip
    refine z_null C dX2_top_9 ?_
    refine z_goto C 26 dX2_top_10 (by decide) ?_
    exact z_aretN C hQ none rfl (Or.inl ⟨_, rfl⟩) ⟨rfl, by first | rw [if_pos (by omega)] | rw [if_neg (by omega)]⟩ (by decide) (by decide) dX2_top_26
set_option maxHeartbeats 4000000 in
set_option maxRecDepth 100000 in
theorem mX2_push {l : Launch} {D : ZD} {V : ZV} {y yb yh : Nat} {fb : Nat → Option Nat} {fh : Nat → Int32} (hY : hYd D V y yb yh fb fh) {s n b : Nat} {vs : List Value} (hs : s < 4) (hn : n < 4) (hh : fh s = nI n) (hb : V b = some (.inr (3, vs))) : ZM l D yX2_push (ws_ yX2_push cX2_push 3 none) 1 0 0 eU V [.ref y, .int (nI s), .ref b] (fun r V' => V' = va_up (va_up V yb (some (.inl (D.arr 1, 16, .inr (.inr (.inr (.inr (va_up fb (4 * s + n) (some b))))))))) yh (some (.inl (D.arr 0, 4, .inl (va_up fh s (nI (n + 1))))))) zno_x := by
  refine z_enter (by decide +kernel) [(0, .ref y), (1, .int (nI s)), (2, .ref b)] rfl (Nat.le_of_ble_eq_true rfl) (zcat_cons rfl (zcat_cons rfl (zcat_cons rfl zcat_nil))) (fun Γ C hQ => ?_)
  refine z_aload_n C 0 rfl dX2_push_0 rfl ?_
  refine z_get C k_Y hY.1 0 (by decide) rfl q113 dX2_push_1 ?_
  refine z_iconst C (v := (nI 4)) dX2_push_4 rfl ?_
  refine z_iload_n C 1 rfl dX2_push_5 rfl ?_
  refine z_imulN C dX2_push_6 ?_
  refine z_aload_n C 0 rfl dX2_push_7 rfl ?_
  refine z_get C k_Y hY.1 1 (by decide) rfl q114 dX2_push_8 ?_
  refine z_iload_n C 1 rfl dX2_push_11 rfl ?_
  refine z_iald C hY.2.2 (by omega) (by omega) (v := (nI n)) hh dX2_push_12 ?_
  refine z_iaddN C dX2_push_13 ?_
  refine z_aload_n C 2 rfl dX2_push_14 rfl ?_
  refine z_aast C 1 (by decide) hY.2.1 (by omega) (by omega) k_B hb (Or.inl rfl) dX2_push_15 (z_nV (fun V1 hV2 => ?_))
  have g3 := zup hV2 (zne_oa hY.1 hY.2.1) hY.1
  have g4 := zup hV2 (zne_k hY.2.2 hY.2.1 (by simp)) hY.2.2
  have g5 := zup hV2 (zne_oa hb hY.2.1) hb
  have g6 : V1 yb = some (.inl (D.arr 1, 16, .inr (.inr (.inr (.inr (va_up fb ((4 * s) + n) (some b))))))) := zself hV2
  refine z_aload_n C 0 rfl dX2_push_16 rfl ?_
  refine z_get C k_Y g3 1 (by decide) rfl q114 dX2_push_17 ?_
  refine z_iload_n C 1 rfl dX2_push_20 rfl ?_
  refine z_dup2 C dX2_push_21 rfl rfl ?_
  refine z_iald C g4 (by omega) (by omega) (v := (nI n)) hh dX2_push_22 ?_
  refine z_iconst C (v := (nI 1)) dX2_push_23 rfl ?_
  refine z_iaddN C dX2_push_24 ?_
  refine z_iast C g4 (by omega) (by omega) dX2_push_25 (z_nV (fun V7 hV8 => ?_))
  have g9 := zup hV8 (zne_oa g3 g4) g3
  have g10 := zup hV8 (zne_oa g5 g4) g5
  have g11 := zup hV8 (zne_k g6 g4 (by simp)) g6
  have g12 : V7 yh = some (.inl (D.arr 0, 4, .inl (va_up fh s (nI (n + 1))))) := zself hV8
  exact z_vret C hQ () rfl (by rw [hV8, hV2]) (by decide) (by decide) dX2_push_26
set_option maxHeartbeats 4000000 in
set_option maxRecDepth 100000 in
theorem mX2_stackOf {l : Launch} {D : ZD} {V : ZV} {y yb yh : Nat} {fb : Nat → Option Nat} {fh : Nat → Int32} (hY : hYd D V y yb yh fb fh) {ba : Nat → Nat} {Y : YD} (hR : yRel ba Y fb fh) {b t : Nat} (hb : yIn ba Y b t) : ZM l D yX2_stackOf (ws_ yX2_stackOf cX2_stackOf 5 (some .int)) 2 0 0 eN V [.ref y, .ref (ba b)] (fun r V' => V' = V ∧ r = t) zno_x := by
  refine z_enter (by decide +kernel) [(0, .ref y), (1, .ref (ba b))] rfl (Nat.le_of_ble_eq_true rfl) (zcat_cons rfl (zcat_cons rfl zcat_nil)) (fun Γ C hQ => ?_)
  refine z_iconst C (v := (-1)) dX2_stackOf_0 rfl ?_
  refine z_istore_n C [(2, .int (-1)), (0, .ref y), (1, .ref (ba b))] dX2_stackOf_1 rfl (by decide) rfl ?_
  refine z_iconst C (v := (nI 0)) dX2_stackOf_2 rfl ?_
  refine z_istore_n C [(3, .int (nI 0)), (2, .int (-1)), (0, .ref y), (1, .ref (ba b))] dX2_stackOf_3 rfl (by decide) rfl ?_
  have e1 : (.int (-1) : Value) = .int (yFnd Y b t 0 0) := (by rw [yFnd_first])
  refine z_lv (lv' := [(3, .int (nI 0)), (2, .int (yFnd Y b t 0 0)), (0, .ref y), (1, .ref (ba b))]) (by rw [e1]) ?_
  have loop2 : ∀ (n_loop2 : Nat) (s : Nat), s ≤ 4 → 4 - s < n_loop2 → ZW l D Γ (zr 2 0 0) 4 [(3, .int (nI s)), (2, .int (yFnd Y b t s 0)), (0, .ref y), (1, .ref (ba b))] [] V 0 0 := by
    intro n_loop2
    induction n_loop2 with
    | zero => intro s _ hm; exact absurd hm (Nat.not_lt_zero _)
    | succ n_loop2 ih_loop2 =>
      intro s hloop2_0 hm
      have hl4 := hb.2.2.2.2 s
      refine z_iload_n C 0 rfl dX2_stackOf_4 rfl ?_
      refine z_iconst C (v := (nI 4)) dX2_stackOf_5 rfl ?_
      refine z_icmp_geN C 52 (by omega) (by omega) dX2_stackOf_6 (by decide) (fun c6 => ?_) (fun c6 => ?_)
      · skip
        obtain rfl : s = 4 := by omega
        have e3 : (.int (yFnd Y b t 4 0) : Value) = .int (nI t) := (by rw [yFnd_last hb])
        refine z_lv (lv' := [(3, .int (nI 4)), (2, .int (nI t)), (0, .ref y), (1, .ref (ba b))]) (by rw [e3]) ?_
        refine z_iload_n C 1 rfl dX2_stackOf_52 rfl ?_
        exact z_iret C hQ t rfl ⟨rfl, rfl⟩ (by decide) (by decide) dX2_stackOf_53
      · skip
        refine z_iconst C (v := (nI 0)) dX2_stackOf_9 rfl ?_
        refine z_istore C [(4, .int (nI 0)), (3, .int (nI s)), (2, .int (yFnd Y b t s 0)), (0, .ref y), (1, .ref (ba b))] dX2_stackOf_10 (by decide) rfl ?_
        refine z_pick [(4, .int (nI 0)), (2, .int (yFnd Y b t s 0)), (3, .int (nI s)), (0, .ref y), (1, .ref (ba b))] [0, 2, 1, 3, 4] rfl ?_
        have loop4 : ∀ (n_loop4 : Nat) (k : Nat), k ≤ (Y s).length → (Y s).length - k < n_loop4 → ZW l D Γ (zr 2 0 0) 12 [(4, .int (nI k)), (2, .int (yFnd Y b t s k)), (3, .int (nI s)), (0, .ref y), (1, .ref (ba b))] [] V 0 0 := by
          intro n_loop4
          induction n_loop4 with
          | zero => intro k _ hm; exact absurd hm (Nat.not_lt_zero _)
          | succ n_loop4 ih_loop4 =>
            intro k hloop4_0 hm
            refine z_iload C 0 rfl dX2_stackOf_12 ?_
            refine z_aload_n C 3 rfl dX2_stackOf_14 rfl ?_
            refine z_get C k_Y hY.1 1 (by decide) rfl q114 dX2_stackOf_15 ?_
            refine z_iload_n C 2 rfl dX2_stackOf_18 rfl ?_
            refine z_iald C hY.2.2 (by omega) (by omega) (v := (nI ((Y s).length))) (hR.1 s (by omega)) dX2_stackOf_19 ?_
            refine z_icmp_geN C 46 (by omega) (by omega) dX2_stackOf_20 (by decide) (fun c20 => ?_) (fun c20 => ?_)
            · skip
              obtain rfl : k = (Y s).length := by omega
              have e5 : (.int (yFnd Y b t s (Y s).length) : Value) = .int (yFnd Y b t (s + 1) 0) := (by rw [yFnd_end hb])
              refine z_lv (lv' := [(4, .int (nI ((Y s).length))), (2, .int (yFnd Y b t (s + 1) 0)), (3, .int (nI s)), (0, .ref y), (1, .ref (ba b))]) (by rw [e5]) ?_
              refine z_iincN C 2 1 [(3, .int (nI (s + 1))), (4, .int (nI ((Y s).length))), (2, .int (yFnd Y b t (s + 1) 0)), (0, .ref y), (1, .ref (ba b))] rfl dX2_stackOf_46 rfl (by decide) rfl ?_
              refine z_goto C 4 dX2_stackOf_49 (by decide) ?_
              refine z_pick [(3, .int (nI (s + 1))), (2, .int (yFnd Y b t (s + 1) 0)), (0, .ref y), (1, .ref (ba b))] [0, 2, 3, 4] rfl ?_
              exact ih_loop2 (s + 1) (by omega) (by omega)
            · skip
              have hkl : k < (Y s).length := by omega
              obtain ⟨c, hc⟩ : ∃ c, (Y s)[k]? = some c := ⟨_, List.getElem?_eq_getElem hkl⟩
              have hcb := hR.2 s k c (by omega) hc
              refine z_aload_n C 3 rfl dX2_stackOf_23 rfl ?_
              refine z_iload_n C 2 rfl dX2_stackOf_24 rfl ?_
              refine z_iload C 0 rfl dX2_stackOf_25 ?_
              refine z_callV C k_Y hY.1 (As := [.int (nI s), .int (nI k)]) (mX2_at ⟨hY.1, hY.2.1, hY.2.2⟩ (s := s) (k := k) (by omega) (by omega)) (lw_V q438 q439 q440 q59 q441) rfl hd_X2_at rfl (Nat.le_of_ble_eq_true rfl) (by decide) (by decide) (by decide) (by decide) rfl dX2_stackOf_27 (fun _ _ h => h.elim) (fun r6 V7 hP8 => ?_)
              rw [hP8.1, hP8.2]
              refine z_st (st' := [va_rf (fb (4 * s + k))]) rfl ?_
              refine z_aload_n C 4 rfl dX2_stackOf_30 rfl ?_
              refine z_st (st' := [.ref (ba b), .ref (ba c)]) (by rw [hcb]; rfl) ?_
              refine z_acmp_ne C (some (ba c)) (some (ba b)) 38 dX2_stackOf_31 (by decide) (fun c31 => ?_) (fun c31 => ?_)
              · skip
                have hne : c ≠ b := fun z => c31 (by rw [z])
                refine z_iload_n C 1 rfl dX2_stackOf_38 rfl ?_
                refine z_istore_n C [(2, .int (yFnd Y b t s k)), (4, .int (nI k)), (3, .int (nI s)), (0, .ref y), (1, .ref (ba b))] dX2_stackOf_39 rfl (by decide) rfl ?_
                refine z_iincN C 1 1 [(4, .int (nI (k + 1))), (2, .int (yFnd Y b t s k)), (3, .int (nI s)), (0, .ref y), (1, .ref (ba b))] rfl dX2_stackOf_40 rfl (by decide) rfl ?_
                refine z_goto C 12 dX2_stackOf_43 (by decide) ?_
                have e9 : (.int (yFnd Y b t s k) : Value) = .int (yFnd Y b t s (k + 1)) := (by rw [yFnd_miss hc hne])
                refine z_lv (lv' := [(4, .int (nI (k + 1))), (2, .int (yFnd Y b t s (k + 1))), (3, .int (nI s)), (0, .ref y), (1, .ref (ba b))]) (by rw [e9]) ?_
                exact ih_loop4 (k + 1) (by omega) (by omega)
              · skip
                have heq : c = b := hb.2.2.2.1 s c (List.mem_of_getElem? hc) (Option.some.inj c31)
                rw [heq] at hc hcb
                refine z_iload_n C 2 rfl dX2_stackOf_34 rfl ?_
                refine z_goto C 39 dX2_stackOf_35 (by decide) ?_
                refine z_istore_n C [(2, .int (nI s)), (4, .int (nI k)), (3, .int (nI s)), (0, .ref y), (1, .ref (ba b))] dX2_stackOf_39 rfl (by decide) rfl ?_
                refine z_iincN C 1 1 [(4, .int (nI (k + 1))), (2, .int (nI s)), (3, .int (nI s)), (0, .ref y), (1, .ref (ba b))] rfl dX2_stackOf_40 rfl (by decide) rfl ?_
                refine z_goto C 12 dX2_stackOf_43 (by decide) ?_
                have e10 : (.int (nI s) : Value) = .int (yFnd Y b t s (k + 1)) := (by rw [yFnd_hit hb hc])
                refine z_lv (lv' := [(4, .int (nI (k + 1))), (2, .int (yFnd Y b t s (k + 1))), (3, .int (nI s)), (0, .ref y), (1, .ref (ba b))]) (by rw [e10]) ?_
                exact ih_loop4 (k + 1) (by omega) (by omega)
        exact loop4 _ 0 (Nat.zero_le _) (Nat.lt_succ_self _)
  exact loop2 _ 0 (by omega) (Nat.lt_succ_self _)
set_option maxHeartbeats 4000000 in
set_option maxRecDepth 100000 in
theorem mX2_levelOf {l : Launch} {D : ZD} {V : ZV} {y yb yh : Nat} {fb : Nat → Option Nat} {fh : Nat → Int32} (hY : hYd D V y yb yh fb fh) {ba : Nat → Nat} {Y : YD} (hR : yRel ba Y fb fh) {b t k : Nat} (hb : yIn ba Y b t) (hk : (Y t)[k]? = some b) (hnd : (Y t).Nodup) : ZM l D yX2_levelOf (ws_ yX2_levelOf cX2_levelOf 4 (some .int)) 3 0 0 eN V [.ref y, .ref (ba b)] (fun r V' => V' = V ∧ r = k) zno_x := by
  refine z_enter (by decide +kernel) [(0, .ref y), (1, .ref (ba b))] rfl (Nat.le_of_ble_eq_true rfl) (zcat_cons rfl (zcat_cons rfl zcat_nil)) (fun Γ C hQ => ?_)
  have ht := hb.1
  have hl4 := hb.2.2.2.2 t
  have hkl : k < (Y t).length := (List.getElem?_eq_some_iff.mp hk).1
  refine z_aload_n C 0 rfl dX2_levelOf_0 rfl ?_
  refine z_aload_n C 1 rfl dX2_levelOf_1 rfl ?_
  refine z_callV C k_Y hY.1 (As := [.ref (ba b)]) (mX2_stackOf ⟨hY.1, hY.2.1, hY.2.2⟩ hR hb) (lw_V q497 q483 q484 q59 q485) rfl hd_X2_stackOf rfl (Nat.le_of_ble_eq_true rfl) (by decide) (by decide) (by decide) (by decide) rfl dX2_levelOf_2 (fun _ _ h => h.elim) (fun r1 V2 hP3 => ?_)
  rw [hP3.1, hP3.2]
  refine z_st (st' := [.int (nI t)]) rfl ?_
  refine z_istore_n C [(2, .int (nI t)), (0, .ref y), (1, .ref (ba b))] dX2_levelOf_5 rfl (by decide) rfl ?_
  refine z_iconst C (v := (nI 0)) dX2_levelOf_6 rfl ?_
  refine z_istore_n C [(3, .int (nI 0)), (2, .int (nI t)), (0, .ref y), (1, .ref (ba b))] dX2_levelOf_7 rfl (by decide) rfl ?_
  have loop4 : ∀ (n_loop4 : Nat) (j : Nat), j ≤ k → k - j < n_loop4 → ZW l D Γ (zr 3 0 0) 8 [(3, .int (nI j)), (2, .int (nI t)), (0, .ref y), (1, .ref (ba b))] [] V (0 + 0) (0 + 0) := by
    intro n_loop4
    induction n_loop4 with
    | zero => intro j _ hm; exact absurd hm (Nat.not_lt_zero _)
    | succ n_loop4 ih_loop4 =>
      intro j hloop4_0 hm
      obtain ⟨c, hc⟩ : ∃ c, (Y t)[j]? = some c := ⟨_, List.getElem?_eq_getElem (by omega)⟩
      have hcb := hR.2 t j c (by omega) hc
      refine z_aload_n C 2 rfl dX2_levelOf_8 rfl ?_
      refine z_iload_n C 1 rfl dX2_levelOf_9 rfl ?_
      refine z_iload_n C 0 rfl dX2_levelOf_10 rfl ?_
      refine z_callV C k_Y hY.1 (As := [.int (nI t), .int (nI j)]) (mX2_at ⟨hY.1, hY.2.1, hY.2.2⟩ (s := t) (k := j) (by omega) (by omega)) (lw_V q438 q439 q440 q59 q441) rfl hd_X2_at rfl (Nat.le_of_ble_eq_true rfl) (by decide) (by decide) (by decide) (by decide) rfl dX2_levelOf_11 (fun _ _ h => h.elim) (fun r5 V6 hP7 => ?_)
      rw [hP7.1, hP7.2]
      refine z_st (st' := [va_rf (fb (4 * t + j))]) rfl ?_
      refine z_aload_n C 3 rfl dX2_levelOf_14 rfl ?_
      have e8 : (va_rf (fb (4 * t + j)) : Value) = .ref (ba c) := (by rw [hcb]; rfl)
      refine z_st (st' := [.ref (ba b), .ref (ba c)]) (by rw [e8]) ?_
      refine z_acmp_eq C (some (ba c)) (some (ba b)) 24 dX2_levelOf_15 (by decide) (fun c15 => ?_) (fun c15 => ?_)
      · skip
        have heq : c = b := hb.2.2.2.1 t c (List.mem_of_getElem? hc) (Option.some.inj c15)
        rw [heq] at hc
        obtain rfl : j = k := (List.getElem?_inj (by omega) hnd).mp (hc.trans hk.symm)
        refine z_iload_n C 0 rfl dX2_levelOf_24 rfl ?_
        exact z_iret C hQ j rfl ⟨rfl, rfl⟩ (by decide) (by decide) dX2_levelOf_25
      · skip
        have hne : j ≠ k := fun z => c15 (by rw [z, hk] at hc; rw [Option.some.inj hc])
        refine z_iincN C 0 1 [(3, .int (nI (j + 1))), (2, .int (nI t)), (0, .ref y), (1, .ref (ba b))] rfl dX2_levelOf_18 rfl (by decide) rfl ?_
        refine z_goto C 8 dX2_levelOf_21 (by decide) ?_
        exact ih_loop4 (j + 1) (by omega) (by omega)
  exact loop4 _ 0 (Nat.zero_le _) (Nat.lt_succ_self _)
set_option maxHeartbeats 4000000 in
set_option maxRecDepth 100000 in
theorem mX2_above {l : Launch} {D : ZD} {V : ZV} {y yb yh : Nat} {fb : Nat → Option Nat} {fh : Nat → Int32} (hY : hYd D V y yb yh fb fh) {ba : Nat → Nat} {Y : YD} (hR : yRel ba Y fb fh) {b t k : Nat} (hb : yIn ba Y b t) (hk : (Y t)[k]? = some b) (hnd : (Y t).Nodup) : ZM l D yX2_above (ws_ yX2_above cX2_above 2 (some .int)) 4 0 0 eN V [.ref y, .ref (ba b)] (fun r V' => V' = V ∧ r = (Y t).length - 1 - k) zno_x := by
  refine z_enter (by decide +kernel) [(0, .ref y), (1, .ref (ba b))] rfl (Nat.le_of_ble_eq_true rfl) (zcat_cons rfl (zcat_cons rfl zcat_nil)) (fun Γ C hQ => ?_)
  have ht := hb.1
  have hl4 := hb.2.2.2.2 t
  have hkl : k < (Y t).length := (List.getElem?_eq_some_iff.mp hk).1
  refine z_aload_n C 0 rfl dX2_above_0 rfl ?_
  refine z_get C k_Y hY.1 1 (by decide) rfl q114 dX2_above_1 ?_
  refine z_aload_n C 0 rfl dX2_above_4 rfl ?_
  refine z_aload_n C 1 rfl dX2_above_5 rfl ?_
  refine z_callV C k_Y hY.1 (As := [.ref (ba b)]) (mX2_stackOf ⟨hY.1, hY.2.1, hY.2.2⟩ hR hb) (lw_V q497 q483 q484 q59 q485) rfl hd_X2_stackOf rfl (Nat.le_of_ble_eq_true rfl) (by decide) (by decide) (by decide) (by decide) rfl dX2_above_6 (fun _ _ h => h.elim) (fun r1 V2 hP3 => ?_)
  rw [hP3.1, hP3.2]
  refine z_st (st' := [.int (nI t), .ref yh]) rfl ?_
  refine z_iald C hY.2.2 (by omega) (by omega) (v := (nI ((Y t).length))) (hR.1 t (by omega)) dX2_above_9 ?_
  refine z_iconst C (v := (nI 1)) dX2_above_10 rfl ?_
  refine z_isubN C (by omega) dX2_above_11 ?_
  refine z_aload_n C 0 rfl dX2_above_12 rfl ?_
  refine z_aload_n C 1 rfl dX2_above_13 rfl ?_
  refine z_callV C k_Y hY.1 (As := [.ref (ba b)]) (mX2_levelOf ⟨hY.1, hY.2.1, hY.2.2⟩ hR hb hk hnd) (lw_V q509 q494 q495 q59 q496) rfl hd_X2_levelOf rfl (Nat.le_of_ble_eq_true rfl) (by decide) (by decide) (by decide) (by decide) rfl dX2_above_14 (fun _ _ h => h.elim) (fun r4 V5 hP6 => ?_)
  rw [hP6.1, hP6.2]
  refine z_st (st' := [.int (nI k), .int (nI (((Y t).length) - 1))]) rfl ?_
  refine z_isubN C (by omega) dX2_above_17 ?_
  exact z_iret C hQ ((((Y t).length) - 1) - k) rfl ⟨rfl, rfl⟩ (by decide) (by decide) dX2_above_18
set_option maxHeartbeats 4000000 in
set_option maxRecDepth 100000 in
theorem mX2_topOf {l : Launch} {D : ZD} {V : ZV} {y yb yh : Nat} {fb : Nat → Option Nat} {fh : Nat → Int32} (hY : hYd D V y yb yh fb fh) {ba : Nat → Nat} {Y : YD} (hR : yRel ba Y fb fh) {b t : Nat} (hb : yIn ba Y b t) : ZM l D yX2_topOf (ws_ yX2_topOf cX2_topOf 3 (some .int)) 3 0 0 eI V [.ref y, .ref (ba b)] (fun r V' => V' = V ∧ r = if (Y t).getLast? = some b then nI t else -1) zno_x := by
  refine z_enter (by decide +kernel) [(0, .ref y), (1, .ref (ba b))] rfl (Nat.le_of_ble_eq_true rfl) (zcat_cons rfl (zcat_cons rfl zcat_nil)) (fun Γ C hQ => ?_)
  have ht := hb.1
  have hl4 := hb.2.2.2.2 t
  have hlp : 0 < (Y t).length := List.length_pos_of_mem hb.2.1
  obtain ⟨n0, hn0⟩ : ∃ n, (Y t).length = n + 1 := ⟨(Y t).length - 1, by omega⟩
  obtain ⟨u, hu, hul⟩ := yLast hn0
  have hcb := hR.2 t n0 u (by omega) hu
  refine z_aload_n C 0 rfl dX2_topOf_0 rfl ?_
  refine z_aload_n C 1 rfl dX2_topOf_1 rfl ?_
  refine z_callV C k_Y hY.1 (As := [.ref (ba b)]) (mX2_stackOf ⟨hY.1, hY.2.1, hY.2.2⟩ hR hb) (lw_V q497 q483 q484 q59 q485) rfl hd_X2_stackOf rfl (Nat.le_of_ble_eq_true rfl) (by decide) (by decide) (by decide) (by decide) rfl dX2_topOf_2 (fun _ _ h => h.elim) (fun r1 V2 hP3 => ?_)
  rw [hP3.1, hP3.2]
  refine z_st (st' := [.int (nI t)]) rfl ?_
  refine z_istore_n C [(2, .int (nI t)), (0, .ref y), (1, .ref (ba b))] dX2_topOf_5 rfl (by decide) rfl ?_
  refine z_aload_n C 1 rfl dX2_topOf_6 rfl ?_
  refine z_iload_n C 0 rfl dX2_topOf_7 rfl ?_
  refine z_callV C k_Y hY.1 (As := [.int (nI t)]) (mX2_top ⟨hY.1, hY.2.1, hY.2.2⟩ (s := t) (n := (Y t).length) (by omega) (by omega) (hR.1 t (by omega))) (lw_V q434 q435 q436 q59 q437) rfl hd_X2_top rfl (Nat.le_of_ble_eq_true rfl) (by decide) (by decide) (by decide) (by decide) rfl dX2_topOf_8 (fun _ _ h => h.elim) (fun r4 V5 hP6 => ?_)
  rw [hP6.1, hP6.2]
  refine z_st (st' := [va_rf (if (Y t).length = 0 then none else fb (4 * t + ((Y t).length - 1)))]) rfl ?_
  refine z_aload_n C 2 rfl dX2_topOf_11 rfl ?_
  have e7 : (va_rf (if (Y t).length = 0 then none else fb (4 * t + ((Y t).length - 1))) : Value) = .ref (ba u) := (by rw [hn0, if_neg (by omega), Nat.add_sub_cancel, hcb]; rfl)
  refine z_st (st' := [.ref (ba b), .ref (ba u)]) (by rw [e7]) ?_
  refine z_acmp_ne C (some (ba u)) (some (ba b)) 19 dX2_topOf_12 (by decide) (fun c12 => ?_) (fun c12 => ?_)
  · skip
    have hne : ¬ (Y t).getLast? = some b := fun z => c12 (by rw [hul] at z; rw [Option.some.inj z])
    refine z_iconst C (v := (-1)) dX2_topOf_19 rfl ?_
    exact z_iret C hQ (-1) rfl ⟨rfl, by first | rw [if_pos heq] | rw [if_neg hne]⟩ (by decide) (by decide) dX2_topOf_20
  · skip
    have heq : (Y t).getLast? = some b := by rw [hul, hb.2.2.2.1 t u (List.mem_of_getElem? hu) (Option.some.inj c12)]
    refine z_iload_n C 0 rfl dX2_topOf_15 rfl ?_
    refine z_goto C 20 dX2_topOf_16 (by decide) ?_
    exact z_iret C hQ (nI t) rfl ⟨rfl, by first | rw [if_pos heq] | rw [if_neg hne]⟩ (by decide) (by decide) dX2_topOf_20
set_option maxHeartbeats 4000000 in
set_option maxRecDepth 100000 in
theorem mX2_takes {l : Launch} {D : ZD} {V : ZV} {y yb yh : Nat} {fb : Nat → Option Nat} {fh : Nat → Int32} (hY : hYd D V y yb yh fb fh) {ba : Nat → Nat} {Y : YD} (hR : yRel ba Y fb fh) {nb : Nat} {wt : Nat → Nat} {hld : Nat → Int32} {unt : Nat → Nat} (hB : hBx V ba nb wt hld unt) {s b r : Nat} (hs : s < 4) (hl4 : (Y s).length ≤ 4) (hr : r ≤ 4) (hm : ∀ c ∈ Y s, c < nb) (hbn : b < nb) (hwt : ∀ c, c < nb → wt c < 1000) : ZM l D yX2_takes (ws_ yX2_takes cX2_takes 5 (some .boolean)) 3 0 0 eB V [.ref y, .int (nI s), .int (nI r), .ref (ba b)] (fun r9 V' => V' = V ∧ r9 = yTk wt Y s r (wt b)) zno_x := by
  refine z_enter (by decide +kernel) [(0, .ref y), (1, .int (nI s)), (2, .int (nI r)), (3, .ref (ba b))] rfl (Nat.le_of_ble_eq_true rfl) (zcat_cons rfl (zcat_cons rfl (zcat_cons rfl (zcat_cons rfl zcat_nil)))) (fun Γ C hQ => ?_)
  have hwb := hwt b hbn
  refine z_aload_n C 0 rfl dX2_takes_0 rfl ?_
  refine z_iload_n C 1 rfl dX2_takes_1 rfl ?_
  refine z_callV C k_Y hY.1 (As := [.int (nI s)]) (mX2_top ⟨hY.1, hY.2.1, hY.2.2⟩ (s := s) (n := (Y s).length) (by omega) (by omega) (hR.1 s (by omega))) (lw_V q434 q435 q436 q59 q437) rfl hd_X2_top rfl (Nat.le_of_ble_eq_true rfl) (by decide) (by decide) (by decide) (by decide) rfl dX2_takes_2 (fun _ _ h => h.elim) (fun r1 V2 hP3 => ?_)
  rw [hP3.1, hP3.2]
  refine z_st (st' := [va_rf (if (Y s).length = 0 then none else fb (4 * s + ((Y s).length - 1)))]) rfl ?_
  refine z_astoreQ C (r := (if (Y s).length = 0 then none else fb (4 * s + ((Y s).length - 1)))) [(4, va_rf (if (Y s).length = 0 then none else fb (4 * s + ((Y s).length - 1)))), (0, .ref y), (1, .int (nI s)), (2, .int (nI r)), (3, .ref (ba b))] dX2_takes_5 (by decide) rfl ?_
  refine z_aload_n C 1 rfl dX2_takes_7 rfl ?_
  refine z_get C k_Y hY.1 1 (by decide) rfl q114 dX2_takes_8 ?_
  refine z_iload_n C 2 rfl dX2_takes_11 rfl ?_
  refine z_iald C hY.2.2 (by omega) (by omega) (v := (nI ((Y s).length))) (hR.1 s (by omega)) dX2_takes_12 ?_
  refine z_iload_n C 3 rfl dX2_takes_13 rfl ?_
  rcases Nat.eq_zero_or_pos (Y s).length with h0 | h0
  · skip
    have hlast : (Y s).getLast? = none := by rw [List.getLast?_eq_none_iff]; exact List.length_eq_zero_iff.mp h0
    have e4 : (va_rf (if (Y s).length = 0 then none else fb (4 * s + ((Y s).length - 1))) : Value) = .null := (by rw [if_pos h0]; rfl)
    refine z_lv (lv' := [(4, .null), (0, .ref y), (1, .int (nI s)), (2, .int (nI r)), (3, .ref (ba b))]) (by rw [e4]) ?_
    refine z_icmp_geN C 38 (by omega) (by omega) dX2_takes_14 (by decide) (fun c14 => ?_) (fun c14 => ?_)
    · skip
      refine z_iconst C (v := (nI 0)) dX2_takes_38 rfl ?_
      exact z_zret C hQ false rfl rfl ⟨rfl, by unfold yTk; rw [hlast]; simp; omega⟩ (by decide) (by decide) dX2_takes_39
    · skip
      refine z_aloadQ C 0 (r := none) rfl dX2_takes_17 ?_
      refine z_ifnull_n C 34 dX2_takes_19 (by decide) ?_
      refine z_iconst C (v := (nI 1)) dX2_takes_34 rfl ?_
      refine z_goto C 39 dX2_takes_35 (by decide) ?_
      exact z_zret C hQ true rfl rfl ⟨rfl, by unfold yTk; rw [hlast]; simp; omega⟩ (by decide) (by decide) dX2_takes_39
  · skip
    obtain ⟨n0, hn0⟩ : ∃ n, (Y s).length = n + 1 := ⟨(Y s).length - 1, by omega⟩
    obtain ⟨u, hu, hul⟩ := yLast hn0
    have hcb := hR.2 s n0 u (by omega) hu
    have hun : u < nb := hm u (List.mem_of_getElem? hu)
    have hwu := hwt u hun
    have e5 : (va_rf (if (Y s).length = 0 then none else fb (4 * s + ((Y s).length - 1))) : Value) = .ref (ba u) := (by rw [if_neg (by omega), hn0, Nat.add_sub_cancel, hcb]; rfl)
    refine z_lv (lv' := [(4, .ref (ba u)), (0, .ref y), (1, .int (nI s)), (2, .int (nI r)), (3, .ref (ba b))]) (by rw [e5]) ?_
    refine z_icmp_geN C 38 (by omega) (by omega) dX2_takes_14 (by decide) (fun c14 => ?_) (fun c14 => ?_)
    · skip
      refine z_iconst C (v := (nI 0)) dX2_takes_38 rfl ?_
      exact z_zret C hQ false rfl rfl ⟨rfl, by unfold yTk; rw [hul]; simp; omega⟩ (by decide) (by decide) dX2_takes_39
    · skip
      refine z_aload C 0 rfl dX2_takes_17 ?_
      refine z_ifnull_r C dX2_takes_19 ?_
      refine z_aload C 0 rfl dX2_takes_22 ?_
      refine z_getN C k_B (hB u hun) 1 (by decide) rfl q415 dX2_takes_24 ?_
      refine z_aload_n C 4 rfl dX2_takes_27 rfl ?_
      refine z_getN C k_B (hB b hbn) 1 (by decide) rfl q415 dX2_takes_28 ?_
      refine z_icmp_ltN C 38 (by omega) (by omega) dX2_takes_31 (by decide) (fun c31 => ?_) (fun c31 => ?_)
      · skip
        refine z_iconst C (v := (nI 0)) dX2_takes_38 rfl ?_
        exact z_zret C hQ false rfl rfl ⟨rfl, by unfold yTk; rw [hul]; simp; omega⟩ (by decide) (by decide) dX2_takes_39
      · skip
        refine z_iconst C (v := (nI 1)) dX2_takes_34 rfl ?_
        refine z_goto C 39 dX2_takes_35 (by decide) ?_
        exact z_zret C hQ true rfl rfl ⟨rfl, by unfold yTk; rw [hul]; simp; omega⟩ (by decide) (by decide) dX2_takes_39
set_option maxHeartbeats 4000000 in
set_option maxRecDepth 100000 in
theorem mX2_pop {l : Launch} {D : ZD} {V : ZV} {y yb yh : Nat} {fb : Nat → Option Nat} {fh : Nat → Int32} (hY : hYd D V y yb yh fb fh) {s n b : Nat} (hs : s < 4) (hn : n < 4) (hh : fh s = nI (n + 1)) (hb : fb (4 * s + n) = some b) : ZM l D yX2_pop (ws_ yX2_pop cX2_pop 3 (some (.object "Quaylock$Box"))) 2 0 0 eR V [.ref y, .int (nI s)] (fun r V' => r = b ∧ V' = va_up (va_up V yh (some (.inl (D.arr 0, 4, .inl (va_up fh s (nI n)))))) yb (some (.inl (D.arr 1, 16, .inr (.inr (.inr (.inr (va_up fb (4 * s + n) none)))))))) zno_x := by
  refine z_enter (by decide +kernel) [(0, .ref y), (1, .int (nI s))] rfl (Nat.le_of_ble_eq_true rfl) (zcat_cons rfl (zcat_cons rfl zcat_nil)) (fun Γ C hQ => ?_)
  refine z_aload_n C 0 rfl dX2_pop_0 rfl ?_
  refine z_get C k_Y hY.1 1 (by decide) rfl q114 dX2_pop_1 ?_
  refine z_iload_n C 1 rfl dX2_pop_4 rfl ?_
  refine z_dup2 C dX2_pop_5 rfl rfl ?_
  refine z_iald C hY.2.2 (by omega) (by omega) (v := (nI (n + 1))) hh dX2_pop_6 ?_
  refine z_iconst C (v := (nI 1)) dX2_pop_7 rfl ?_
  refine z_isubN C (by omega) dX2_pop_8 ?_
  refine z_top (v := .int (nI n)) rfl ?_
  refine z_iast C hY.2.2 (by omega) (by omega) dX2_pop_9 (z_nV (fun V1 hV2 => ?_))
  have g3 := zup hV2 (zne_oa hY.1 hY.2.2) hY.1
  have g4 := zup hV2 (zne_k hY.2.1 hY.2.2 (by simp)) hY.2.1
  have g5 : V1 yh = some (.inl (D.arr 0, 4, .inl (va_up fh s (nI n)))) := zself hV2
  refine z_aload_n C 0 rfl dX2_pop_10 rfl ?_
  refine z_iload_n C 1 rfl dX2_pop_11 rfl ?_
  refine z_aload_n C 0 rfl dX2_pop_12 rfl ?_
  refine z_get C k_Y g3 1 (by decide) rfl q114 dX2_pop_13 ?_
  refine z_iload_n C 1 rfl dX2_pop_16 rfl ?_
  refine z_iald C g5 (by omega) (by omega) (v := (nI n)) (zvs _ _ _) dX2_pop_17 ?_
  refine z_callV C k_Y g3 (As := [.int (nI s), .int (nI n)]) (mX2_at ⟨g3, g4, g5⟩ (s := s) (k := n) (by omega) (by omega)) (lw_V q438 q439 q440 q59 q441) rfl hd_X2_at rfl (Nat.le_of_ble_eq_true rfl) (by decide) (by decide) (by decide) (by decide) rfl dX2_pop_18 (fun _ _ h => h.elim) (fun r6 V7 hP8 => ?_)
  rw [hP8.1, hP8.2]
  refine z_st (st' := [va_rf (fb (4 * s + n))]) rfl ?_
  refine z_top (v := .ref b) (by rw [hb]; rfl) ?_
  refine z_astore_n C [(2, .ref b), (0, .ref y), (1, .int (nI s))] dX2_pop_21 rfl (by decide) rfl ?_
  refine z_aload_n C 1 rfl dX2_pop_22 rfl ?_
  refine z_get C k_Y g3 0 (by decide) rfl q113 dX2_pop_23 ?_
  refine z_iconst C (v := (nI 4)) dX2_pop_26 rfl ?_
  refine z_iload_n C 2 rfl dX2_pop_27 rfl ?_
  refine z_imulN C dX2_pop_28 ?_
  refine z_aload_n C 1 rfl dX2_pop_29 rfl ?_
  refine z_get C k_Y g3 1 (by decide) rfl q114 dX2_pop_30 ?_
  refine z_iload_n C 2 rfl dX2_pop_33 rfl ?_
  refine z_iald C g5 (by omega) (by omega) (v := (nI n)) (zvs _ _ _) dX2_pop_34 ?_
  refine z_iaddN C dX2_pop_35 ?_
  refine z_null C dX2_pop_36 ?_
  refine z_aastN C 1 (by decide) g4 (by omega) (by omega) dX2_pop_37 (z_nV (fun V9 hV10 => ?_))
  have g11 := zup hV10 (zne_oa g3 g4) g3
  have g12 := zup hV10 (zne_k g5 g4 (by simp)) g5
  have g13 : V9 yb = some (.inl (D.arr 1, 16, .inr (.inr (.inr (.inr (va_up fb ((4 * s) + n) none)))))) := zself hV10
  refine z_aload_n C 0 rfl dX2_pop_38 rfl ?_
  exact z_aret C hQ b rfl (Or.inl ⟨_, rfl⟩) ⟨rfl, (by rw [hV10, hV2])⟩ (by decide) (by decide) dX2_pop_39
set_option maxHeartbeats 4000000 in
set_option maxRecDepth 100000 in
theorem mX2_init_2 {l : Launch} {D : ZD} {V : ZV} {y yb yh : Nat} {fb : Nat → Option Nat} {fh : Nat → Int32} (hY : hYd D V y yb yh fb fh) {q : Nat} (hq : V q = some (.inr (1, [.null, .null]))) (hel : ∀ i, i < 16 → ∀ z, fb i = some z → ∃ vs, V z = some (.inr (3, vs))) : ZM l D yX2_init_2 (ws_ yX2_init_2 cX2_init_2 2 none) 2 2 20 eU V [.ref q, .ref y] (fun r V' => ∃ yb2 yh2 fb2, hYd D V' q yb2 yh2 fb2 fh ∧ (∀ i, i < 16 → fb2 i = fb i) ∧ zUnc V V' (fun a => a = q) ∧ V yb2 = none ∧ V yh2 = none) zno_x := by
  refine z_enter (by decide +kernel) [(0, .ref q), (1, .ref y)] rfl (Nat.le_of_ble_eq_true rfl) (zcat_cons rfl (zcat_cons rfl zcat_nil)) (fun Γ C hQ => ?_)
  by_cases hyq : y = q
  · exact absurd hY.1 (by rw [hyq, hq]; simp)
  have hU1 : zUnc V V (fun a => a = q) := zUnc.rf
  refine z_aload_n C 0 rfl dX2_init_2_0 rfl ?_
  refine z_objInit C q110 q103 q104 dX2_init_2_1 (by decide) (by decide) ?_
  refine z_aload_n C 0 rfl dX2_init_2_4 rfl ?_
  refine z_aload_n C 1 rfl dX2_init_2_5 rfl ?_
  refine z_get C k_Y hY.1 0 (by decide) rfl q113 dX2_init_2_6 ?_
  refine z_alen C 1 rfl hY.2.1 (n := 16) rfl dX2_init_2_9 ?_
  refine z_newq C 1 (by decide) q111 (by omega) (by decide) (by decide) dX2_init_2_10 (fun q2 hq3 => z_nV (fun V4 hV5 => ?_))
  have hf7 := zUnc.none hU1 (fun e => zne_new hq hq3 e.symm) hq3
  have hU6 := zUnc.new hU1 hV5 hq3
  have g8 := zup hV5 (zne_new hY.1 hq3) hY.1
  have nx9 : yb ≠ q2 := (zne_new hY.2.1 hq3)
  have g10 := zup hV5 (zne_new hY.2.1 hq3) hY.2.1
  have g11 := zup hV5 (zne_new hY.2.2 hq3) hY.2.2
  have g12 := zup hV5 (zne_new hq hq3) hq
  have g13 : V4 q2 = some (.inl (D.arr 1, 16, .inr (.inr (.inr (.inr (fun _ => none)))))) := zself hV5
  refine z_putF C k_Y g12 0 (by decide) [.ref q2, .null] rfl (Nat.le_of_ble_eq_true rfl) rfl rfl rfl rfl rfl q113 dX2_init_2_13 (z_nV (fun V14 hV15 => ?_))
  have hU16 := zUnc.up (S := (fun a => a = q)) hU6 hV15 rfl
  have g17 := zup hV15 hyq g8
  have g18 := zup hV15 (zne_ao g10 g12) g10
  have g19 := zup hV15 (zne_ao g11 g12) g11
  have g20 := zup hV15 (zne_ao g13 g12) g13
  have g21 : V14 q = some (.inr (1, [.ref q2, .null])) := zself hV15
  refine z_aload_n C 1 rfl dX2_init_2_16 rfl ?_
  refine z_get C k_Y g17 0 (by decide) rfl q113 dX2_init_2_17 ?_
  refine z_iconst C (v := (nI 0)) dX2_init_2_20 rfl ?_
  refine z_aload_n C 0 rfl dX2_init_2_21 rfl ?_
  refine z_get C k_Y g21 0 (by decide) rfl q113 dX2_init_2_22 ?_
  refine z_iconst C (v := (nI 0)) dX2_init_2_25 rfl ?_
  refine z_aload_n C 0 rfl dX2_init_2_26 rfl ?_
  refine z_get C k_Y g21 0 (by decide) rfl q113 dX2_init_2_27 ?_
  refine z_alen C 1 rfl g20 (n := 16) rfl dX2_init_2_30 ?_
  refine z_copyq C 1 (by decide) k_B (Or.inl rfl) q1074 q923 q922 q88 g18 g20 (fun i hi z hz => by obtain ⟨vs, hvs⟩ := hel i (by omega) z (by simpa using hz); exact ⟨vs, hU16.get (fun e => by rw [e, hq] at hvs; cases hvs) hvs⟩) (by omega) (by omega) (by omega) (by omega) (by decide) (Nat.le_of_ble_eq_true rfl) dX2_init_2_31 (z_nV (fun V22 hV23 => ?_))
  have hU24 := zUnc.upn hU16 hV23 hf7
  have g25 := zup hV23 (zne_oa g17 g20) g17
  have g26 := zup hV23 nx9 g18
  have g27 := zup hV23 (zne_k g19 g20 (by simp)) g19
  have g28 := zup hV23 (zne_oa g21 g20) g21
  have g29 : V22 q2 = some (.inl (D.arr 1, 16, .inr (.inr (.inr (.inr (va_cpy fb (fun _ => none) 0 0 16)))))) := zself hV23
  refine z_aload_n C 0 rfl dX2_init_2_34 rfl ?_
  refine z_aload_n C 1 rfl dX2_init_2_35 rfl ?_
  refine z_get C k_Y g25 1 (by decide) rfl q114 dX2_init_2_36 ?_
  refine z_clonei C g27 q1075 (by decide) (by decide) (by decide) (Nat.le_of_ble_eq_true rfl) dX2_init_2_39 (fun q30 hq31 => z_nV (fun V32 hV33 => ?_))
  have hf35 := zUnc.none hU24 (fun e => zne_new g28 hq31 e.symm) hq31
  have hU34 := zUnc.new hU24 hV33 hq31
  have g36 := zup hV33 (zne_new g25 hq31) g25
  have g37 := zup hV33 (zne_new g26 hq31) g26
  have nx38 : yh ≠ q30 := (zne_new g27 hq31)
  have g39 := zup hV33 (zne_new g27 hq31) g27
  have g40 := zup hV33 (zne_new g28 hq31) g28
  have g41 := zup hV33 (zne_new g29 hq31) g29
  have g42 : V32 q30 = some (.inl (D.arr 0, 4, .inl fh)) := zself hV33
  refine z_castA C g42 q1081 dX2_init_2_42 ?_
  refine z_putF C k_Y g40 1 (by decide) [.ref q2, .ref q30] rfl (Nat.le_of_ble_eq_true rfl) rfl rfl rfl rfl rfl q114 dX2_init_2_45 (z_nV (fun V43 hV44 => ?_))
  have hU45 := zUnc.up (S := (fun a => a = q)) hU34 hV44 rfl
  have g46 := zup hV44 hyq g36
  have g47 := zup hV44 (zne_ao g37 g40) g37
  have g48 := zup hV44 (zne_ao g39 g40) g39
  have g49 := zup hV44 (zne_ao g41 g40) g41
  have g50 := zup hV44 (zne_ao g42 g40) g42
  have g51 : V43 q = some (.inr (1, [.ref q2, .ref q30])) := zself hV44
  exact z_vret C hQ () rfl ⟨q2, q30, _, ⟨g51, g49, g50⟩, (fun i hi => by unfold va_cpy; rw [if_pos (by omega)]; simp), hU45, hf7, hf35⟩ (by decide) (by decide) dX2_init_2_48
set_option maxHeartbeats 4000000 in
set_option maxRecDepth 100000 in
theorem mX2_copy {l : Launch} {D : ZD} {V : ZV} {y yb yh : Nat} {fb : Nat → Option Nat} {fh : Nat → Int32} (hY : hYd D V y yb yh fb fh) (hel : ∀ i, i < 16 → ∀ z, fb i = some z → ∃ vs, V z = some (.inr (3, vs))) : ZM l D yX2_copy (ws_ yX2_copy cX2_copy 1 (some (.object "Quaylock$Yard"))) 3 3 22 eR V [.ref y] (fun r V' => ∃ yb2 yh2 fb2, hYd D V' r yb2 yh2 fb2 fh ∧ (∀ i, i < 16 → fb2 i = fb i) ∧ zUnc V V' (fun _ => False) ∧ V r = none ∧ V yb2 = none ∧ V yh2 = none) zno_x := by
  refine z_enter (by decide +kernel) [(0, .ref y)] rfl (Nat.le_of_ble_eq_true rfl) (zcat_cons rfl zcat_nil) (fun Γ C hQ => ?_)
  refine z_new C k_Y q673 q106 q59 [.null, .null] k0_Y (by decide) (by decide) dX2_copy_0 (fun q1 hq2 => z_nV (fun V3 hV4 => ?_))
  have nx5 : y ≠ q1 := (zne_new hY.1 hq2)
  have g6 := zup hV4 (zne_new hY.1 hq2) hY.1
  have g7 := zup hV4 (zne_new hY.2.1 hq2) hY.2.1
  have g8 := zup hV4 (zne_new hY.2.2 hq2) hY.2.2
  have g9 : V3 q1 = some (.inr (1, [.null, .null])) := zself hV4
  refine z_dup C dX2_copy_3 rfl ?_
  refine z_aload_n C 0 rfl dX2_copy_4 rfl ?_
  refine z_callI C (rt := none) (As := [.ref y]) (mX2_init_2 ⟨g6, g7, g8⟩ g9 (fun i hi z hz => by obtain ⟨vs, hvs⟩ := hel i hi z hz; exact ⟨vs, zup hV4 (zne_new hvs hq2) hvs⟩)) q1073 q59 q1071 q1072 rfl hd_X2_init_2 rfl (Nat.le_of_ble_eq_true rfl) (by decide) (by decide) (by decide) (by decide) rfl dX2_copy_5 (fun _ _ h => h.elim) (fun r10 V11 hP12 => ?_)
  obtain ⟨yb2, yh2, fb2, k1, k2, k3, k4, k5⟩ := hP12
  refine z_st (st' := [.ref q1]) rfl ?_
  have e1 : ∀ a, V a ≠ none → V3 a = V a := fun a hn => by rw [hV4]; exact zvn (fun e => hn (by rw [e]; exact hq2))
  have e2 : ∀ a, V3 a = none → V a = none := fun a hn => by cases hv : V a with | none => rfl | some f9 => exact absurd (e1 a (by rw [hv]; simp)) (by rw [hn, hv]; simp)
  have e3 : zUnc V V11 (fun _ => False) := fun a _ hn => by rw [k3 a (fun e => hn (by rw [e]; exact hq2)) (by rw [e1 a hn]; exact hn), e1 a hn]
  exact z_aret C hQ q1 rfl (Or.inl ⟨_, rfl⟩) ⟨yb2, yh2, fb2, k1, k2, e3, hq2, e2 _ k4, e2 _ k5⟩ (by decide) (by decide) dX2_copy_8
set_option maxHeartbeats 4000000 in
set_option maxRecDepth 100000 in
theorem mX2_init {l : Launch} {D : ZD} {V : ZV} {q : Nat} (hq : V q = some (.inr (1, [.null, .null]))) : ZM l D yX2_init (ws_ yX2_init cX2_init 1 none) 2 2 20 eU V [.ref q] (fun r V' => ∃ yb2 yh2, hYd D V' q yb2 yh2 (fun _ => none) (fun _ => 0) ∧ zUnc V V' (fun a => a = q)) zno_x := by
  refine z_enter (by decide +kernel) [(0, .ref q)] rfl (Nat.le_of_ble_eq_true rfl) (zcat_cons rfl zcat_nil) (fun Γ C hQ => ?_)
  have hU1 : zUnc V V (fun a => a = q) := zUnc.rf
  refine z_aload_n C 0 rfl dX2_init_0 rfl ?_
  refine z_objInit C q110 q103 q104 dX2_init_1 (by decide) (by decide) ?_
  refine z_aload_n C 0 rfl dX2_init_4 rfl ?_
  refine z_bipush C (v := (nI 16)) dX2_init_5 rfl ?_
  refine z_newq C 1 (by decide) q111 (by omega) (by decide) (by decide) dX2_init_7 (fun q2 hq3 => z_nV (fun V4 hV5 => ?_))
  have hf7 := zUnc.none hU1 (fun e => zne_new hq hq3 e.symm) hq3
  have hU6 := zUnc.new hU1 hV5 hq3
  have g8 := zup hV5 (zne_new hq hq3) hq
  have g9 : V4 q2 = some (.inl (D.arr 1, 16, .inr (.inr (.inr (.inr (fun _ => none)))))) := zself hV5
  refine z_putF C k_Y g8 0 (by decide) [.ref q2, .null] rfl (Nat.le_of_ble_eq_true rfl) rfl rfl rfl rfl rfl q113 dX2_init_10 (z_nV (fun V10 hV11 => ?_))
  have hU12 := zUnc.up (S := (fun a => a = q)) hU6 hV11 rfl
  have g13 := zup hV11 (zne_ao g9 g8) g9
  have g14 : V10 q = some (.inr (1, [.ref q2, .null])) := zself hV11
  refine z_aload_n C 0 rfl dX2_init_13 rfl ?_
  refine z_iconst C (v := (nI 4)) dX2_init_14 rfl ?_
  refine z_newa_i C q121 (by omega) (by decide) (by decide) dX2_init_15 (fun q15 hq16 => z_nV (fun V17 hV18 => ?_))
  have hf20 := zUnc.none hU12 (fun e => zne_new g14 hq16 e.symm) hq16
  have hU19 := zUnc.new hU12 hV18 hq16
  have g21 := zup hV18 (zne_new g13 hq16) g13
  have g22 := zup hV18 (zne_new g14 hq16) g14
  have g23 : V17 q15 = some (.inl (D.arr 0, 4, .inl (fun _ => 0))) := zself hV18
  refine z_putF C k_Y g22 1 (by decide) [.ref q2, .ref q15] rfl (Nat.le_of_ble_eq_true rfl) rfl rfl rfl rfl rfl q114 dX2_init_17 (z_nV (fun V24 hV25 => ?_))
  have hU26 := zUnc.up (S := (fun a => a = q)) hU19 hV25 rfl
  have g27 := zup hV25 (zne_ao g21 g22) g21
  have g28 := zup hV25 (zne_ao g23 g22) g23
  have g29 : V24 q = some (.inr (1, [.ref q2, .ref q15])) := zself hV25
  exact z_vret C hQ () rfl ⟨q2, q15, ⟨g29, g27, g28⟩, hU26⟩ (by decide) (by decide) dX2_init_20
set_option maxHeartbeats 4000000 in
set_option maxRecDepth 100000 in
theorem mX2_compareTo_2 {l : Launch} {D : ZD} {V : ZV} {y yb yh : Nat} {fb : Nat → Option Nat} {fh : Nat → Int32} (hY : hYd D V y yb yh fb fh) {ya yc yk : Nat} {fb2 : Nat → Option Nat} {fh2 : Nat → Int32} (hY2 : hYd D V ya yc yk fb2 fh2) {ba : Nat → Nat} {Y1 Y2 : YD} (hR1 : yRel ba Y1 fb fh) (hR2 : yRel ba Y2 fb2 fh2) (hl1 : ∀ s, (Y1 s).length ≤ 4) (hl2 : ∀ s, (Y2 s).length ≤ 4) {nb : Nat} {wt : Nat → Nat} {hld : Nat → Int32} {unt : Nat → Nat} (hB : hBx V ba nb wt hld unt) (hnb : nb ≤ 20) (hm1 : ∀ s, ∀ c ∈ Y1 s, c < nb) (hm2 : ∀ s, ∀ c ∈ Y2 s, c < nb) : ZM l D yX2_compareTo_2 (ws_ yX2_compareTo_2 cX2_compareTo_2 5 (some .int)) 2 0 0 eI V [.ref y, .ref ya] (fun r V' => V' = V ∧ zCmp r (yEnc Y1) (yEnc Y2)) zno_x := by
  refine z_enter (by decide +kernel) [(0, .ref y), (1, .ref ya)] rfl (Nat.le_of_ble_eq_true rfl) (zcat_cons rfl (zcat_cons rfl zcat_nil)) (fun Γ C hQ => ?_)
  refine z_iconst C (v := (nI 0)) dX2_compareTo_2_0 rfl ?_
  refine z_istore_n C [(2, .int (nI 0)), (0, .ref y), (1, .ref ya)] dX2_compareTo_2_1 rfl (by decide) rfl ?_
  have loop1 : ∀ (n_loop1 : Nat) (s : Nat), s ≤ 4 → (∀ r, zCmp r (yEf Y1 (4 - s) s) (yEf Y2 (4 - s) s) → zCmp r (yEnc Y1) (yEnc Y2)) → 4 - s < n_loop1 → ZW l D Γ (zr 2 0 0) 2 [(2, .int (nI s)), (0, .ref y), (1, .ref ya)] [] V 0 0 := by
    intro n_loop1
    induction n_loop1 with
    | zero => intro s _ _ hm; exact absurd hm (Nat.not_lt_zero _)
    | succ n_loop1 ih_loop1 =>
      intro s hloop1_0 hloop1_1 hm
      have hla := hl1 s
      have hlb := hl2 s
      refine z_iload_n C 0 rfl dX2_compareTo_2_2 rfl ?_
      refine z_iconst C (v := (nI 4)) dX2_compareTo_2_3 rfl ?_
      refine z_icmp_geN C 83 (by omega) (by omega) dX2_compareTo_2_4 (by decide) (fun c4 => ?_) (fun c4 => ?_)
      · skip
        obtain rfl : s = 4 := by omega
        refine z_iconst C (v := (nI 0)) dX2_compareTo_2_83 rfl ?_
        exact z_iret C hQ (nI 0) rfl ⟨rfl, hloop1_1 _ (zCmp_self [])⟩ (by decide) (by decide) dX2_compareTo_2_84
      · skip
        obtain ⟨n4, hn4⟩ : ∃ n, 4 - s = n + 1 := ⟨3 - s, by omega⟩
        have hpre2 := hloop1_1
        rw [hn4] at hpre2
        refine z_aload_n C 1 rfl dX2_compareTo_2_7 rfl ?_
        refine z_get C k_Y hY.1 1 (by decide) rfl q114 dX2_compareTo_2_8 ?_
        refine z_iload_n C 0 rfl dX2_compareTo_2_11 rfl ?_
        refine z_iald C hY.2.2 (by omega) (by omega) (v := (nI ((Y1 s).length))) (hR1.1 s (by omega)) dX2_compareTo_2_12 ?_
        refine z_aload_n C 2 rfl dX2_compareTo_2_13 rfl ?_
        refine z_get C k_Y hY2.1 1 (by decide) rfl q114 dX2_compareTo_2_14 ?_
        refine z_iload_n C 0 rfl dX2_compareTo_2_17 rfl ?_
        refine z_iald C hY2.2.2 (by omega) (by omega) (v := (nI ((Y2 s).length))) (hR2.1 s (by omega)) dX2_compareTo_2_18 ?_
        refine z_isub C dX2_compareTo_2_19 ?_
        refine z_istore_n C [(3, .int ((nI ((Y1 s).length)) - (nI ((Y2 s).length)))), (2, .int (nI s)), (0, .ref y), (1, .ref ya)] dX2_compareTo_2_20 rfl (by decide) rfl ?_
        refine z_iconst C (v := (nI 0)) dX2_compareTo_2_21 rfl ?_
        refine z_istore C [(4, .int (nI 0)), (3, .int ((nI ((Y1 s).length)) - (nI ((Y2 s).length)))), (2, .int (nI s)), (0, .ref y), (1, .ref ya)] dX2_compareTo_2_22 (by decide) rfl ?_
        have loop2 : ∀ (n_loop2 : Nat) (k : Nat) (d : Int32), k ≤ (Y1 s).length → ((d = 0 ∧ (Y1 s).length = (Y2 s).length ∧ (Y1 s).take k = (Y2 s).take k) ∨ (d ≠ 0 ∧ zCmp (nI 1000 * d) (yEf Y1 (n4 + 1) s) (yEf Y2 (n4 + 1) s))) → (Y1 s).length - k < n_loop2 → ZW l D Γ (zr 2 0 0) 24 [(4, .int (nI k)), (3, .int d), (2, .int (nI s)), (0, .ref y), (1, .ref ya)] [] V 0 0 := by
          intro n_loop2
          induction n_loop2 with
          | zero => intro k d _ _ hm; exact absurd hm (Nat.not_lt_zero _)
          | succ n_loop2 ih_loop2 =>
            intro k d hloop2_0 hloop2_1 hm
            refine z_iload C 0 rfl dX2_compareTo_2_24 ?_
            refine z_aload_n C 3 rfl dX2_compareTo_2_26 rfl ?_
            refine z_get C k_Y hY.1 1 (by decide) rfl q114 dX2_compareTo_2_27 ?_
            refine z_iload_n C 2 rfl dX2_compareTo_2_30 rfl ?_
            refine z_iald C hY.2.2 (by omega) (by omega) (v := (nI ((Y1 s).length))) (hR1.1 s (by omega)) dX2_compareTo_2_31 ?_
            refine z_icmp_geN C 67 (by omega) (by omega) dX2_compareTo_2_32 (by decide) (fun c32 => ?_) (fun c32 => ?_)
            · skip
              have hend : d = 0 → Y1 s = Y2 s := fun hd0 => by rcases hloop2_1 with ⟨-, e1, e2⟩ | ⟨e1, -⟩; rw [List.take_of_length_le (by omega), List.take_of_length_le (by omega)] at e2; exact e2; exact absurd hd0 e1
              refine z_iload_n C 1 rfl dX2_compareTo_2_67 rfl ?_
              refine z_if_eq C 77 dX2_compareTo_2_68 (by decide) (fun c68 => ?_) (fun c68 => ?_)
              · skip
                have hyy := hend c68
                have e4 : n4 = 4 - (s + 1) := by omega
                refine z_iincN C 2 1 [(2, .int (nI (s + 1))), (4, .int (nI k)), (3, .int d), (0, .ref y), (1, .ref ya)] rfl dX2_compareTo_2_77 rfl (by decide) rfl ?_
                refine z_goto C 2 dX2_compareTo_2_80 (by decide) ?_
                refine z_pick [(2, .int (nI (s + 1))), (0, .ref y), (1, .ref ya)] [0, 3, 4] rfl ?_
                exact ih_loop1 (s + 1) (by omega) (fun r hr => hpre2 r (yEf_eq hyy (by rw [e4]; exact hr))) (by omega)
              · skip
                refine z_sipush C (v := (nI 1000)) dX2_compareTo_2_71 rfl ?_
                refine z_iload_n C 1 rfl dX2_compareTo_2_74 rfl ?_
                refine z_imul C dX2_compareTo_2_75 ?_
                exact z_iret C hQ ((nI 1000) * d) rfl ⟨rfl, hpre2 _ (by rcases hloop2_1 with q | q; exact absurd q.1 c68; exact q.2)⟩ (by decide) (by decide) dX2_compareTo_2_76
            · skip
              have hkl : k < (Y1 s).length := by omega
              refine z_iload_n C 1 rfl dX2_compareTo_2_35 rfl ?_
              refine z_if_ne C 67 dX2_compareTo_2_36 (by decide) (fun c36 => ?_) (fun c36 => ?_)
              · skip
                have hend : d = 0 → Y1 s = Y2 s := fun hd0 => absurd hd0 c36
                refine z_iload_n C 1 rfl dX2_compareTo_2_67 rfl ?_
                refine z_if_eq C 77 dX2_compareTo_2_68 (by decide) (fun c68 => ?_) (fun c68 => ?_)
                · skip
                  have hyy := hend c68
                  have e4 : n4 = 4 - (s + 1) := by omega
                  refine z_iincN C 2 1 [(2, .int (nI (s + 1))), (4, .int (nI k)), (3, .int d), (0, .ref y), (1, .ref ya)] rfl dX2_compareTo_2_77 rfl (by decide) rfl ?_
                  refine z_goto C 2 dX2_compareTo_2_80 (by decide) ?_
                  refine z_pick [(2, .int (nI (s + 1))), (0, .ref y), (1, .ref ya)] [0, 3, 4] rfl ?_
                  exact ih_loop1 (s + 1) (by omega) (fun r hr => hpre2 r (yEf_eq hyy (by rw [e4]; exact hr))) (by omega)
                · skip
                  refine z_sipush C (v := (nI 1000)) dX2_compareTo_2_71 rfl ?_
                  refine z_iload_n C 1 rfl dX2_compareTo_2_74 rfl ?_
                  refine z_imul C dX2_compareTo_2_75 ?_
                  exact z_iret C hQ ((nI 1000) * d) rfl ⟨rfl, hpre2 _ (by rcases hloop2_1 with q | q; exact absurd q.1 c68; exact q.2)⟩ (by decide) (by decide) dX2_compareTo_2_76
              · skip
                obtain ⟨-, e1, e2⟩ : d = 0 ∧ (Y1 s).length = (Y2 s).length ∧ (Y1 s).take k = (Y2 s).take k := by rcases hloop2_1 with q | q; exact q; exact absurd c36 q.1
                obtain ⟨c1, hc1⟩ : ∃ c, (Y1 s)[k]? = some c := ⟨_, List.getElem?_eq_getElem hkl⟩
                obtain ⟨c2, hc2⟩ : ∃ c, (Y2 s)[k]? = some c := ⟨_, List.getElem?_eq_getElem (by omega)⟩
                have hb1 := hm1 s c1 (List.mem_of_getElem? hc1)
                have hb2 := hm2 s c2 (List.mem_of_getElem? hc2)
                have r1 := hR1.2 s k c1 (by omega) hc1
                have r2 := hR2.2 s k c2 (by omega) hc2
                refine z_aload_n C 3 rfl dX2_compareTo_2_39 rfl ?_
                refine z_iload_n C 2 rfl dX2_compareTo_2_40 rfl ?_
                refine z_iload C 0 rfl dX2_compareTo_2_41 ?_
                refine z_callV C k_Y hY.1 (As := [.int (nI s), .int (nI k)]) (mX2_at ⟨hY.1, hY.2.1, hY.2.2⟩ (s := s) (k := k) (by omega) (by omega)) (lw_V q438 q439 q440 q59 q441) rfl hd_X2_at rfl (Nat.le_of_ble_eq_true rfl) (by decide) (by decide) (by decide) (by decide) rfl dX2_compareTo_2_43 (fun _ _ h => h.elim) (fun r3 V4 hP5 => ?_)
                rw [hP5.1, hP5.2]
                refine z_st (st' := [va_rf (fb (4 * s + k))]) rfl ?_
                refine z_top (v := .ref (ba c1)) (by rw [r1]; rfl) ?_
                refine z_getN C k_B (hB c1 hb1) 0 (by decide) rfl q412 dX2_compareTo_2_46 ?_
                refine z_aload_n C 4 rfl dX2_compareTo_2_49 rfl ?_
                refine z_iload_n C 2 rfl dX2_compareTo_2_50 rfl ?_
                refine z_iload C 0 rfl dX2_compareTo_2_51 ?_
                refine z_callV C k_Y hY2.1 (As := [.int (nI s), .int (nI k)]) (mX2_at ⟨hY2.1, hY2.2.1, hY2.2.2⟩ (s := s) (k := k) (by omega) (by omega)) (lw_V q438 q439 q440 q59 q441) rfl hd_X2_at rfl (Nat.le_of_ble_eq_true rfl) (by decide) (by decide) (by decide) (by decide) rfl dX2_compareTo_2_53 (fun _ _ h => h.elim) (fun r6 V7 hP8 => ?_)
                rw [hP8.1, hP8.2]
                refine z_st (st' := [va_rf (fb2 (4 * s + k)), .int (nI c1)]) rfl ?_
                refine z_top (v := .ref (ba c2)) (by rw [r2]; rfl) ?_
                refine z_getN C k_B (hB c2 hb2) 0 (by decide) rfl q412 dX2_compareTo_2_56 ?_
                refine z_isub C dX2_compareTo_2_59 ?_
                refine z_istore_n C [(3, .int ((nI c1) - (nI c2))), (4, .int (nI k)), (2, .int (nI s)), (0, .ref y), (1, .ref ya)] dX2_compareTo_2_60 rfl (by decide) rfl ?_
                refine z_iincN C 1 1 [(4, .int (nI (k + 1))), (3, .int ((nI c1) - (nI c2))), (2, .int (nI s)), (0, .ref y), (1, .ref ya)] rfl dX2_compareTo_2_61 rfl (by decide) rfl ?_
                refine z_goto C 24 dX2_compareTo_2_64 (by decide) ?_
                exact ih_loop2 (k + 1) (nI c1 - nI c2) (by omega) (by by_cases hcc : c1 = c2; exact Or.inl ⟨by rw [hcc]; exact sub_self32 _, e1, take_ext e2 hc1 (by rw [hcc]; exact hc2)⟩; exact Or.inr ⟨(zCmp_head c1 (by omega) c2 (by omega) hcc).2.2, yEf_mis e1 e2 hc1 hc2 (by omega) (by omega) hcc⟩) (by omega)
        exact loop2 _ 0 _ (Nat.zero_le _) (by by_cases hcc : (Y1 s).length = (Y2 s).length; exact Or.inl ⟨by rw [hcc]; exact sub_self32 _, hcc, rfl⟩; exact Or.inr ⟨(zCmp_head _ (by omega) _ (by omega) hcc).2.2, yEf_len (by omega) (by omega) hcc⟩) (Nat.lt_succ_self _)
  exact loop1 _ 0 (by omega) (fun _ h => h) (Nat.lt_succ_self _)
set_option maxHeartbeats 4000000 in
set_option maxRecDepth 100000 in
theorem mX2_compareTo {l : Launch} {D : ZD} {V : ZV} {y yb yh : Nat} {fb : Nat → Option Nat} {fh : Nat → Int32} (hY : hYd D V y yb yh fb fh) {ya yc yk : Nat} {fb2 : Nat → Option Nat} {fh2 : Nat → Int32} (hY2 : hYd D V ya yc yk fb2 fh2) {ba : Nat → Nat} {Y1 Y2 : YD} (hR1 : yRel ba Y1 fb fh) (hR2 : yRel ba Y2 fb2 fh2) (hl1 : ∀ s, (Y1 s).length ≤ 4) (hl2 : ∀ s, (Y2 s).length ≤ 4) {nb : Nat} {wt : Nat → Nat} {hld : Nat → Int32} {unt : Nat → Nat} (hB : hBx V ba nb wt hld unt) (hnb : nb ≤ 20) (hm1 : ∀ s, ∀ c ∈ Y1 s, c < nb) (hm2 : ∀ s, ∀ c ∈ Y2 s, c < nb) : ZM l D yX2_compareTo (ws_ yX2_compareTo cX2_compareTo 2 (some .int)) 3 0 0 eI V [.ref y, .ref ya] (fun r V' => V' = V ∧ zCmp r (yEnc Y1) (yEnc Y2)) zno_x := by
  refine z_enter (by decide +kernel) [(0, .ref y), (1, .ref ya)] rfl (Nat.le_of_ble_eq_true rfl) (zcat_cons rfl (zcat_cons rfl zcat_nil)) (fun Γ C hQ => ?_)
  refine z_aload_n C 0 rfl dX2_compareTo_0 rfl ?_
  refine z_aload_n C 1 rfl dX2_compareTo_1 rfl ?_
  refine z_ccast C k_Y hY2.1 q673 (Or.inl rfl) dX2_compareTo_2 ?_
  refine z_callV C k_Y hY.1 (As := [.ref ya]) (mX2_compareTo_2 hY hY2 hR1 hR2 hl1 hl2 hB hnb hm1 hm2) (lw_V q674 q675 q676 q59 q677) rfl hd_X2_compareTo_2 rfl (Nat.le_of_ble_eq_true rfl) (by decide) (by decide) (by decide) (by decide) rfl dX2_compareTo_5 (fun _ _ h => h.elim) (fun r1 V2 hP3 => ?_)
  rw [hP3.1]
  refine z_st (st' := [.int r1]) rfl ?_
  exact z_iret C hQ r1 rfl ⟨rfl, hP3.2⟩ (by decide) (by decide) dX2_compareTo_8
