/-! HEAP: the priority queue's cells -/
set_option maxRecDepth 100000
theorem nI_shl {a : Nat} (h : a < 1000000) : (nI a) <<< ((nI 1) &&& 31) = nI (2 * a) := by
  have e1 : (nI 1 &&& 31 : Int32) = 1 := by decide
  rw [e1]
  refine Int32.toBitVec_inj.mp ?_
  show BitVec.ofNat 32 a <<< 1 = BitVec.ofNat 32 (2 * a)
  refine BitVec.eq_of_toNat_eq ?_
  rw [BitVec.toNat_shiftLeft, BitVec.toNat_ofNat, BitVec.toNat_ofNat, Nat.shiftLeft_eq]
  omega
theorem hf_up {f : Nat → Option Nat} {A : List Nat} {k j e x : Nat} (hf : ∀ i a : Nat, i ≠ k → A[i]? = some a → f i = some a) (lk : k < A.length) (lj : j < A.length) : ∀ i a : Nat, i ≠ j → ((A.set k e).set j x)[i]? = some a → va_up f k (some e) i = some a := fun i a hi ha => by
  rw [sw_at lk lj, if_neg hi] at ha
  by_cases c : i = k
  · rw [if_pos c] at ha; rw [c, zvs]; exact ha
  · rw [if_neg c] at ha; rw [zvn c]; exact hf i a c ha
theorem hf_end {f : Nat → Option Nat} {A : List Nat} {k x : Nat} (hf : ∀ i a : Nat, i ≠ k → A[i]? = some a → f i = some a) (hx : A[k]? = some x) : ∀ i a : Nat, A[i]? = some a → va_up f k (some x) i = some a := fun i a ha => by
  by_cases c : i = k
  · rw [c, zvs]; rw [c, hx] at ha; exact ha
  · rw [zvn c]; exact hf i a c ha
/-- the queue q holds the plans A -/
def hPQ (D : ZD) (V : ZV) (q d cap : Nat) (f : Nat → Option Nat) (A : List Nat) (cmp : Nat) (mc : Int32) : Prop :=
  V q = some (.inr (11, [.ref d, .int (nI A.length), .ref cmp, .int mc])) ∧ V d = some (.inl (D.arr 2, cap, .inr (.inr (.inr (.inr f))))) ∧ V cmp = some (.inr (4, [])) ∧ A.length ≤ cap ∧ ∀ i a : Nat, A[i]? = some a → f i = some a
def pcap (c : Nat) : Nat := if c < 64 then 2 * c + 2 else c + c / 2

set_option maxHeartbeats 4000000 in
set_option maxRecDepth 100000 in
theorem mJ21_siftUpUsingComparator {l : Launch} {D : ZD} {V : ZV} {k : Nat} {x d cmp cap : Nat} {f : Nat → Option Nat} {A : List Nat} {K : Nat → List Nat} (hd : V d = some (.inl (D.arr 2, cap, .inr (.inr (.inr (.inr f)))))) (hc : V cmp = some (.inr (4, []))) (hcap : A.length ≤ cap) (hb : cap < 100000) (hel : ∀ a ∈ A, ∃ vs, V a = some (.inr (5, vs))) (hcmp : ∀ W2, zUnc V W2 (fun z => z = d) → ∀ a ∈ A, ∀ b ∈ A, ZM l D yX5_compare (ws_ yX5_compare cX5_compare 3 (some .int)) 3 0 0 eI W2 [.ref cmp, .ref a, .ref b] (fun r V3 => V3 = W2 ∧ zCmp r (K a) (K b)) zno_x) (hx : A[k]? = some x) (hf : ∀ i a : Nat, i ≠ k → A[i]? = some a → f i = some a) (hU : hpU K A k) : ZM l D yJ21_siftUpUsingComparator (ws_ yJ21_siftUpUsingComparator cJ21_siftUpUsingComparator 6 none) 4 0 0 eU V [.int (nI k), .ref x, .ref d, .ref cmp] (fun r V' => ∃ f2 A2, V' d = some (.inl (D.arr 2, cap, .inr (.inr (.inr (.inr f2))))) ∧ zUnc V V' (fun z => z = d) ∧ A2.Perm A ∧ hpA K A2 ∧ ∀ i a : Nat, A2[i]? = some a → f2 i = some a) zno_x := by
  refine z_enter (by decide +kernel) [(0, .int (nI k)), (1, .ref x), (2, .ref d), (3, .ref cmp)] rfl (Nat.le_of_ble_eq_true rfl) (zcat_cons rfl (zcat_cons rfl (zcat_cons rfl (zcat_cons rfl zcat_nil)))) (fun Γ C hQ => ?_)
  have lp : ∀ (n_lp : Nat) (V1 : ZV) (f1 : Nat → Option Nat) (A1 : List Nat) (k1 : Nat), V1 d = some (.inl (D.arr 2, cap, .inr (.inr (.inr (.inr f1))))) → zUnc V V1 (fun z => z = d) → A1.Perm A → A1[k1]? = some x → (∀ i a : Nat, i ≠ k1 → A1[i]? = some a → f1 i = some a) → hpU K A1 k1 → k1 < n_lp → ZW l D Γ (zr 4 0 0) 0 [(0, .int (nI k1)), (1, .ref x), (2, .ref d), (3, .ref cmp)] [] V1 0 0 := by
    intro n_lp
    induction n_lp with
    | zero => intro V1 f1 A1 k1 _ _ _ _ _ _ hm; exact absurd hm (Nat.not_lt_zero _)
    | succ n_lp ih_lp =>
      intro V1 f1 A1 k1 hlp_0 hlp_1 hlp_2 hlp_3 hlp_4 hlp_5 hm
      have hk1 := len_of hlp_3
      have hl1 := hlp_2.length_eq
      have hc1 : V1 cmp = some (.inr (4, [])) := hlp_1.get (fun z => zne_oa hc hd z) hc
      have hmx : x ∈ A := hlp_2.mem_iff.mp (List.mem_of_getElem? hlp_3)
      obtain ⟨v_x, hv_x⟩ := hel x hmx
      have hw_x : V1 x = some (.inr (5, v_x)) := hlp_1.get (fun z => zne_oa hv_x hd z) hv_x
      refine z_iload_n C 0 rfl dJ21_siftUpUsingComparator_0 rfl ?_
      refine z_if_leN C 43 (by omega) dJ21_siftUpUsingComparator_1 (by decide) (fun c1 => ?_) (fun c1 => ?_)
      · skip
        refine z_aload_n C 2 rfl dJ21_siftUpUsingComparator_43 rfl ?_
        refine z_iload_n C 0 rfl dJ21_siftUpUsingComparator_44 rfl ?_
        refine z_aload_n C 1 rfl dJ21_siftUpUsingComparator_45 rfl ?_
        refine z_aast C 2 (by decide) hlp_0 (by omega) (by omega) k_P hw_x (Or.inr q1713) dJ21_siftUpUsingComparator_46 (z_nV (fun V1 hV2 => ?_))
        have hU3 := zUnc.up (S := (fun z_ => z_ = d)) hlp_1 hV2 rfl
        have g4 := zup hV2 (zne_oa hc1 hlp_0) hc1
        have g5 := zup hV2 (zne_oa hw_x hlp_0) hw_x
        have g6 : V1 d = some (.inl (D.arr 2, cap, .inr (.inr (.inr (.inr (va_up f1 k1 (some x))))))) := zself hV2
        exact z_vret C hQ () rfl ⟨_, A1, g6, hU3, hlp_2, hpU_end hlp_5 (Or.inl (by omega)), hf_end hlp_4 hlp_3⟩ (by decide) (by decide) dJ21_siftUpUsingComparator_47
      · skip
        obtain ⟨e, h_e⟩ : ∃ y, A1[(k1 - 1) / 2]? = some y := ⟨_, List.getElem?_eq_getElem (by omega)⟩
        have hme : e ∈ A := hlp_2.mem_iff.mp (List.mem_of_getElem? h_e)
        obtain ⟨v_e, hv_e⟩ := hel e hme
        have hw_e : V1 e = some (.inr (5, v_e)) := hlp_1.get (fun z => zne_oa hv_e hd z) hv_e
        have hf_e := hlp_4 _ _ (by omega) h_e
        refine z_iload_n C 0 rfl dJ21_siftUpUsingComparator_4 rfl ?_
        refine z_iconst C (v := (nI 1)) dJ21_siftUpUsingComparator_5 rfl ?_
        refine z_isubN C (by omega) dJ21_siftUpUsingComparator_6 ?_
        refine z_iconst C (v := (nI 1)) dJ21_siftUpUsingComparator_7 rfl ?_
        refine z_iushr C (v := nI ((k1 - 1) / 2)) dJ21_siftUpUsingComparator_8 (nI_ushr (by omega)) ?_
        refine z_istore C [(4, .int (nI ((k1 - 1) / 2))), (0, .int (nI k1)), (1, .ref x), (2, .ref d), (3, .ref cmp)] dJ21_siftUpUsingComparator_9 (by decide) rfl ?_
        refine z_aload_n C 3 rfl dJ21_siftUpUsingComparator_11 rfl ?_
        refine z_iload C 0 rfl dJ21_siftUpUsingComparator_12 ?_
        refine z_aaldR C 2 (by decide) hlp_0 (by omega) (by omega) hf_e dJ21_siftUpUsingComparator_14 ?_
        refine z_astore C [(5, .ref e), (4, .int (nI ((k1 - 1) / 2))), (0, .int (nI k1)), (1, .ref x), (2, .ref d), (3, .ref cmp)] dJ21_siftUpUsingComparator_15 (by decide) rfl ?_
        refine z_aload_n C 5 rfl dJ21_siftUpUsingComparator_17 rfl ?_
        refine z_aload_n C 3 rfl dJ21_siftUpUsingComparator_18 rfl ?_
        refine z_aload C 0 rfl dJ21_siftUpUsingComparator_19 ?_
        refine z_callF C k_MP hc1 (As := [.ref x, .ref e]) (hcmp V1 hlp_1 x hmx e hme) (lw_app (lw_in _ [932, 635, 637, 84] (by decide +kernel) (by decide +kernel)) (lw_meth q639)) zf_6 hdi_Comparator_compare rfl (Nat.le_of_ble_eq_true rfl) (by decide) (by decide) (by decide) (by decide) rfl dJ21_siftUpUsingComparator_21 (fun _ _ h => h.elim) (fun r7 V8 hP9 => ?_)
        obtain ⟨hv11, hz10⟩ := hP9
        rw [hv11]
        refine z_st (st' := [.int r7]) rfl ?_
        refine z_if_lt C 32 dJ21_siftUpUsingComparator_26 (by decide) (fun c26 => ?_) (fun c26 => ?_)
        · skip
          have hlt := hz10.1.mp c26
          refine z_aload_n C 4 rfl dJ21_siftUpUsingComparator_32 rfl ?_
          refine z_iload_n C 2 rfl dJ21_siftUpUsingComparator_33 rfl ?_
          refine z_aload C 0 rfl dJ21_siftUpUsingComparator_34 ?_
          refine z_aast C 2 (by decide) hlp_0 (by omega) (by omega) k_P hw_e (Or.inr q1713) dJ21_siftUpUsingComparator_36 (z_nV (fun V12 hV13 => ?_))
          have hU14 := zUnc.up (S := (fun z_ => z_ = d)) hlp_1 hV13 rfl
          have g15 := zup hV13 (zne_oa hc1 hlp_0) hc1
          have g16 := zup hV13 (zne_oa hw_x hlp_0) hw_x
          have g17 := zup hV13 (zne_oa hw_e hlp_0) hw_e
          have g18 : V12 d = some (.inl (D.arr 2, cap, .inr (.inr (.inr (.inr (va_up f1 k1 (some e))))))) := zself hV13
          refine z_iload C 1 rfl dJ21_siftUpUsingComparator_37 ?_
          refine z_istore_n C [(0, .int (nI ((k1 - 1) / 2))), (5, .ref e), (4, .int (nI ((k1 - 1) / 2))), (1, .ref x), (2, .ref d), (3, .ref cmp)] dJ21_siftUpUsingComparator_39 rfl (by decide) rfl ?_
          refine z_goto C 0 dJ21_siftUpUsingComparator_40 (by decide) ?_
          refine z_pick [(0, .int (nI ((k1 - 1) / 2))), (1, .ref x), (2, .ref d), (3, .ref cmp)] [0, 3, 4, 5] rfl ?_
          have hl3 : (k1 - 1) / 2 < A1.length := by omega
          exact ih_lp V12 _ ((A1.set k1 e).set ((k1 - 1) / 2) x) ((k1 - 1) / 2) g18 hU14 ((sw_perm hlp_3 h_e).trans hlp_2) (by rw [sw_at hk1 hl3, if_pos rfl]) (hf_up hlp_4 hk1 hl3) (hpU_step hlp_5 (by omega) hlp_3 h_e hlt) (by omega)
        · skip
          refine z_goto C 43 dJ21_siftUpUsingComparator_29 (by decide) ?_
          refine z_aload_n C 4 rfl dJ21_siftUpUsingComparator_43 rfl ?_
          refine z_iload_n C 2 rfl dJ21_siftUpUsingComparator_44 rfl ?_
          refine z_aload_n C 3 rfl dJ21_siftUpUsingComparator_45 rfl ?_
          refine z_aast C 2 (by decide) hlp_0 (by omega) (by omega) k_P hw_x (Or.inr q1713) dJ21_siftUpUsingComparator_46 (z_nV (fun V19 hV20 => ?_))
          have hU21 := zUnc.up (S := (fun z_ => z_ = d)) hlp_1 hV20 rfl
          have g22 := zup hV20 (zne_oa hc1 hlp_0) hc1
          have g23 := zup hV20 (zne_oa hw_x hlp_0) hw_x
          have g24 := zup hV20 (zne_oa hw_e hlp_0) hw_e
          have g25 : V19 d = some (.inl (D.arr 2, cap, .inr (.inr (.inr (.inr (va_up f1 k1 (some x))))))) := zself hV20
          exact z_vret C hQ () rfl ⟨_, A1, g25, hU21, hlp_2, hpU_end hlp_5 (Or.inr ⟨x, e, hlp_3, h_e, fun q => c26 (hz10.1.mpr q)⟩), hf_end hlp_4 hlp_3⟩ (by decide) (by decide) dJ21_siftUpUsingComparator_47
  exact lp _ V f A k hd zUnc.rf (List.Perm.refl _) hx hf hU (Nat.lt_succ_self _)
set_option maxHeartbeats 4000000 in
set_option maxRecDepth 100000 in
theorem mJ21_siftDownUsingComparator {l : Launch} {D : ZD} {V : ZV} {k n : Nat} {x d cmp cap : Nat} {f : Nat → Option Nat} {A : List Nat} {K : Nat → List Nat} (hd : V d = some (.inl (D.arr 2, cap, .inr (.inr (.inr (.inr f)))))) (hc : V cmp = some (.inr (4, []))) (hcap : A.length ≤ cap) (hb : cap < 100000) (hel : ∀ a ∈ A, ∃ vs, V a = some (.inr (5, vs))) (hcmp : ∀ W2, zUnc V W2 (fun z => z = d) → ∀ a ∈ A, ∀ b ∈ A, ZM l D yX5_compare (ws_ yX5_compare cX5_compare 3 (some .int)) 3 0 0 eI W2 [.ref cmp, .ref a, .ref b] (fun r V3 => V3 = W2 ∧ zCmp r (K a) (K b)) zno_x) (hn : A.length = n) (hx : A[k]? = some x) (hf : ∀ i a : Nat, i ≠ k → A[i]? = some a → f i = some a) (hD : hpD K A k) : ZM l D yJ21_siftDownUsingComparator (ws_ yJ21_siftDownUsingComparator cJ21_siftDownUsingComparator 9 none) 4 0 0 eU V [.int (nI k), .ref x, .ref d, .int (nI n), .ref cmp] (fun r V' => ∃ f2 A2, V' d = some (.inl (D.arr 2, cap, .inr (.inr (.inr (.inr f2))))) ∧ zUnc V V' (fun z => z = d) ∧ A2.Perm A ∧ hpA K A2 ∧ ∀ i a : Nat, A2[i]? = some a → f2 i = some a) zno_x := by
  refine z_enter (by decide +kernel) [(0, .int (nI k)), (1, .ref x), (2, .ref d), (3, .int (nI n)), (4, .ref cmp)] rfl (Nat.le_of_ble_eq_true rfl) (zcat_cons rfl (zcat_cons rfl (zcat_cons rfl (zcat_cons rfl (zcat_cons rfl zcat_nil))))) (fun Γ C hQ => ?_)
  have hnb : n < 100000 := by omega
  refine z_iload_n C 3 rfl dJ21_siftDownUsingComparator_0 rfl ?_
  refine z_iconst C (v := (nI 1)) dJ21_siftDownUsingComparator_1 rfl ?_
  refine z_iushr C (v := nI (n / 2)) dJ21_siftDownUsingComparator_2 (nI_ushr (by omega)) ?_
  refine z_istore C [(5, .int (nI (n / 2))), (0, .int (nI k)), (1, .ref x), (2, .ref d), (3, .int (nI n)), (4, .ref cmp)] dJ21_siftDownUsingComparator_3 (by decide) rfl ?_
  refine z_pick [(0, .int (nI k)), (1, .ref x), (2, .ref d), (3, .int (nI n)), (4, .ref cmp), (5, .int (nI (n / 2)))] [1, 2, 3, 4, 5, 0] rfl ?_
  have lp : ∀ (n_lp : Nat) (V1 : ZV) (f1 : Nat → Option Nat) (A1 : List Nat) (k1 : Nat), V1 d = some (.inl (D.arr 2, cap, .inr (.inr (.inr (.inr f1))))) → zUnc V V1 (fun z => z = d) → A1.Perm A → A1[k1]? = some x → (∀ i a : Nat, i ≠ k1 → A1[i]? = some a → f1 i = some a) → hpD K A1 k1 → n - k1 < n_lp → ZW l D Γ (zr 4 0 0) 5 [(0, .int (nI k1)), (1, .ref x), (2, .ref d), (3, .int (nI n)), (4, .ref cmp), (5, .int (nI (n / 2)))] [] V1 0 0 := by
    intro n_lp
    induction n_lp with
    | zero => intro V1 f1 A1 k1 _ _ _ _ _ _ hm; exact absurd hm (Nat.not_lt_zero _)
    | succ n_lp ih_lp =>
      intro V1 f1 A1 k1 hlp_0 hlp_1 hlp_2 hlp_3 hlp_4 hlp_5 hm
      have hk1 := len_of hlp_3
      have hl1 := hlp_2.length_eq
      have hc1 : V1 cmp = some (.inr (4, [])) := hlp_1.get (fun z => zne_oa hc hd z) hc
      have hmx : x ∈ A := hlp_2.mem_iff.mp (List.mem_of_getElem? hlp_3)
      obtain ⟨v_x, hv_x⟩ := hel x hmx
      have hw_x : V1 x = some (.inr (5, v_x)) := hlp_1.get (fun z => zne_oa hv_x hd z) hv_x
      refine z_iload_n C 0 rfl dJ21_siftDownUsingComparator_5 rfl ?_
      refine z_iload C 5 rfl dJ21_siftDownUsingComparator_6 ?_
      refine z_icmp_geN C 88 (by omega) (by omega) dJ21_siftDownUsingComparator_8 (by decide) (fun c8 => ?_) (fun c8 => ?_)
      · skip
        refine z_aload_n C 2 rfl dJ21_siftDownUsingComparator_88 rfl ?_
        refine z_iload_n C 0 rfl dJ21_siftDownUsingComparator_89 rfl ?_
        refine z_aload_n C 1 rfl dJ21_siftDownUsingComparator_90 rfl ?_
        refine z_aast C 2 (by decide) hlp_0 (by omega) (by omega) k_P hw_x (Or.inr q1713) dJ21_siftDownUsingComparator_91 (z_nV (fun V1 hV2 => ?_))
        have hU3 := zUnc.up (S := (fun z_ => z_ = d)) hlp_1 hV2 rfl
        have g4 := zup hV2 (zne_oa hc1 hlp_0) hc1
        have g5 := zup hV2 (zne_oa hw_x hlp_0) hw_x
        have g6 : V1 d = some (.inl (D.arr 2, cap, .inr (.inr (.inr (.inr (va_up f1 k1 (some x))))))) := zself hV2
        exact z_vret C hQ () rfl ⟨_, A1, g6, hU3, hlp_2, (hpD_end hlp_5 hlp_3 (fun i d h0 hp hd2 => by have := len_of hd2; omega)), hf_end hlp_4 hlp_3⟩ (by decide) (by decide) dJ21_siftDownUsingComparator_92
      · skip
        obtain ⟨c, h_c⟩ : ∃ y, A1[2 * k1 + 1]? = some y := ⟨_, List.getElem?_eq_getElem (by omega)⟩
        have hmc : c ∈ A := hlp_2.mem_iff.mp (List.mem_of_getElem? h_c)
        obtain ⟨v_c, hv_c⟩ := hel c hmc
        have hw_c : V1 c = some (.inr (5, v_c)) := hlp_1.get (fun z => zne_oa hv_c hd z) hv_c
        have hf_c := hlp_4 _ _ (by omega) h_c
        refine z_iload_n C 0 rfl dJ21_siftDownUsingComparator_11 rfl ?_
        refine z_iconst C (v := (nI 1)) dJ21_siftDownUsingComparator_12 rfl ?_
        refine z_ishl C dJ21_siftDownUsingComparator_13 ?_
        refine z_top (v := .int (nI (2 * k1))) (congrArg Value.int (nI_shl (by omega))) ?_
        refine z_iconst C (v := (nI 1)) dJ21_siftDownUsingComparator_14 rfl ?_
        refine z_iaddN C dJ21_siftDownUsingComparator_15 ?_
        refine z_istore C [(6, .int (nI ((2 * k1) + 1))), (0, .int (nI k1)), (1, .ref x), (2, .ref d), (3, .int (nI n)), (4, .ref cmp), (5, .int (nI (n / 2)))] dJ21_siftDownUsingComparator_16 (by decide) rfl ?_
        refine z_aload_n C 3 rfl dJ21_siftDownUsingComparator_18 rfl ?_
        refine z_iload C 0 rfl dJ21_siftDownUsingComparator_19 ?_
        refine z_aaldR C 2 (by decide) hlp_0 (by omega) (by omega) hf_c dJ21_siftDownUsingComparator_21 ?_
        refine z_astore C [(7, .ref c), (6, .int (nI ((2 * k1) + 1))), (0, .int (nI k1)), (1, .ref x), (2, .ref d), (3, .int (nI n)), (4, .ref cmp), (5, .int (nI (n / 2)))] dJ21_siftDownUsingComparator_22 (by decide) rfl ?_
        refine z_iload C 1 rfl dJ21_siftDownUsingComparator_24 ?_
        refine z_iconst C (v := (nI 1)) dJ21_siftDownUsingComparator_26 rfl ?_
        refine z_iaddN C dJ21_siftDownUsingComparator_27 ?_
        refine z_istore C [(8, .int (nI (((2 * k1) + 1) + 1))), (7, .ref c), (6, .int (nI ((2 * k1) + 1))), (0, .int (nI k1)), (1, .ref x), (2, .ref d), (3, .int (nI n)), (4, .ref cmp), (5, .int (nI (n / 2)))] dJ21_siftDownUsingComparator_28 (by decide) rfl ?_
        refine z_iload C 0 rfl dJ21_siftDownUsingComparator_30 ?_
        refine z_iload_n C 6 rfl dJ21_siftDownUsingComparator_32 rfl ?_
        refine z_icmp_geN C 61 (by omega) (by omega) dJ21_siftDownUsingComparator_33 (by decide) (fun c33 => ?_) (fun c33 => ?_)
        · skip
          have hmin : ∀ i d : Nat, 0 < i → (i - 1) / 2 = k1 → A1[i]? = some d → ¬ lexL (K d) (K c) := fun i d h0 hp hd2 => by
            have := len_of hd2
            obtain rfl : i = 2 * k1 + 1 := by omega
            rw [h_c] at hd2; cases hd2; exact lexL_irr _
          refine z_aload C 7 rfl dJ21_siftDownUsingComparator_61 ?_
          refine z_aload_n C 4 rfl dJ21_siftDownUsingComparator_63 rfl ?_
          refine z_aload C 1 rfl dJ21_siftDownUsingComparator_64 ?_
          refine z_callF C k_MP hc1 (As := [.ref x, .ref c]) (hcmp V1 hlp_1 x hmx c hmc) (lw_app (lw_in _ [932, 635, 637, 84] (by decide +kernel) (by decide +kernel)) (lw_meth q639)) zf_6 hdi_Comparator_compare rfl (Nat.le_of_ble_eq_true rfl) (by decide) (by decide) (by decide) (by decide) rfl dJ21_siftDownUsingComparator_66 (fun _ _ h => h.elim) (fun r7 V8 hP9 => ?_)
          obtain ⟨hv11, hz10⟩ := hP9
          rw [hv11]
          refine z_st (st' := [.int r7]) rfl ?_
          refine z_if_gt C 77 dJ21_siftDownUsingComparator_71 (by decide) (fun c71 => ?_) (fun c71 => ?_)
          · skip
            have hlt := zCmp_pos hz10 c71
            refine z_aload_n C 5 rfl dJ21_siftDownUsingComparator_77 rfl ?_
            refine z_iload_n C 3 rfl dJ21_siftDownUsingComparator_78 rfl ?_
            refine z_aload C 1 rfl dJ21_siftDownUsingComparator_79 ?_
            refine z_aast C 2 (by decide) hlp_0 (by omega) (by omega) k_P hw_c (Or.inr q1713) dJ21_siftDownUsingComparator_81 (z_nV (fun V12 hV13 => ?_))
            have hU14 := zUnc.up (S := (fun z_ => z_ = d)) hlp_1 hV13 rfl
            have g15 := zup hV13 (zne_oa hc1 hlp_0) hc1
            have g16 := zup hV13 (zne_oa hw_x hlp_0) hw_x
            have g17 := zup hV13 (zne_oa hw_c hlp_0) hw_c
            have g18 : V12 d = some (.inl (D.arr 2, cap, .inr (.inr (.inr (.inr (va_up f1 k1 (some c))))))) := zself hV13
            refine z_iload C 2 rfl dJ21_siftDownUsingComparator_82 ?_
            refine z_istore_n C [(0, .int (nI ((2 * k1) + 1))), (8, .int (nI (((2 * k1) + 1) + 1))), (7, .ref c), (6, .int (nI ((2 * k1) + 1))), (1, .ref x), (2, .ref d), (3, .int (nI n)), (4, .ref cmp), (5, .int (nI (n / 2)))] dJ21_siftDownUsingComparator_84 rfl (by decide) rfl ?_
            refine z_goto C 5 dJ21_siftDownUsingComparator_85 (by decide) ?_
            refine z_pick [(0, .int (nI ((2 * k1) + 1))), (1, .ref x), (2, .ref d), (3, .int (nI n)), (4, .ref cmp), (5, .int (nI (n / 2)))] [0, 4, 5, 6, 7, 8] rfl ?_
            have hl3 : 2 * k1 + 1 < A1.length := by omega
            exact ih_lp V12 _ ((A1.set k1 c).set (2 * k1 + 1) x) (2 * k1 + 1) g18 hU14 ((sw_perm hlp_3 h_c).trans hlp_2) (by rw [sw_at hk1 hl3, if_pos rfl]) (hf_up hlp_4 hk1 hl3) (hpD_step hlp_5 hlp_3 h_c ⟨by omega, by omega⟩ hlt hmin) (by omega)
          · skip
            have hnl := zCmp_npos hz10 c71
            refine z_goto C 88 dJ21_siftDownUsingComparator_74 (by decide) ?_
            refine z_aload_n C 5 rfl dJ21_siftDownUsingComparator_88 rfl ?_
            refine z_iload_n C 3 rfl dJ21_siftDownUsingComparator_89 rfl ?_
            refine z_aload_n C 4 rfl dJ21_siftDownUsingComparator_90 rfl ?_
            refine z_aast C 2 (by decide) hlp_0 (by omega) (by omega) k_P hw_x (Or.inr q1713) dJ21_siftDownUsingComparator_91 (z_nV (fun V19 hV20 => ?_))
            have hU21 := zUnc.up (S := (fun z_ => z_ = d)) hlp_1 hV20 rfl
            have g22 := zup hV20 (zne_oa hc1 hlp_0) hc1
            have g23 := zup hV20 (zne_oa hw_x hlp_0) hw_x
            have g24 := zup hV20 (zne_oa hw_c hlp_0) hw_c
            have g25 : V19 d = some (.inl (D.arr 2, cap, .inr (.inr (.inr (.inr (va_up f1 k1 (some x))))))) := zself hV20
            exact z_vret C hQ () rfl ⟨_, A1, g25, hU21, hlp_2, (hpD_end hlp_5 hlp_3 (fun i d h0 hp hd2 => nlx_tr hnl (hmin i d h0 hp hd2))), hf_end hlp_4 hlp_3⟩ (by decide) (by decide) dJ21_siftDownUsingComparator_92
        · skip
          obtain ⟨e, h_e⟩ : ∃ y, A1[2 * k1 + 1 + 1]? = some y := ⟨_, List.getElem?_eq_getElem (by omega)⟩
          have hme : e ∈ A := hlp_2.mem_iff.mp (List.mem_of_getElem? h_e)
          obtain ⟨v_e, hv_e⟩ := hel e hme
          have hw_e : V1 e = some (.inr (5, v_e)) := hlp_1.get (fun z => zne_oa hv_e hd z) hv_e
          have hf_e := hlp_4 _ _ (by omega) h_e
          refine z_aload C 7 rfl dJ21_siftDownUsingComparator_36 ?_
          refine z_aload C 1 rfl dJ21_siftDownUsingComparator_38 ?_
          refine z_aload_n C 5 rfl dJ21_siftDownUsingComparator_40 rfl ?_
          refine z_iload C 0 rfl dJ21_siftDownUsingComparator_41 ?_
          refine z_aaldR C 2 (by decide) hlp_0 (by omega) (by omega) hf_e dJ21_siftDownUsingComparator_43 ?_
          refine z_callF C k_MP hc1 (As := [.ref c, .ref e]) (hcmp V1 hlp_1 c hmc e hme) (lw_app (lw_in _ [932, 635, 637, 84] (by decide +kernel) (by decide +kernel)) (lw_meth q639)) zf_6 hdi_Comparator_compare rfl (Nat.le_of_ble_eq_true rfl) (by decide) (by decide) (by decide) (by decide) rfl dJ21_siftDownUsingComparator_44 (fun _ _ h => h.elim) (fun r26 V27 hP28 => ?_)
          obtain ⟨hv30, hz29⟩ := hP28
          rw [hv30]
          refine z_st (st' := [.int r26]) rfl ?_
          refine z_if_le C 61 dJ21_siftDownUsingComparator_49 (by decide) (fun c49 => ?_) (fun c49 => ?_)
          · skip
            have hnp := zCmp_npos hz29 (fun q => by rw [Int32.lt_iff_toInt_lt] at q; have q2 := c49; rw [Int32.le_iff_toInt_le] at q2; omega)
            have hmin : ∀ i d : Nat, 0 < i → (i - 1) / 2 = k1 → A1[i]? = some d → ¬ lexL (K d) (K c) := fun i d h0 hp hd2 => by
              have hi2 : i = 2 * k1 + 1 ∨ i = 2 * k1 + 1 + 1 := by omega
              rcases hi2 with rfl | rfl
              · rw [h_c] at hd2; cases hd2; exact lexL_irr _
              · rw [h_e] at hd2; cases hd2; exact hnp
            refine z_aload C 7 rfl dJ21_siftDownUsingComparator_61 ?_
            refine z_aload_n C 4 rfl dJ21_siftDownUsingComparator_63 rfl ?_
            refine z_aload C 1 rfl dJ21_siftDownUsingComparator_64 ?_
            refine z_callF C k_MP hc1 (As := [.ref x, .ref c]) (hcmp V1 hlp_1 x hmx c hmc) (lw_app (lw_in _ [932, 635, 637, 84] (by decide +kernel) (by decide +kernel)) (lw_meth q639)) zf_6 hdi_Comparator_compare rfl (Nat.le_of_ble_eq_true rfl) (by decide) (by decide) (by decide) (by decide) rfl dJ21_siftDownUsingComparator_66 (fun _ _ h => h.elim) (fun r31 V32 hP33 => ?_)
            obtain ⟨hv35, hz34⟩ := hP33
            rw [hv35]
            refine z_st (st' := [.int r31]) rfl ?_
            refine z_if_gt C 77 dJ21_siftDownUsingComparator_71 (by decide) (fun c71 => ?_) (fun c71 => ?_)
            · skip
              have hlt := zCmp_pos hz34 c71
              refine z_aload_n C 5 rfl dJ21_siftDownUsingComparator_77 rfl ?_
              refine z_iload_n C 3 rfl dJ21_siftDownUsingComparator_78 rfl ?_
              refine z_aload C 1 rfl dJ21_siftDownUsingComparator_79 ?_
              refine z_aast C 2 (by decide) hlp_0 (by omega) (by omega) k_P hw_c (Or.inr q1713) dJ21_siftDownUsingComparator_81 (z_nV (fun V36 hV37 => ?_))
              have hU38 := zUnc.up (S := (fun z_ => z_ = d)) hlp_1 hV37 rfl
              have g39 := zup hV37 (zne_oa hc1 hlp_0) hc1
              have g40 := zup hV37 (zne_oa hw_x hlp_0) hw_x
              have g41 := zup hV37 (zne_oa hw_c hlp_0) hw_c
              have g42 := zup hV37 (zne_oa hw_e hlp_0) hw_e
              have g43 : V36 d = some (.inl (D.arr 2, cap, .inr (.inr (.inr (.inr (va_up f1 k1 (some c))))))) := zself hV37
              refine z_iload C 2 rfl dJ21_siftDownUsingComparator_82 ?_
              refine z_istore_n C [(0, .int (nI ((2 * k1) + 1))), (8, .int (nI (((2 * k1) + 1) + 1))), (7, .ref c), (6, .int (nI ((2 * k1) + 1))), (1, .ref x), (2, .ref d), (3, .int (nI n)), (4, .ref cmp), (5, .int (nI (n / 2)))] dJ21_siftDownUsingComparator_84 rfl (by decide) rfl ?_
              refine z_goto C 5 dJ21_siftDownUsingComparator_85 (by decide) ?_
              refine z_pick [(0, .int (nI ((2 * k1) + 1))), (1, .ref x), (2, .ref d), (3, .int (nI n)), (4, .ref cmp), (5, .int (nI (n / 2)))] [0, 4, 5, 6, 7, 8] rfl ?_
              have hl3 : 2 * k1 + 1 < A1.length := by omega
              exact ih_lp V36 _ ((A1.set k1 c).set (2 * k1 + 1) x) (2 * k1 + 1) g43 hU38 ((sw_perm hlp_3 h_c).trans hlp_2) (by rw [sw_at hk1 hl3, if_pos rfl]) (hf_up hlp_4 hk1 hl3) (hpD_step hlp_5 hlp_3 h_c ⟨by omega, by omega⟩ hlt hmin) (by omega)
            · skip
              have hnl := zCmp_npos hz34 c71
              refine z_goto C 88 dJ21_siftDownUsingComparator_74 (by decide) ?_
              refine z_aload_n C 5 rfl dJ21_siftDownUsingComparator_88 rfl ?_
              refine z_iload_n C 3 rfl dJ21_siftDownUsingComparator_89 rfl ?_
              refine z_aload_n C 4 rfl dJ21_siftDownUsingComparator_90 rfl ?_
              refine z_aast C 2 (by decide) hlp_0 (by omega) (by omega) k_P hw_x (Or.inr q1713) dJ21_siftDownUsingComparator_91 (z_nV (fun V44 hV45 => ?_))
              have hU46 := zUnc.up (S := (fun z_ => z_ = d)) hlp_1 hV45 rfl
              have g47 := zup hV45 (zne_oa hc1 hlp_0) hc1
              have g48 := zup hV45 (zne_oa hw_x hlp_0) hw_x
              have g49 := zup hV45 (zne_oa hw_c hlp_0) hw_c
              have g50 := zup hV45 (zne_oa hw_e hlp_0) hw_e
              have g51 : V44 d = some (.inl (D.arr 2, cap, .inr (.inr (.inr (.inr (va_up f1 k1 (some x))))))) := zself hV45
              exact z_vret C hQ () rfl ⟨_, A1, g51, hU46, hlp_2, (hpD_end hlp_5 hlp_3 (fun i d h0 hp hd2 => nlx_tr hnl (hmin i d h0 hp hd2))), hf_end hlp_4 hlp_3⟩ (by decide) (by decide) dJ21_siftDownUsingComparator_92
          · skip
            have hpp := zc_gt hz29 c49
            have hmin : ∀ i d : Nat, 0 < i → (i - 1) / 2 = k1 → A1[i]? = some d → ¬ lexL (K d) (K e) := fun i d h0 hp hd2 => by
              have hi2 : i = 2 * k1 + 1 ∨ i = 2 * k1 + 1 + 1 := by omega
              rcases hi2 with rfl | rfl
              · rw [h_c] at hd2; cases hd2; exact lexL_as hpp
              · rw [h_e] at hd2; cases hd2; exact lexL_irr _
            refine z_aload_n C 5 rfl dJ21_siftDownUsingComparator_52 rfl ?_
            refine z_iload C 0 rfl dJ21_siftDownUsingComparator_53 ?_
            refine z_dup C dJ21_siftDownUsingComparator_55 rfl ?_
            refine z_istore C [(6, .int (nI (((2 * k1) + 1) + 1))), (8, .int (nI (((2 * k1) + 1) + 1))), (7, .ref c), (0, .int (nI k1)), (1, .ref x), (2, .ref d), (3, .int (nI n)), (4, .ref cmp), (5, .int (nI (n / 2)))] dJ21_siftDownUsingComparator_56 (by decide) rfl ?_
            refine z_aaldR C 2 (by decide) hlp_0 (by omega) (by omega) hf_e dJ21_siftDownUsingComparator_58 ?_
            refine z_astore C [(7, .ref e), (6, .int (nI (((2 * k1) + 1) + 1))), (8, .int (nI (((2 * k1) + 1) + 1))), (0, .int (nI k1)), (1, .ref x), (2, .ref d), (3, .int (nI n)), (4, .ref cmp), (5, .int (nI (n / 2)))] dJ21_siftDownUsingComparator_59 (by decide) rfl ?_
            refine z_aload C 7 rfl dJ21_siftDownUsingComparator_61 ?_
            refine z_aload_n C 4 rfl dJ21_siftDownUsingComparator_63 rfl ?_
            refine z_aload C 0 rfl dJ21_siftDownUsingComparator_64 ?_
            refine z_callF C k_MP hc1 (As := [.ref x, .ref e]) (hcmp V1 hlp_1 x hmx e hme) (lw_app (lw_in _ [932, 635, 637, 84] (by decide +kernel) (by decide +kernel)) (lw_meth q639)) zf_6 hdi_Comparator_compare rfl (Nat.le_of_ble_eq_true rfl) (by decide) (by decide) (by decide) (by decide) rfl dJ21_siftDownUsingComparator_66 (fun _ _ h => h.elim) (fun r52 V53 hP54 => ?_)
            obtain ⟨hv56, hz55⟩ := hP54
            rw [hv56]
            refine z_st (st' := [.int r52]) rfl ?_
            refine z_if_gt C 77 dJ21_siftDownUsingComparator_71 (by decide) (fun c71 => ?_) (fun c71 => ?_)
            · skip
              have hlt := zCmp_pos hz55 c71
              refine z_aload_n C 5 rfl dJ21_siftDownUsingComparator_77 rfl ?_
              refine z_iload_n C 3 rfl dJ21_siftDownUsingComparator_78 rfl ?_
              refine z_aload C 0 rfl dJ21_siftDownUsingComparator_79 ?_
              refine z_aast C 2 (by decide) hlp_0 (by omega) (by omega) k_P hw_e (Or.inr q1713) dJ21_siftDownUsingComparator_81 (z_nV (fun V57 hV58 => ?_))
              have hU59 := zUnc.up (S := (fun z_ => z_ = d)) hlp_1 hV58 rfl
              have g60 := zup hV58 (zne_oa hc1 hlp_0) hc1
              have g61 := zup hV58 (zne_oa hw_x hlp_0) hw_x
              have g62 := zup hV58 (zne_oa hw_c hlp_0) hw_c
              have g63 := zup hV58 (zne_oa hw_e hlp_0) hw_e
              have g64 : V57 d = some (.inl (D.arr 2, cap, .inr (.inr (.inr (.inr (va_up f1 k1 (some e))))))) := zself hV58
              refine z_iload C 1 rfl dJ21_siftDownUsingComparator_82 ?_
              refine z_istore_n C [(0, .int (nI (((2 * k1) + 1) + 1))), (7, .ref e), (6, .int (nI (((2 * k1) + 1) + 1))), (8, .int (nI (((2 * k1) + 1) + 1))), (1, .ref x), (2, .ref d), (3, .int (nI n)), (4, .ref cmp), (5, .int (nI (n / 2)))] dJ21_siftDownUsingComparator_84 rfl (by decide) rfl ?_
              refine z_goto C 5 dJ21_siftDownUsingComparator_85 (by decide) ?_
              refine z_pick [(0, .int (nI (((2 * k1) + 1) + 1))), (1, .ref x), (2, .ref d), (3, .int (nI n)), (4, .ref cmp), (5, .int (nI (n / 2)))] [0, 4, 5, 6, 7, 8] rfl ?_
              have hl3 : 2 * k1 + 1 + 1 < A1.length := by omega
              exact ih_lp V57 _ ((A1.set k1 e).set (2 * k1 + 1 + 1) x) (2 * k1 + 1 + 1) g64 hU59 ((sw_perm hlp_3 h_e).trans hlp_2) (by rw [sw_at hk1 hl3, if_pos rfl]) (hf_up hlp_4 hk1 hl3) (hpD_step hlp_5 hlp_3 h_e ⟨by omega, by omega⟩ hlt hmin) (by omega)
            · skip
              have hnl := zCmp_npos hz55 c71
              refine z_goto C 88 dJ21_siftDownUsingComparator_74 (by decide) ?_
              refine z_aload_n C 5 rfl dJ21_siftDownUsingComparator_88 rfl ?_
              refine z_iload_n C 3 rfl dJ21_siftDownUsingComparator_89 rfl ?_
              refine z_aload_n C 4 rfl dJ21_siftDownUsingComparator_90 rfl ?_
              refine z_aast C 2 (by decide) hlp_0 (by omega) (by omega) k_P hw_x (Or.inr q1713) dJ21_siftDownUsingComparator_91 (z_nV (fun V65 hV66 => ?_))
              have hU67 := zUnc.up (S := (fun z_ => z_ = d)) hlp_1 hV66 rfl
              have g68 := zup hV66 (zne_oa hc1 hlp_0) hc1
              have g69 := zup hV66 (zne_oa hw_x hlp_0) hw_x
              have g70 := zup hV66 (zne_oa hw_c hlp_0) hw_c
              have g71 := zup hV66 (zne_oa hw_e hlp_0) hw_e
              have g72 : V65 d = some (.inl (D.arr 2, cap, .inr (.inr (.inr (.inr (va_up f1 k1 (some x))))))) := zself hV66
              exact z_vret C hQ () rfl ⟨_, A1, g72, hU67, hlp_2, (hpD_end hlp_5 hlp_3 (fun i d h0 hp hd2 => nlx_tr hnl (hmin i d h0 hp hd2))), hf_end hlp_4 hlp_3⟩ (by decide) (by decide) dJ21_siftDownUsingComparator_92
  exact lp _ V f A k hd zUnc.rf (List.Perm.refl _) hx hf hD (Nat.lt_succ_self _)
set_option maxHeartbeats 4000000 in
set_option maxRecDepth 100000 in
theorem mJ21_siftUp {l : Launch} {D : ZD} {V : ZV} {q k n : Nat} {mc : Int32} {x d cmp cap : Nat} {f : Nat → Option Nat} {A : List Nat} {K : Nat → List Nat} (hq : V q = some (.inr (11, [.ref d, .int (nI n), .ref cmp, .int mc]))) (hd : V d = some (.inl (D.arr 2, cap, .inr (.inr (.inr (.inr f)))))) (hc : V cmp = some (.inr (4, []))) (hcap : A.length ≤ cap) (hb : cap < 100000) (hel : ∀ a ∈ A, ∃ vs, V a = some (.inr (5, vs))) (hcmp : ∀ W2, zUnc V W2 (fun z => z = d) → ∀ a ∈ A, ∀ b ∈ A, ZM l D yX5_compare (ws_ yX5_compare cX5_compare 3 (some .int)) 3 0 0 eI W2 [.ref cmp, .ref a, .ref b] (fun r V3 => V3 = W2 ∧ zCmp r (K a) (K b)) zno_x) (hx : A[k]? = some x) (hf : ∀ i a : Nat, i ≠ k → A[i]? = some a → f i = some a) (hU : hpU K A k) : ZM l D yJ21_siftUp (ws_ yJ21_siftUp cJ21_siftUp 3 none) 5 0 0 eU V [.ref q, .int (nI k), .ref x] (fun r V' => ∃ f2 A2, V' d = some (.inl (D.arr 2, cap, .inr (.inr (.inr (.inr f2))))) ∧ zUnc V V' (fun z => z = d) ∧ A2.Perm A ∧ hpA K A2 ∧ ∀ i a : Nat, A2[i]? = some a → f2 i = some a) zno_x := by
  refine z_enter (by decide +kernel) [(0, .ref q), (1, .int (nI k)), (2, .ref x)] rfl (Nat.le_of_ble_eq_true rfl) (zcat_cons rfl (zcat_cons rfl (zcat_cons rfl zcat_nil))) (fun Γ C hQ => ?_)
  refine z_aload_n C 0 rfl dJ21_siftUp_0 rfl ?_
  refine z_get C k_PQ hq 2 (by decide) rfl q828 dJ21_siftUp_1 ?_
  refine z_ifnull_r C dJ21_siftUp_4 ?_
  refine z_iload_n C 1 rfl dJ21_siftUp_7 rfl ?_
  refine z_aload_n C 2 rfl dJ21_siftUp_8 rfl ?_
  refine z_aload_n C 0 rfl dJ21_siftUp_9 rfl ?_
  refine z_get C k_PQ hq 0 (by decide) rfl q826 dJ21_siftUp_10 ?_
  refine z_aload_n C 0 rfl dJ21_siftUp_13 rfl ?_
  refine z_get C k_PQ hq 2 (by decide) rfl q828 dJ21_siftUp_14 ?_
  refine z_callS C (As := [.int (nI k), .ref x, .ref d, .ref cmp]) (mJ21_siftUpUsingComparator hd hc hcap hb hel hcmp hx hf hU) (lw_S q928 q929 q83 q930) hd_J21_siftUpUsingComparator rfl (Nat.le_of_ble_eq_true rfl) (by decide) (by decide) (by decide) (by decide) rfl dJ21_siftUp_17 (fun _ _ h => h.elim) (fun r1 V2 hP3 => ?_)
  refine z_st (st' := []) rfl ?_
  refine z_goto C 32 dJ21_siftUp_20 (by decide) ?_
  exact z_vret C hQ () rfl hP3 (by decide) (by decide) dJ21_siftUp_32
set_option maxHeartbeats 4000000 in
set_option maxRecDepth 100000 in
theorem mJ21_grow {l : Launch} {D : ZD} {V : ZV} {q d n cap cmp : Nat} {mc : Int32} {f : Nat → Option Nat} (hq : V q = some (.inr (11, [.ref d, .int (nI n), .ref cmp, .int mc]))) (hd : V d = some (.inl (D.arr 2, cap, .inr (.inr (.inr (.inr f)))))) (hc1 : 11 ≤ cap) (hc : cap ≤ 20000) (hel : ∀ i, i < cap → ∀ y, f i = some y → ∃ vs, V y = some (.inr (5, vs))) : ZM l D yJ21_grow (ws_ yJ21_grow cJ21_grow 4 none) 5 1 (pcap cap) eU V [.ref q, .int (nI (cap + 1))] (fun r V' => ∃ d2 g, V' q = some (.inr (11, [.ref d2, .int (nI n), .ref cmp, .int mc])) ∧ V' d2 = some (.inl (D.arr 2, pcap cap, .inr (.inr (.inr (.inr g))))) ∧ V d2 = none ∧ zUnc V V' (fun z => z = q) ∧ ∀ i, i < cap → g i = f i) zno_x := by
  refine z_enter (by decide +kernel) [(0, .ref q), (1, .int (nI (cap + 1)))] rfl (Nat.le_of_ble_eq_true rfl) (zcat_cons rfl (zcat_cons rfl zcat_nil)) (fun Γ C hQ => ?_)
  have hU1 : zUnc V V (fun z_ => z_ = q) := zUnc.rf
  have hpc : cap ≤ pcap cap ∧ pcap cap ≤ 100000 := by unfold pcap; split <;> omega
  refine z_aload_n C 0 rfl dJ21_grow_0 rfl ?_
  refine z_get C k_PQ hq 0 (by decide) rfl q826 dJ21_grow_1 ?_
  refine z_alen C 2 rfl hd (n := cap) rfl dJ21_grow_4 ?_
  refine z_istore_n C [(2, .int (nI cap)), (0, .ref q), (1, .int (nI (cap + 1)))] dJ21_grow_5 rfl (by decide) rfl ?_
  refine z_iload_n C 0 rfl dJ21_grow_6 rfl ?_
  refine z_iload_n C 2 rfl dJ21_grow_7 rfl ?_
  refine z_iload_n C 0 rfl dJ21_grow_8 rfl ?_
  refine z_isubN C (by omega) dJ21_grow_9 ?_
  refine z_iload_n C 0 rfl dJ21_grow_10 rfl ?_
  refine z_bipush C (v := (nI 64)) dJ21_grow_11 rfl ?_
  refine z_icmp_geN C 22 (by omega) (by omega) dJ21_grow_13 (by decide) (fun c13 => ?_) (fun c13 => ?_)
  · skip
    refine z_iload_n C 0 rfl dJ21_grow_22 rfl ?_
    refine z_iconst C (v := (nI 1)) dJ21_grow_23 rfl ?_
    refine z_ishr C dJ21_grow_24 ?_
    refine z_top (v := .int (nI (cap / 2))) (congrArg Value.int (nI_shr (by omega))) ?_
    refine z_callS C (As := [.int (nI cap), .int (nI ((cap + 1) - cap)), .int (nI (cap / 2))]) (mJ22_newLength (by omega) (by omega) (by omega) (by omega)) (lw_S q876 q877 q86 q878) hd_J22_newLength rfl (Nat.le_of_ble_eq_true rfl) (by decide) (by decide) (by omega) (by omega) rfl dJ21_grow_25 (fun _ _ h => h.elim) (fun r2 V3 hP4 => ?_)
    rw [hP4.1, hP4.2]
    refine z_st (st' := [.int (nI (cap + max ((cap + 1) - cap) (cap / 2)))]) rfl ?_
    refine z_top (v := .int (nI (pcap cap))) (congrArg (fun z => Value.int (nI z)) (by unfold pcap; split <;> omega)) ?_
    refine z_istore_n C [(3, .int (nI (pcap cap))), (2, .int (nI cap)), (0, .ref q), (1, .int (nI (cap + 1)))] dJ21_grow_28 rfl (by decide) rfl ?_
    refine z_aload_n C 2 rfl dJ21_grow_29 rfl ?_
    refine z_aload_n C 2 rfl dJ21_grow_30 rfl ?_
    refine z_get C k_PQ hq 0 (by decide) rfl q826 dJ21_grow_31 ?_
    refine z_iload_n C 0 rfl dJ21_grow_34 rfl ?_
    refine z_callS C (As := [.ref d, .int (nI (pcap cap))]) (mJ23_copyOf_P hd (m := pcap cap) hpc.1 hpc.2 hel) (lw_S q886 q887 q87 q888) hd_J23_copyOf rfl (Nat.le_of_ble_eq_true rfl) (by decide) (by decide) (by omega) (by omega) rfl dJ21_grow_35 (fun _ _ h => h.elim) (fun r5 V6 hP7 => ?_)
    obtain ⟨gg, hc1_, hc2_, hc3_, hc4_⟩ := hP7
    refine z_st (st' := [.ref r5, .ref q]) rfl ?_
    have hU8 := zUnc.tr (S := (fun z_ => z_ = q)) hU1 hc3_ (fun _ h => h.elim)
    have g9 := zUnc.get hc3_ (fun h => h) hq
    have g10 := zUnc.get hc3_ (fun h => h) hd
    refine z_put C k_PQ g9 0 (by decide) [.ref r5, .int (nI n), .ref cmp, .int mc] rfl (Nat.le_of_ble_eq_true rfl) rfl rfl rfl q826 dJ21_grow_38 (z_nV (fun V11 hV12 => ?_))
    have hU13 := zUnc.up (S := (fun z_ => z_ = q)) hU8 hV12 rfl
    have g14 := zup hV12 (zne_ao g10 g9) g10
    have g15 := zup hV12 (zne_ao hc1_ g9) hc1_
    have g16 : V11 q = some (.inr (11, [.ref r5, .int (nI n), .ref cmp, .int mc])) := zself hV12
    exact z_vret C hQ () rfl ⟨r5, gg, g16, g15, hc2_, hU13, hc4_⟩ (by omega) (by omega) dJ21_grow_41
  · skip
    refine z_iload_n C 0 rfl dJ21_grow_16 rfl ?_
    refine z_iconst C (v := (nI 2)) dJ21_grow_17 rfl ?_
    refine z_iaddN C dJ21_grow_18 ?_
    refine z_goto C 25 dJ21_grow_19 (by decide) ?_
    refine z_callS C (As := [.int (nI cap), .int (nI ((cap + 1) - cap)), .int (nI (cap + 2))]) (mJ22_newLength (by omega) (by omega) (by omega) (by omega)) (lw_S q876 q877 q86 q878) hd_J22_newLength rfl (Nat.le_of_ble_eq_true rfl) (by decide) (by decide) (by omega) (by omega) rfl dJ21_grow_25 (fun _ _ h => h.elim) (fun r17 V18 hP19 => ?_)
    rw [hP19.1, hP19.2]
    refine z_st (st' := [.int (nI (cap + max ((cap + 1) - cap) (cap + 2)))]) rfl ?_
    refine z_top (v := .int (nI (pcap cap))) (congrArg (fun z => Value.int (nI z)) (by unfold pcap; split <;> omega)) ?_
    refine z_istore_n C [(3, .int (nI (pcap cap))), (2, .int (nI cap)), (0, .ref q), (1, .int (nI (cap + 1)))] dJ21_grow_28 rfl (by decide) rfl ?_
    refine z_aload_n C 2 rfl dJ21_grow_29 rfl ?_
    refine z_aload_n C 2 rfl dJ21_grow_30 rfl ?_
    refine z_get C k_PQ hq 0 (by decide) rfl q826 dJ21_grow_31 ?_
    refine z_iload_n C 0 rfl dJ21_grow_34 rfl ?_
    refine z_callS C (As := [.ref d, .int (nI (pcap cap))]) (mJ23_copyOf_P hd (m := pcap cap) hpc.1 hpc.2 hel) (lw_S q886 q887 q87 q888) hd_J23_copyOf rfl (Nat.le_of_ble_eq_true rfl) (by decide) (by decide) (by omega) (by omega) rfl dJ21_grow_35 (fun _ _ h => h.elim) (fun r20 V21 hP22 => ?_)
    obtain ⟨gg, hc1_, hc2_, hc3_, hc4_⟩ := hP22
    refine z_st (st' := [.ref r20, .ref q]) rfl ?_
    have hU23 := zUnc.tr (S := (fun z_ => z_ = q)) hU1 hc3_ (fun _ h => h.elim)
    have g24 := zUnc.get hc3_ (fun h => h) hq
    have g25 := zUnc.get hc3_ (fun h => h) hd
    refine z_put C k_PQ g24 0 (by decide) [.ref r20, .int (nI n), .ref cmp, .int mc] rfl (Nat.le_of_ble_eq_true rfl) rfl rfl rfl q826 dJ21_grow_38 (z_nV (fun V26 hV27 => ?_))
    have hU28 := zUnc.up (S := (fun z_ => z_ = q)) hU23 hV27 rfl
    have g29 := zup hV27 (zne_ao g25 g24) g25
    have g30 := zup hV27 (zne_ao hc1_ g24) hc1_
    have g31 : V26 q = some (.inr (11, [.ref r20, .int (nI n), .ref cmp, .int mc])) := zself hV27
    exact z_vret C hQ () rfl ⟨r20, gg, g31, g30, hc2_, hU28, hc4_⟩ (by omega) (by omega) dJ21_grow_41
set_option maxHeartbeats 4000000 in
set_option maxRecDepth 100000 in
theorem mJ21_offer_0 {l : Launch} {D : ZD} {V : ZV} {q d cap cmp x : Nat} {mc : Int32} {f : Nat → Option Nat} {A : List Nat} {K : Nat → List Nat} {vx : List Value} (hPq : hPQ D V q d cap f A cmp mc) (hlt : A.length < cap) (hb : cap < 20000) (hel : ∀ a ∈ A, ∃ vs, V a = some (.inr (5, vs))) (hx : V x = some (.inr (5, vx))) (hcmp : ∀ W2, zUnc V W2 (fun z => z = q ∨ z = d) → ∀ a ∈ x :: A, ∀ b ∈ x :: A, ZM l D yX5_compare (ws_ yX5_compare cX5_compare 3 (some .int)) 3 0 0 eI W2 [.ref cmp, .ref a, .ref b] (fun r V3 => V3 = W2 ∧ zCmp r (K a) (K b)) zno_x) (hH : hpA K A) : ZM l D yJ21_offer (ws_ yJ21_offer cJ21_offer 3 (some .boolean)) 6 0 0 eB V [.ref q, .ref x] (fun r V' => r = true ∧ ∃ d2 f2 A2, hPQ D V' q d2 cap f2 A2 cmp (mc + nI 1) ∧ A2.Perm (x :: A) ∧ hpA K A2 ∧ d2 = d ∧ zUnc V V' (fun z => z = q ∨ z = d)) zno_x := by
  refine z_enter (by decide +kernel) [(0, .ref q), (1, .ref x)] rfl (Nat.le_of_ble_eq_true rfl) (zcat_cons rfl (zcat_cons rfl zcat_nil)) (fun Γ C hQ => ?_)
  obtain ⟨hq, hd, hc, hcap, hf⟩ := hPq
  have hU1 : zUnc V V (fun z_ => z_ = q ∨ z_ = d) := zUnc.rf
  refine z_aload_n C 1 rfl dJ21_offer_0 rfl ?_
  refine z_ifnonnull_r C 12 dJ21_offer_1 (by decide) ?_
  refine z_aload_n C 0 rfl dJ21_offer_12 rfl ?_
  refine z_dup C dJ21_offer_13 rfl ?_
  refine z_get C k_PQ hq 3 (by decide) rfl q829 dJ21_offer_14 ?_
  refine z_iconst C (v := (nI 1)) dJ21_offer_17 rfl ?_
  refine z_iadd C dJ21_offer_18 ?_
  refine z_put C k_PQ hq 3 (by decide) [.ref d, .int (nI A.length), .ref cmp, .int (mc + (nI 1))] rfl (Nat.le_of_ble_eq_true rfl) rfl rfl rfl q829 dJ21_offer_19 (z_nV (fun V2 hV3 => ?_))
  have hU4 := zUnc.up (S := (fun z_ => z_ = q ∨ z_ = d)) hU1 hV3 (Or.inl rfl)
  have g5 := zup hV3 (zne_ao hd hq) hd
  have g6 := zup hV3 (zne_cc hc hq (by decide)) hc
  have g7 := zup hV3 (zne_cc hx hq (by decide)) hx
  have g8 : V2 q = some (.inr (11, [.ref d, .int (nI A.length), .ref cmp, .int (mc + (nI 1))])) := zself hV3
  refine z_aload_n C 0 rfl dJ21_offer_22 rfl ?_
  refine z_get C k_PQ g8 1 (by decide) rfl q827 dJ21_offer_23 ?_
  refine z_istore_n C [(2, .int (nI A.length)), (0, .ref q), (1, .ref x)] dJ21_offer_26 rfl (by decide) rfl ?_
  refine z_iload_n C 0 rfl dJ21_offer_27 rfl ?_
  refine z_aload_n C 1 rfl dJ21_offer_28 rfl ?_
  refine z_get C k_PQ g8 0 (by decide) rfl q826 dJ21_offer_29 ?_
  refine z_alen C 2 rfl g5 (n := cap) rfl dJ21_offer_32 ?_
  refine z_icmp_ltN C 43 (by omega) (by omega) dJ21_offer_33 (by decide) (fun c33 => ?_) (fun c33 => ?_)
  · skip
    refine z_aload_n C 1 rfl dJ21_offer_43 rfl ?_
    refine z_iload_n C 0 rfl dJ21_offer_44 rfl ?_
    refine z_aload_n C 2 rfl dJ21_offer_45 rfl ?_
    have hlen9 : (A ++ [x]).length = A.length + 1 := by simp
    have hx9 : (A ++ [x])[A.length]? = some x := by simp
    have hf9 : ∀ i a : Nat, i ≠ A.length → (A ++ [x])[i]? = some a → f i = some a := by
      intro i a hi ha
      have l9 := len_of ha
      rw [List.getElem?_append_left (by omega)] at ha
      have l8 := len_of ha
      exact hf i a ha
    have hm9 : ∀ a, a ∈ A ++ [x] → a ∈ x :: A := fun a ha => by rw [List.mem_append, List.mem_singleton] at ha; rw [List.mem_cons]; exact ha.symm
    have hel8 : ∀ a ∈ A ++ [x], ∃ vs, V2 a = some (.inr (5, vs)) := by
      intro a ha
      have hv9 : ∃ vs, V a = some (.inr (5, vs)) := by rcases List.mem_append.mp ha with q9 | q9; exact hel a q9; rw [List.mem_singleton] at q9; rw [q9]; exact ⟨vx, hx⟩
      obtain ⟨vs, hv⟩ := hv9
      exact ⟨vs, hU4.get (by rintro (z | z); exact zne_cc hv hq (by decide) z; exact zne_oa hv hd z) hv⟩
    have hcmp9 : ∀ W2, zUnc V2 W2 (fun z => z = d) → ∀ a ∈ A ++ [x], ∀ b ∈ A ++ [x], ZM l D yX5_compare (ws_ yX5_compare cX5_compare 3 (some .int)) 3 0 0 eI W2 [.ref cmp, .ref a, .ref b] (fun r V3 => V3 = W2 ∧ zCmp r (K a) (K b)) zno_x := fun W2 hu a ha b hb9 => hcmp W2 (zUnc.tr (S := (fun z => z = q ∨ z = d)) hU4 hu (fun _ h => Or.inl (Or.inr h))) a (hm9 a ha) b (hm9 b hb9)
    refine z_callV C k_PQ g8 (As := [.int (nI A.length), .ref x]) (mJ21_siftUp g8 g5 g6 (by omega) (by omega) hel8 hcmp9 hx9 hf9 (hpU_new hH)) (lw_V q924 q926 qs15 q83 q927) rfl hd_J21_siftUp rfl (Nat.le_of_ble_eq_true rfl) (by decide) (by decide) (by omega) (by omega) rfl dJ21_offer_46 (fun _ _ h => h.elim) (fun r9 V10 hP11 => ?_)
    obtain ⟨f2, A2, hs1, hs2, hs3, hs4, hs5⟩ := hP11
    refine z_st (st' := []) rfl ?_
    have hU12 := zUnc.tr (S := (fun z_ => z_ = q ∨ z_ = d)) hU4 hs2 (fun _ h => Or.inl (Or.inr h))
    have g13 := zUnc.get hs2 (fun e => (zne_oa g6 g5) e) g6
    have g14 := zUnc.get hs2 (fun e => (zne_oa g7 g5) e) g7
    have g15 := zUnc.get hs2 (fun e => (zne_oa g8 g5) e) g8
    refine z_aload_n C 1 rfl dJ21_offer_49 rfl ?_
    refine z_iload_n C 0 rfl dJ21_offer_50 rfl ?_
    refine z_iconst C (v := (nI 1)) dJ21_offer_51 rfl ?_
    refine z_iaddN C dJ21_offer_52 ?_
    refine z_put C k_PQ g15 1 (by decide) [.ref d, .int (nI (A.length + 1)), .ref cmp, .int (mc + (nI 1))] rfl (Nat.le_of_ble_eq_true rfl) rfl rfl rfl q827 dJ21_offer_53 (z_nV (fun V16 hV17 => ?_))
    have hU18 := zUnc.up (S := (fun z_ => z_ = q ∨ z_ = d)) hU12 hV17 (Or.inl rfl)
    have g19 := zup hV17 (zne_cc g13 g15 (by decide)) g13
    have g20 := zup hV17 (zne_cc g14 g15 (by decide)) g14
    have g21 := zup hV17 (zne_ao hs1 g15) hs1
    have g22 : V16 q = some (.inr (11, [.ref d, .int (nI (A.length + 1)), .ref cmp, .int (mc + (nI 1))])) := zself hV17
    refine z_iconst C (v := (nI 1)) dJ21_offer_56 rfl ?_
    have hl2 : A2.length = A.length + 1 := by rw [hs3.length_eq]; simp
    exact z_zret C hQ true rfl rfl ⟨rfl, d, f2, A2, ⟨by rw [hl2]; exact g22, g21, g19, (by omega), hs5⟩, hs3.trans List.perm_append_comm, hs4, rfl, hU18⟩ (by omega) (by omega) dJ21_offer_57
  · skip
    exfalso; omega
set_option maxHeartbeats 4000000 in
set_option maxRecDepth 100000 in
theorem mJ21_add_0 {l : Launch} {D : ZD} {V : ZV} {q d cap cmp x : Nat} {mc : Int32} {f : Nat → Option Nat} {A : List Nat} {K : Nat → List Nat} {vx : List Value} (hPq : hPQ D V q d cap f A cmp mc) (hlt : A.length < cap) (hb : cap < 20000) (hel : ∀ a ∈ A, ∃ vs, V a = some (.inr (5, vs))) (hx : V x = some (.inr (5, vx))) (hcmp : ∀ W2, zUnc V W2 (fun z => z = q ∨ z = d) → ∀ a ∈ x :: A, ∀ b ∈ x :: A, ZM l D yX5_compare (ws_ yX5_compare cX5_compare 3 (some .int)) 3 0 0 eI W2 [.ref cmp, .ref a, .ref b] (fun r V3 => V3 = W2 ∧ zCmp r (K a) (K b)) zno_x) (hH : hpA K A) : ZM l D yJ21_add (ws_ yJ21_add cJ21_add 2 (some .boolean)) 7 0 0 eB V [.ref q, .ref x] (fun r V' => r = true ∧ ∃ d2 f2 A2, hPQ D V' q d2 cap f2 A2 cmp (mc + nI 1) ∧ A2.Perm (x :: A) ∧ hpA K A2 ∧ d2 = d ∧ zUnc V V' (fun z => z = q ∨ z = d)) zno_x := by
  refine z_enter (by decide +kernel) [(0, .ref q), (1, .ref x)] rfl (Nat.le_of_ble_eq_true rfl) (zcat_cons rfl (zcat_cons rfl zcat_nil)) (fun Γ C hQ => ?_)
  refine z_aload_n C 0 rfl dJ21_add_0 rfl ?_
  refine z_aload_n C 1 rfl dJ21_add_1 rfl ?_
  refine z_callV C k_PQ hPq.1 (As := [.ref x]) (mJ21_offer_0 hPq hlt hb hel hx hcmp hH) (lw_V q868 q869 q870 q83 q871) rfl hd_J21_offer rfl (Nat.le_of_ble_eq_true rfl) (by decide) (by decide) (by omega) (by omega) rfl dJ21_add_2 (fun _ _ h => h.elim) (fun r1 V2 hP3 => ?_)
  refine z_st (st' := [.int (zb r1)]) rfl ?_
  exact z_zret C hQ r1 rfl (zb_nar _) hP3 (by omega) (by omega) dJ21_add_5
set_option maxHeartbeats 4000000 in
set_option maxRecDepth 100000 in
theorem mJ21_offer_1 {l : Launch} {D : ZD} {V : ZV} {q d cap cmp x : Nat} {mc : Int32} {f : Nat → Option Nat} {A : List Nat} {K : Nat → List Nat} {vx : List Value} (hPq : hPQ D V q d cap f A cmp mc) (hlt : A.length = cap) (hc1 : 11 ≤ cap) (hb : cap < 20000) (hel : ∀ a ∈ A, ∃ vs, V a = some (.inr (5, vs))) (hx : V x = some (.inr (5, vx))) (hcmp : ∀ W2, zUnc V W2 (fun z => z = q ∨ z = d) → ∀ a ∈ x :: A, ∀ b ∈ x :: A, ZM l D yX5_compare (ws_ yX5_compare cX5_compare 3 (some .int)) 3 0 0 eI W2 [.ref cmp, .ref a, .ref b] (fun r V3 => V3 = W2 ∧ zCmp r (K a) (K b)) zno_x) (hH : hpA K A) : ZM l D yJ21_offer (ws_ yJ21_offer cJ21_offer 3 (some .boolean)) 6 1 (pcap cap) eB V [.ref q, .ref x] (fun r V' => r = true ∧ ∃ d2 f2 A2, hPQ D V' q d2 (pcap cap) f2 A2 cmp (mc + nI 1) ∧ A2.Perm (x :: A) ∧ hpA K A2 ∧ V d2 = none ∧ zUnc V V' (fun z => z = q ∨ z = d)) zno_x := by
  refine z_enter (by decide +kernel) [(0, .ref q), (1, .ref x)] rfl (Nat.le_of_ble_eq_true rfl) (zcat_cons rfl (zcat_cons rfl zcat_nil)) (fun Γ C hQ => ?_)
  obtain ⟨hq, hd, hc, hcap, hf⟩ := hPq
  have hU1 : zUnc V V (fun z_ => z_ = q ∨ z_ = d) := zUnc.rf
  refine z_aload_n C 1 rfl dJ21_offer_0 rfl ?_
  refine z_ifnonnull_r C 12 dJ21_offer_1 (by decide) ?_
  refine z_aload_n C 0 rfl dJ21_offer_12 rfl ?_
  refine z_dup C dJ21_offer_13 rfl ?_
  refine z_get C k_PQ hq 3 (by decide) rfl q829 dJ21_offer_14 ?_
  refine z_iconst C (v := (nI 1)) dJ21_offer_17 rfl ?_
  refine z_iadd C dJ21_offer_18 ?_
  refine z_put C k_PQ hq 3 (by decide) [.ref d, .int (nI A.length), .ref cmp, .int (mc + (nI 1))] rfl (Nat.le_of_ble_eq_true rfl) rfl rfl rfl q829 dJ21_offer_19 (z_nV (fun V2 hV3 => ?_))
  have hU4 := zUnc.up (S := (fun z_ => z_ = q ∨ z_ = d)) hU1 hV3 (Or.inl rfl)
  have g5 := zup hV3 (zne_ao hd hq) hd
  have g6 := zup hV3 (zne_cc hc hq (by decide)) hc
  have g7 := zup hV3 (zne_cc hx hq (by decide)) hx
  have g8 : V2 q = some (.inr (11, [.ref d, .int (nI A.length), .ref cmp, .int (mc + (nI 1))])) := zself hV3
  refine z_aload_n C 0 rfl dJ21_offer_22 rfl ?_
  refine z_get C k_PQ g8 1 (by decide) rfl q827 dJ21_offer_23 ?_
  refine z_istore_n C [(2, .int (nI A.length)), (0, .ref q), (1, .ref x)] dJ21_offer_26 rfl (by decide) rfl ?_
  refine z_iload_n C 0 rfl dJ21_offer_27 rfl ?_
  refine z_aload_n C 1 rfl dJ21_offer_28 rfl ?_
  refine z_get C k_PQ g8 0 (by decide) rfl q826 dJ21_offer_29 ?_
  refine z_alen C 2 rfl g5 (n := cap) rfl dJ21_offer_32 ?_
  refine z_icmp_ltN C 43 (by omega) (by omega) dJ21_offer_33 (by decide) (fun c33 => ?_) (fun c33 => ?_)
  · skip
    exfalso; omega
  · skip
    refine z_aload_n C 1 rfl dJ21_offer_36 rfl ?_
    refine z_iload_n C 0 rfl dJ21_offer_37 rfl ?_
    refine z_iconst C (v := (nI 1)) dJ21_offer_38 rfl ?_
    refine z_iaddN C dJ21_offer_39 ?_
    have hel9 : ∀ i, i < cap → ∀ y, f i = some y → ∃ vs, V2 y = some (.inr (5, vs)) := by
      intro i hi y hy
      have e := List.getElem?_eq_getElem (l := A) (i := i) (by omega)
      rw [hf i _ e] at hy
      obtain ⟨vs, hv⟩ := hel y (by rw [← Option.some.inj hy]; exact List.getElem_mem _)
      exact ⟨vs, hU4.get (by rintro (z | z); exact zne_cc hv hq (by decide) z; exact zne_oa hv hd z) hv⟩
    refine z_st (st' := [.int (nI (cap + 1)), .ref q]) (by rw [hlt]) ?_
    refine z_callV C k_PQ g8 (As := [.int (nI (cap + 1))]) (mJ21_grow g8 g5 hc1 (by omega) hel9) (lw_V q872 q874 qs14 q83 q875) rfl hd_J21_grow rfl (Nat.le_of_ble_eq_true rfl) (by decide) (by decide) (by omega) (by omega) rfl dJ21_offer_40 (fun _ _ h => h.elim) (fun r9 V10 hP11 => ?_)
    obtain ⟨d2, g2, hg1, hg2, hg3, hg4, hg5⟩ := hP11
    refine z_st (st' := []) rfl ?_
    have hU12 := zUnc.tr (S := (fun z_ => z_ = q ∨ z_ = d)) hU4 hg4 (fun _ h => Or.inl (Or.inl h))
    have g13 := zUnc.get hg4 (fun e => (zne_ao g5 g8) e) g5
    have g14 := zUnc.get hg4 (fun e => (zne_cc g6 g8 (by decide)) e) g6
    have g15 := zUnc.get hg4 (fun e => (zne_cc g7 g8 (by decide)) e) g7
    have hnd := zUnc.none hU4 (by rintro (z | z); exact zne_new g8 hg3 z.symm; exact zne_new g5 hg3 z.symm) hg3
    have nd2 : d ≠ d2 := zne_new hd hnd
    refine z_aload_n C 1 rfl dJ21_offer_43 rfl ?_
    refine z_iload_n C 0 rfl dJ21_offer_44 rfl ?_
    refine z_aload_n C 2 rfl dJ21_offer_45 rfl ?_
    have hlen9 : (A ++ [x]).length = A.length + 1 := by simp
    have hx9 : (A ++ [x])[A.length]? = some x := by simp
    have hf9 : ∀ i a : Nat, i ≠ A.length → (A ++ [x])[i]? = some a → g2 i = some a := by
      intro i a hi ha
      have l9 := len_of ha
      rw [List.getElem?_append_left (by omega)] at ha
      have l8 := len_of ha
      rw [hg5 i (by omega)]; exact hf i a ha
    have hm9 : ∀ a, a ∈ A ++ [x] → a ∈ x :: A := fun a ha => by rw [List.mem_append, List.mem_singleton] at ha; rw [List.mem_cons]; exact ha.symm
    have hel8 : ∀ a ∈ A ++ [x], ∃ vs, V10 a = some (.inr (5, vs)) := by
      intro a ha
      have hv9 : ∃ vs, V a = some (.inr (5, vs)) := by rcases List.mem_append.mp ha with q9 | q9; exact hel a q9; rw [List.mem_singleton] at q9; rw [q9]; exact ⟨vx, hx⟩
      obtain ⟨vs, hv⟩ := hv9
      exact ⟨vs, hU12.get (by rintro (z | z); exact zne_cc hv hq (by decide) z; exact zne_oa hv hd z) hv⟩
    have hcmp9 : ∀ W2, zUnc V10 W2 (fun z => z = d2) → ∀ a ∈ A ++ [x], ∀ b ∈ A ++ [x], ZM l D yX5_compare (ws_ yX5_compare cX5_compare 3 (some .int)) 3 0 0 eI W2 [.ref cmp, .ref a, .ref b] (fun r V3 => V3 = W2 ∧ zCmp r (K a) (K b)) zno_x := fun W2 hu a ha b hb9 => hcmp W2 (zUnc.tr (S := (fun z => z = q ∨ z = d)) hU12 hu (fun a h => Or.inr (by rw [show a = d2 from h]; exact hnd))) a (hm9 a ha) b (hm9 b hb9)
    have hpc9 : cap < pcap cap ∧ pcap cap < 100000 := by unfold pcap; split <;> omega
    refine z_callV C k_PQ hg1 (As := [.int (nI A.length), .ref x]) (mJ21_siftUp hg1 hg2 g14 (by omega) hpc9.2 hel8 hcmp9 hx9 hf9 (hpU_new hH)) (lw_V q924 q926 qs15 q83 q927) rfl hd_J21_siftUp rfl (Nat.le_of_ble_eq_true rfl) (by decide) (by decide) (by omega) (by omega) rfl dJ21_offer_46 (fun _ _ h => h.elim) (fun r16 V17 hP18 => ?_)
    obtain ⟨f2, A2, hs1, hs2, hs3, hs4, hs5⟩ := hP18
    refine z_st (st' := []) rfl ?_
    have hU19 := zUnc.tr (S := (fun z_ => z_ = q ∨ z_ = d)) hU12 hs2 (fun a h => Or.inr (by rw [show a = d2 from h]; exact hnd))
    have g20 := zUnc.get hs2 (fun e => nd2 e) g13
    have g21 := zUnc.get hs2 (fun e => (zne_oa g14 hg2) e) g14
    have g22 := zUnc.get hs2 (fun e => (zne_oa g15 hg2) e) g15
    have g23 := zUnc.get hs2 (fun e => (zne_oa hg1 hg2) e) hg1
    refine z_aload_n C 1 rfl dJ21_offer_49 rfl ?_
    refine z_iload_n C 0 rfl dJ21_offer_50 rfl ?_
    refine z_iconst C (v := (nI 1)) dJ21_offer_51 rfl ?_
    refine z_iaddN C dJ21_offer_52 ?_
    refine z_put C k_PQ g23 1 (by decide) [.ref d2, .int (nI (A.length + 1)), .ref cmp, .int (mc + nI 1)] rfl (Nat.le_of_ble_eq_true rfl) rfl rfl rfl q827 dJ21_offer_53 (z_nV (fun V24 hV25 => ?_))
    have hU26 := zUnc.up (S := (fun z_ => z_ = q ∨ z_ = d)) hU19 hV25 (Or.inl rfl)
    have g27 := zup hV25 (zne_ao g20 g23) g20
    have g28 := zup hV25 (zne_cc g21 g23 (by decide)) g21
    have g29 := zup hV25 (zne_cc g22 g23 (by decide)) g22
    have g30 := zup hV25 (zne_ao hs1 g23) hs1
    have g31 : V24 q = some (.inr (11, [.ref d2, .int (nI (A.length + 1)), .ref cmp, .int (mc + nI 1)])) := zself hV25
    refine z_iconst C (v := (nI 1)) dJ21_offer_56 rfl ?_
    have hl2 : A2.length = A.length + 1 := by rw [hs3.length_eq]; simp
    exact z_zret C hQ true rfl rfl ⟨rfl, d2, f2, A2, ⟨by rw [hl2]; exact g31, g30, g28, (by omega), hs5⟩, hs3.trans List.perm_append_comm, hs4, hnd, hU26⟩ (by omega) (by omega) dJ21_offer_57
set_option maxHeartbeats 4000000 in
set_option maxRecDepth 100000 in
theorem mJ21_add_1 {l : Launch} {D : ZD} {V : ZV} {q d cap cmp x : Nat} {mc : Int32} {f : Nat → Option Nat} {A : List Nat} {K : Nat → List Nat} {vx : List Value} (hPq : hPQ D V q d cap f A cmp mc) (hlt : A.length = cap) (hc1 : 11 ≤ cap) (hb : cap < 20000) (hel : ∀ a ∈ A, ∃ vs, V a = some (.inr (5, vs))) (hx : V x = some (.inr (5, vx))) (hcmp : ∀ W2, zUnc V W2 (fun z => z = q ∨ z = d) → ∀ a ∈ x :: A, ∀ b ∈ x :: A, ZM l D yX5_compare (ws_ yX5_compare cX5_compare 3 (some .int)) 3 0 0 eI W2 [.ref cmp, .ref a, .ref b] (fun r V3 => V3 = W2 ∧ zCmp r (K a) (K b)) zno_x) (hH : hpA K A) : ZM l D yJ21_add (ws_ yJ21_add cJ21_add 2 (some .boolean)) 7 1 (pcap cap) eB V [.ref q, .ref x] (fun r V' => r = true ∧ ∃ d2 f2 A2, hPQ D V' q d2 (pcap cap) f2 A2 cmp (mc + nI 1) ∧ A2.Perm (x :: A) ∧ hpA K A2 ∧ V d2 = none ∧ zUnc V V' (fun z => z = q ∨ z = d)) zno_x := by
  refine z_enter (by decide +kernel) [(0, .ref q), (1, .ref x)] rfl (Nat.le_of_ble_eq_true rfl) (zcat_cons rfl (zcat_cons rfl zcat_nil)) (fun Γ C hQ => ?_)
  refine z_aload_n C 0 rfl dJ21_add_0 rfl ?_
  refine z_aload_n C 1 rfl dJ21_add_1 rfl ?_
  refine z_callV C k_PQ hPq.1 (As := [.ref x]) (mJ21_offer_1 hPq hlt hc1 hb hel hx hcmp hH) (lw_V q868 q869 q870 q83 q871) rfl hd_J21_offer rfl (Nat.le_of_ble_eq_true rfl) (by decide) (by decide) (by omega) (by omega) rfl dJ21_add_2 (fun _ _ h => h.elim) (fun r1 V2 hP3 => ?_)
  refine z_st (st' := [.int (zb r1)]) rfl ?_
  exact z_zret C hQ r1 rfl (zb_nar _) hP3 (by omega) (by omega) dJ21_add_5
set_option maxHeartbeats 4000000 in
set_option maxRecDepth 100000 in
theorem mJ21_poll {l : Launch} {D : ZD} {V : ZV} {q d cap cmp m0 : Nat} {mc : Int32} {f : Nat → Option Nat} {A : List Nat} {K : Nat → List Nat} (hPq : hPQ D V q d cap f A cmp mc) (hm0 : A[0]? = some m0) (hb : cap < 20000) (hel : ∀ a ∈ A, ∃ vs, V a = some (.inr (5, vs))) (hcmp : ∀ W2, zUnc V W2 (fun z => z = q ∨ z = d) → ∀ a ∈ A, ∀ b ∈ A, ZM l D yX5_compare (ws_ yX5_compare cX5_compare 3 (some .int)) 3 0 0 eI W2 [.ref cmp, .ref a, .ref b] (fun r V3 => V3 = W2 ∧ zCmp r (K a) (K b)) zno_x) (hH : hpA K A) : ZM l D yJ21_poll (ws_ yJ21_poll cJ21_poll 6 (some (.object "java/lang/Object"))) 5 0 0 eR V [.ref q] (fun r V' => r = m0 ∧ ∃ f2 A2, hPQ D V' q d cap f2 A2 cmp (mc + nI 1) ∧ A.Perm (m0 :: A2) ∧ hpA K A2 ∧ (∀ i a : Nat, A[i]? = some a → ¬ lexL (K a) (K m0)) ∧ zUnc V V' (fun z => z = q ∨ z = d)) zno_x := by
  refine z_enter (by decide +kernel) [(0, .ref q)] rfl (Nat.le_of_ble_eq_true rfl) (zcat_cons rfl zcat_nil) (fun Γ C hQ => ?_)
  obtain ⟨hq, hd, hc, hcap, hf⟩ := hPq
  have hn0 := len_of hm0
  obtain ⟨x, hxl⟩ : ∃ y, A[A.length - 1]? = some y := ⟨_, List.getElem?_eq_getElem (by omega)⟩
  have hU1 : zUnc V V (fun z_ => z_ = q ∨ z_ = d) := zUnc.rf
  refine z_aload_n C 0 rfl dJ21_poll_0 rfl ?_
  refine z_get C k_PQ hq 0 (by decide) rfl q826 dJ21_poll_1 ?_
  refine z_dup C dJ21_poll_4 rfl ?_
  refine z_astore_n C [(1, .ref d), (0, .ref q)] dJ21_poll_5 rfl (by decide) rfl ?_
  refine z_iconst C (v := (nI 0)) dJ21_poll_6 rfl ?_
  refine z_aaldR C 2 (by decide) hd (by omega) (by omega) (hf 0 m0 hm0) dJ21_poll_7 ?_
  refine z_dup C dJ21_poll_8 rfl ?_
  refine z_astore_n C [(2, .ref m0), (1, .ref d), (0, .ref q)] dJ21_poll_9 rfl (by decide) rfl ?_
  refine z_ifnull_r C dJ21_poll_10 ?_
  refine z_aload_n C 2 rfl dJ21_poll_13 rfl ?_
  refine z_dup C dJ21_poll_14 rfl ?_
  refine z_get C k_PQ hq 3 (by decide) rfl q829 dJ21_poll_15 ?_
  refine z_iconst C (v := (nI 1)) dJ21_poll_18 rfl ?_
  refine z_iadd C dJ21_poll_19 ?_
  refine z_put C k_PQ hq 3 (by decide) [.ref d, .int (nI A.length), .ref cmp, .int (mc + (nI 1))] rfl (Nat.le_of_ble_eq_true rfl) rfl rfl rfl q829 dJ21_poll_20 (z_nV (fun V2 hV3 => ?_))
  have hU4 := zUnc.up (S := (fun z_ => z_ = q ∨ z_ = d)) hU1 hV3 (Or.inl rfl)
  have g5 := zup hV3 (zne_ao hd hq) hd
  have g6 := zup hV3 (zne_cc hc hq (by decide)) hc
  have g7 : V2 q = some (.inr (11, [.ref d, .int (nI A.length), .ref cmp, .int (mc + (nI 1))])) := zself hV3
  refine z_aload_n C 1 rfl dJ21_poll_23 rfl ?_
  refine z_aload_n C 2 rfl dJ21_poll_24 rfl ?_
  refine z_dup C dJ21_poll_25 rfl ?_
  refine z_get C k_PQ g7 1 (by decide) rfl q827 dJ21_poll_26 ?_
  refine z_iconst C (v := (nI 1)) dJ21_poll_29 rfl ?_
  refine z_isubN C (by omega) dJ21_poll_30 ?_
  refine z_dup_x1 C dJ21_poll_31 rfl rfl ?_
  refine z_put C k_PQ g7 1 (by decide) [.ref d, .int (nI (A.length - 1)), .ref cmp, .int (mc + (nI 1))] rfl (Nat.le_of_ble_eq_true rfl) rfl rfl rfl q827 dJ21_poll_32 (z_nV (fun V8 hV9 => ?_))
  have hU10 := zUnc.up (S := (fun z_ => z_ = q ∨ z_ = d)) hU4 hV9 (Or.inl rfl)
  have g11 := zup hV9 (zne_ao g5 g7) g5
  have g12 := zup hV9 (zne_cc g6 g7 (by decide)) g6
  have g13 : V8 q = some (.inr (11, [.ref d, .int (nI (A.length - 1)), .ref cmp, .int (mc + (nI 1))])) := zself hV9
  refine z_dup C dJ21_poll_35 rfl ?_
  refine z_istore_n C [(3, .int (nI (A.length - 1))), (2, .ref m0), (1, .ref d), (0, .ref q)] dJ21_poll_36 rfl (by decide) rfl ?_
  refine z_aaldR C 2 (by decide) g11 (by omega) (by omega) (hf _ x hxl) dJ21_poll_37 ?_
  refine z_astore C [(4, .ref x), (3, .int (nI (A.length - 1))), (2, .ref m0), (1, .ref d), (0, .ref q)] dJ21_poll_38 (by decide) rfl ?_
  refine z_aload_n C 3 rfl dJ21_poll_40 rfl ?_
  refine z_iload_n C 1 rfl dJ21_poll_41 rfl ?_
  refine z_null C dJ21_poll_42 ?_
  refine z_aastN C 2 (by decide) g11 (by omega) (by omega) dJ21_poll_43 (z_nV (fun V14 hV15 => ?_))
  have hU16 := zUnc.up (S := (fun z_ => z_ = q ∨ z_ = d)) hU10 hV15 (Or.inr rfl)
  have g17 := zup hV15 (zne_oa g12 g11) g12
  have g18 := zup hV15 (zne_oa g13 g11) g13
  have g19 : V14 d = some (.inl (D.arr 2, cap, .inr (.inr (.inr (.inr (va_up f (A.length - 1) none)))))) := zself hV15
  refine z_iload_n C 1 rfl dJ21_poll_44 rfl ?_
  refine z_if_leN C 79 (by omega) dJ21_poll_45 (by decide) (fun c45 => ?_) (fun c45 => ?_)
  · skip
    refine z_aload_n C 2 rfl dJ21_poll_79 rfl ?_
    obtain ⟨b9, hA9⟩ : ∃ b, A = [b] := List.length_eq_one_iff.mp (by omega)
    have hmb : b9 = m0 := by rw [hA9] at hm0; exact Option.some.inj hm0
    exact z_aret C hQ m0 rfl (Or.inl ⟨_, rfl⟩) ⟨rfl, _, [], ⟨by have h9 := g18; rw [show A.length - 1 = ([] : List Nat).length by rw [hA9]; rfl] at h9; exact h9, g19, g17, Nat.zero_le _, fun i a h => by simp at h⟩, by rw [hA9, hmb], fun i p c h0 h1 h2 => by simp at h2, hpA_min hH hm0, hU16⟩ (by decide) (by decide) dJ21_poll_80
  · skip
    refine z_aload_n C 4 rfl dJ21_poll_48 rfl ?_
    refine z_get C k_PQ g18 2 (by decide) rfl q828 dJ21_poll_49 ?_
    refine z_dup C dJ21_poll_52 rfl ?_
    refine z_astore C [(5, .ref cmp), (4, .ref x), (3, .int (nI (A.length - 1))), (2, .ref m0), (1, .ref d), (0, .ref q)] dJ21_poll_53 (by decide) rfl ?_
    refine z_ifnonnull_r C 69 dJ21_poll_55 (by decide) ?_
    refine z_iconst C (v := (nI 0)) dJ21_poll_69 rfl ?_
    refine z_aload C 1 rfl dJ21_poll_70 ?_
    refine z_aload_n C 4 rfl dJ21_poll_72 rfl ?_
    refine z_iload_n C 2 rfl dJ21_poll_73 rfl ?_
    refine z_aload C 0 rfl dJ21_poll_74 ?_
    have hB : ((A.take (A.length - 1)).set 0 x).length = A.length - 1 := by rw [List.length_set, List.length_take]; omega
    have hB0 : ((A.take (A.length - 1)).set 0 x)[0]? = some x := by rw [List.getElem?_set_self (by rw [List.length_take]; omega)]
    have hpp := poll_perm hm0 hxl (by omega) (by omega)
    have hBA : ∀ a ∈ (A.take (A.length - 1)).set 0 x, a ∈ A := fun a ha => hpp.mem_iff.mpr (List.mem_cons_of_mem _ ha)
    have hf9 : ∀ i a : Nat, i ≠ 0 → ((A.take (A.length - 1)).set 0 x)[i]? = some a → va_up f (A.length - 1) none i = some a := by
      intro i a hi ha
      rw [List.getElem?_set_ne (Ne.symm hi), List.getElem?_take] at ha
      by_cases c9 : i < A.length - 1
      · rw [if_pos c9] at ha; rw [zvn (by omega)]; exact hf i a ha
      · rw [if_neg c9] at ha; cases ha
    have hel8 : ∀ a ∈ (A.take (A.length - 1)).set 0 x, ∃ vs, V14 a = some (.inr (5, vs)) := by
      intro a ha
      obtain ⟨vs, hv⟩ := hel a (hBA a ha)
      exact ⟨vs, hU16.get (by rintro (z | z); exact zne_cc hv hq (by decide) z; exact zne_oa hv hd z) hv⟩
    have hcmp9 : ∀ W2, zUnc V14 W2 (fun z => z = d) → ∀ a ∈ (A.take (A.length - 1)).set 0 x, ∀ b ∈ (A.take (A.length - 1)).set 0 x, ZM l D yX5_compare (ws_ yX5_compare cX5_compare 3 (some .int)) 3 0 0 eI W2 [.ref cmp, .ref a, .ref b] (fun r V3 => V3 = W2 ∧ zCmp r (K a) (K b)) zno_x := fun W2 hu a ha b hb9 => hcmp W2 (zUnc.tr (S := (fun z => z = q ∨ z = d)) hU16 hu (fun _ h => Or.inl (Or.inr h))) a (hBA a ha) b (hBA b hb9)
    refine z_callS C (As := [.int (nI 0), .ref x, .ref d, .int (nI (A.length - 1)), .ref cmp]) (mJ21_siftDownUsingComparator (k := 0) g19 g17 (by omega) (by omega) hel8 hcmp9 hB hB0 hf9 (poll_hp hH)) (lw_S q968 q969 q83 q970) hd_J21_siftDownUsingComparator rfl (Nat.le_of_ble_eq_true rfl) (by decide) (by decide) (by decide) (by decide) rfl dJ21_poll_76 (fun _ _ h => h.elim) (fun r20 V21 hP22 => ?_)
    obtain ⟨f2, A2, hs1, hs2, hs3, hs4, hs5⟩ := hP22
    refine z_st (st' := []) rfl ?_
    have hU23 := zUnc.tr (S := (fun z_ => z_ = q ∨ z_ = d)) hU16 hs2 (fun _ h => Or.inl (Or.inr h))
    have g24 := zUnc.get hs2 (fun e => (zne_oa g17 g19) e) g17
    have g25 := zUnc.get hs2 (fun e => (zne_oa g18 g19) e) g18
    refine z_aload_n C 3 rfl dJ21_poll_79 rfl ?_
    have hl2 : A2.length = A.length - 1 := by rw [hs3.length_eq]; exact hB
    exact z_aret C hQ m0 rfl (Or.inl ⟨_, rfl⟩) ⟨rfl, f2, A2, ⟨by rw [hl2]; exact g25, hs1, g24, by omega, hs5⟩, hpp.trans (List.Perm.cons _ hs3.symm), hs4, hpA_min hH hm0, hU23⟩ (by decide) (by decide) dJ21_poll_80
set_option maxHeartbeats 4000000 in
set_option maxRecDepth 100000 in
theorem mJ21_size {l : Launch} {D : ZD} {V : ZV} {q d cap cmp : Nat} {mc : Int32} {f : Nat → Option Nat} {A : List Nat} (hPq : hPQ D V q d cap f A cmp mc) : ZM l D yJ21_size (ws_ yJ21_size cJ21_size 1 (some .int)) 1 0 0 eN V [.ref q] (fun r V' => V' = V ∧ r = A.length) zno_x := by
  refine z_enter (by decide +kernel) [(0, .ref q)] rfl (Nat.le_of_ble_eq_true rfl) (zcat_cons rfl zcat_nil) (fun Γ C hQ => ?_)
  refine z_aload_n C 0 rfl dJ21_size_0 rfl ?_
  refine z_get C k_PQ hPq.1 1 (by decide) rfl q827 dJ21_size_1 ?_
  exact z_iret C hQ A.length rfl ⟨rfl, rfl⟩ (by decide) (by decide) dJ21_size_4
set_option maxHeartbeats 4000000 in
set_option maxRecDepth 100000 in
theorem mJ0_isEmpty {l : Launch} {D : ZD} {V : ZV} {q d cap cmp : Nat} {mc : Int32} {f : Nat → Option Nat} {A : List Nat} (hPq : hPQ D V q d cap f A cmp mc) (hb : A.length < 1000000) : ZM l D yJ0_isEmpty (ws_ yJ0_isEmpty cJ0_isEmpty 1 (some .boolean)) 2 0 0 eB V [.ref q] (fun r V' => V' = V ∧ r = decide (A.length = 0)) zno_x := by
  refine z_enter (by decide +kernel) [(0, .ref q)] rfl (Nat.le_of_ble_eq_true rfl) (zcat_cons rfl zcat_nil) (fun Γ C hQ => ?_)
  refine z_aload_n C 0 rfl dJ0_isEmpty_0 rfl ?_
  refine z_callA C k_PQ hPq.1 (As := []) (owner := "java/util/AbstractCollection") (x := ⟨"java/util/AbstractCollection", "size", "()I"⟩) (mJ21_size hPq) (lw_app (lw_in _ [945, 947, 951, 952, 83] (by decide +kernel) (by decide +kernel)) (lw_meth q953)) q946 (by decide +kernel) rfl (Nat.le_of_ble_eq_true rfl) (by decide) (by decide) (by decide) (by decide) rfl dJ0_isEmpty_1 (fun _ _ h => h.elim) (fun r1 V2 hP3 => ?_)
  rw [hP3.1, hP3.2]
  refine z_st (st' := [.int (nI A.length)]) rfl ?_
  refine z_if_neN C 11 (by omega) dJ0_isEmpty_4 (by decide) (fun c4 => ?_) (fun c4 => ?_)
  · skip
    refine z_iconst C (v := (nI 0)) dJ0_isEmpty_11 rfl ?_
    exact z_zret C hQ false rfl rfl ⟨rfl, by first | exact (decide_eq_true c4).symm | exact (decide_eq_false (by omega)).symm⟩ (by decide) (by decide) dJ0_isEmpty_12
  · skip
    refine z_iconst C (v := (nI 1)) dJ0_isEmpty_7 rfl ?_
    refine z_goto C 12 dJ0_isEmpty_8 (by decide) ?_
    exact z_zret C hQ true rfl rfl ⟨rfl, by first | exact (decide_eq_true c4).symm | exact (decide_eq_false (by omega)).symm⟩ (by decide) (by decide) dJ0_isEmpty_12
set_option maxHeartbeats 4000000 in
set_option maxRecDepth 100000 in
theorem mJ20_init {l : Launch} {D : ZD} {V : ZV} {a : Nat} : ZM l D yJ20_init (ws_ yJ20_init cJ20_init 1 none) 3 0 0 eU V [.ref a] (fun r V' => V' = V) zno_x := by
  refine z_enter (by decide +kernel) [(0, .ref a)] rfl (Nat.le_of_ble_eq_true rfl) (zcat_cons rfl zcat_nil) (fun Γ C hQ => ?_)
  refine z_aload_n C 0 rfl dJ20_init_0 rfl ?_
  refine z_callI C (rt := none) (As := []) (mJ0_init) q133 q60 q821 q132 rfl hd_J0_init rfl (Nat.le_of_ble_eq_true rfl) (by decide) (by decide) (by decide) (by decide) rfl dJ20_init_1 (fun _ _ h => h.elim) (fun r1 V2 hP3 => ?_)
  rw [hP3]
  refine z_st (st' := []) rfl ?_
  exact z_vret C hQ () rfl rfl (by decide) (by decide) dJ20_init_4
set_option maxHeartbeats 4000000 in
set_option maxRecDepth 100000 in
theorem mJ21_init_2 {l : Launch} {D : ZD} {V : ZV} {q cmp : Nat} (hq : V q = some (.inr (11, [.null, .int (nI 0), .null, .int (nI 0)]))) (hc : V cmp = some (.inr (4, []))) : ZM l D yJ21_init_2 (ws_ yJ21_init_2 cJ21_init_2 3 none) 4 1 11 eU V [.ref q, .int (nI 11), .ref cmp] (fun r V' => ∃ d, hPQ D V' q d 11 (fun _ => none) [] cmp (nI 0) ∧ V d = none ∧ zUnc V V' (fun z => z = q)) zno_x := by
  refine z_enter (by decide +kernel) [(0, .ref q), (1, .int (nI 11)), (2, .ref cmp)] rfl (Nat.le_of_ble_eq_true rfl) (zcat_cons rfl (zcat_cons rfl (zcat_cons rfl zcat_nil))) (fun Γ C hQ => ?_)
  have hU1 : zUnc V V (fun z_ => z_ = q) := zUnc.rf
  refine z_aload_n C 0 rfl dJ21_init_2_0 rfl ?_
  refine z_callI C (rt := none) (As := []) (mJ20_init) q820 q82 q818 q819 rfl hd_J20_init rfl (Nat.le_of_ble_eq_true rfl) (by decide) (by decide) (by decide) (by decide) rfl dJ21_init_2_1 (fun _ _ h => h.elim) (fun r2 V3 hP4 => ?_)
  rw [hP4]
  refine z_st (st' := []) rfl ?_
  refine z_iload_n C 1 rfl dJ21_init_2_4 rfl ?_
  refine z_iconst C (v := (nI 1)) dJ21_init_2_5 rfl ?_
  refine z_icmp_geN C 17 (by omega) (by omega) dJ21_init_2_6 (by decide) (fun c6 => ?_) (fun c6 => ?_)
  · skip
    refine z_aload_n C 0 rfl dJ21_init_2_17 rfl ?_
    refine z_iload_n C 1 rfl dJ21_init_2_18 rfl ?_
    refine z_newq C 2 (by decide) q824 (by omega) (by decide) (by decide) dJ21_init_2_19 (fun q5 hq6 => z_nV (fun V7 hV8 => ?_))
    have hf10 := zUnc.none hU1 (fun e => zne_new hq hq6 e.symm) hq6
    have hU9 := zUnc.new hU1 hV8 hq6
    have g11 := zup hV8 (zne_new hq hq6) hq
    have g12 := zup hV8 (zne_new hc hq6) hc
    have g13 : V7 q5 = some (.inl (D.arr 2, 11, .inr (.inr (.inr (.inr (fun _ => none)))))) := zself hV8
    refine z_put C k_PQ g11 0 (by decide) [.ref q5, .int (nI 0), .null, .int (nI 0)] rfl (Nat.le_of_ble_eq_true rfl) rfl rfl rfl q826 dJ21_init_2_22 (z_nV (fun V14 hV15 => ?_))
    have hU16 := zUnc.up (S := (fun z_ => z_ = q)) hU9 hV15 rfl
    have g17 := zup hV15 (zne_cc g12 g11 (by decide)) g12
    have g18 := zup hV15 (zne_ao g13 g11) g13
    have g19 : V14 q = some (.inr (11, [.ref q5, .int (nI 0), .null, .int (nI 0)])) := zself hV15
    refine z_aload_n C 0 rfl dJ21_init_2_25 rfl ?_
    refine z_aload_n C 2 rfl dJ21_init_2_26 rfl ?_
    refine z_putF C k_PQ g19 2 (by decide) [.ref q5, .int (nI 0), .ref cmp, .int (nI 0)] rfl (Nat.le_of_ble_eq_true rfl) rfl rfl rfl rfl rfl q828 dJ21_init_2_27 (z_nV (fun V20 hV21 => ?_))
    have hU22 := zUnc.up (S := (fun z_ => z_ = q)) hU16 hV21 rfl
    have g23 := zup hV21 (zne_cc g17 g19 (by decide)) g17
    have g24 := zup hV21 (zne_ao g18 g19) g18
    have g25 : V20 q = some (.inr (11, [.ref q5, .int (nI 0), .ref cmp, .int (nI 0)])) := zself hV21
    exact z_vret C hQ () rfl ⟨q5, ⟨g25, g24, g23, Nat.zero_le _, fun i a h => by simp at h⟩, hf10, hU22⟩ (by decide) (by decide) dJ21_init_2_30
  · skip
    exfalso; omega
set_option maxHeartbeats 4000000 in
set_option maxRecDepth 100000 in
theorem mJ21_init {l : Launch} {D : ZD} {V : ZV} {q cmp : Nat} (hq : V q = some (.inr (11, [.null, .int (nI 0), .null, .int (nI 0)]))) (hc : V cmp = some (.inr (4, []))) : ZM l D yJ21_init (ws_ yJ21_init cJ21_init 2 none) 5 1 11 eU V [.ref q, .ref cmp] (fun r V' => ∃ d, hPQ D V' q d 11 (fun _ => none) [] cmp (nI 0) ∧ V d = none ∧ zUnc V V' (fun z => z = q)) zno_x := by
  refine z_enter (by decide +kernel) [(0, .ref q), (1, .ref cmp)] rfl (Nat.le_of_ble_eq_true rfl) (zcat_cons rfl (zcat_cons rfl zcat_nil)) (fun Γ C hQ => ?_)
  refine z_aload_n C 0 rfl dJ21_init_0 rfl ?_
  refine z_bipush C (v := (nI 11)) dJ21_init_1 rfl ?_
  refine z_aload_n C 1 rfl dJ21_init_3 rfl ?_
  refine z_callI C (rt := none) (As := [.int (nI 11), .ref cmp]) (mJ21_init_2 hq hc) q817 q83 q815 q816 rfl hd_J21_init_2 rfl (Nat.le_of_ble_eq_true rfl) (by decide) (by decide) (by decide) (by decide) rfl dJ21_init_4 (fun _ _ h => h.elim) (fun r1 V2 hP3 => ?_)
  refine z_st (st' := []) rfl ?_
  exact z_vret C hQ () rfl hP3 (by decide) (by decide) dJ21_init_7
