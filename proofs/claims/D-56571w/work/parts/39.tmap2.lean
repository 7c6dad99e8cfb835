/-! TREE: finding, putting, taking out, by keys -/
set_option maxRecDepth 100000
def oZ (lo hi : Nat → Nat) (o : Option Nat) : Nat := match o with | none => 0 | some a => hi a - lo a + 1
theorem oZ_lt {lo hi : Nat → Nat} {o : Option Nat} {n : Nat} (h : ∀ b, o = some b → hi b - lo b < n) : oZ lo hi o < n + 1 := by
  cases o with
  | none => exact Nat.succ_pos _
  | some b => have := h b rfl; show hi b - lo b + 1 < n + 1; omega
theorem zc_lt {r : Int32} {a b : List Nat} (h : zCmp r a b) (h1 : ¬ 0 ≤ r) : lexL a b := h.1.mp (by
  rw [Int32.lt_iff_toInt_lt]; rw [Int32.le_iff_toInt_le] at h1; omega)
theorem zc_gt {r : Int32} {a b : List Nat} (h : zCmp r a b) (h2 : ¬ r ≤ 0) : lexL b a := zCmp_pos h (by
  rw [Int32.lt_iff_toInt_lt]; rw [Int32.le_iff_toInt_le] at h2; omega)
theorem zc_eq {r : Int32} {a b : List Nat} (h : zCmp r a b) (h1 : 0 ≤ r) (h2 : r ≤ 0) : b = a := (h.2.mp (by
  rw [Int32.le_iff_toInt_le] at h1 h2; exact Int32.toInt_inj.mp (by omega))).symm

set_option maxHeartbeats 4000000 in
set_option maxRecDepth 100000 in
theorem mJ4_getEntry_S {l : Launch} {D : ZD} {V : ZV} {t : Nat} {L : List Nat} {rt : Option Nat} {lf rg pa : Nat → Option Nat} {cl : Nat → Bool} {ky vl : Nat → Nat} {sz : Nat} {mc : Int32} (hW : tW V t L rt lf rg pa cl ky vl sz mc) {ps lo hi : Nat → Nat} (hI : tI L rt lf rg pa ps lo hi) {k : Nat} {fk : List Value} {kc : Nat → List Nat} {c : List Nat} (hk : V k = some (.inr (6, fk))) (hcmp : ∀ a ∈ L, ZM l D yX7_compareTo (ws_ yX7_compareTo cX7_compareTo 2 (some .int)) 2 0 0 eI V [.ref k, .ref (ky a)] (fun r V2 => V2 = V ∧ zCmp r c (kc (ky a))) zno_x) (hS : ∀ a ∈ L, ∀ b ∈ L, ps a < ps b → lexL (kc (ky a)) (kc (ky b))) : ZM l D yJ4_getEntry (ws_ yJ4_getEntry cJ4_getEntry 5 (some (.object "java/util/TreeMap$Entry"))) 3 0 0 eO V [.ref t, .ref k] (fun r V' => V' = V ∧ ((∃ a, r = some a ∧ a ∈ L ∧ kc (ky a) = c) ∨ (r = none ∧ ∀ a ∈ L, kc (ky a) ≠ c))) zno_x := by
  refine z_enter (by decide +kernel) [(0, .ref t), (1, .ref k)] rfl (Nat.le_of_ble_eq_true rfl) (zcat_cons rfl (zcat_cons rfl zcat_nil)) (fun Γ C hQ => ?_)
  refine z_aload_n C 0 rfl dJ4_getEntry_0 rfl ?_
  refine z_get C k_TM hW.1 2 (by decide) rfl q161 dJ4_getEntry_1 ?_
  refine z_ifnull_n C 13 dJ4_getEntry_4 (by decide) ?_
  refine z_aload_n C 1 rfl dJ4_getEntry_13 rfl ?_
  refine z_callS C (As := [.ref k]) (mJ17_requireNonNull) (lw_S q648 q649 q79 q650) hd_J17_requireNonNull rfl (Nat.le_of_ble_eq_true rfl) (by decide) (by decide) (by decide) (by decide) rfl dJ4_getEntry_14 (fun _ _ h => h.elim) (fun r1 V2 hP3 => ?_)
  rw [hP3.1, hP3.2]
  refine z_st (st' := [.ref k]) rfl ?_
  refine z_pop C dJ4_getEntry_17 rfl ?_
  refine z_aload_n C 1 rfl dJ4_getEntry_18 rfl ?_
  refine z_ccast C k_S hk q651 (Or.inr q656) dJ4_getEntry_19 ?_
  refine z_astore_n C [(2, .ref k), (0, .ref t), (1, .ref k)] dJ4_getEntry_22 rfl (by decide) rfl ?_
  refine z_aload_n C 1 rfl dJ4_getEntry_23 rfl ?_
  refine z_get C k_TM hW.1 3 (by decide) rfl q162 dJ4_getEntry_24 ?_
  refine z_astore_nQ C (r := rt) [(3, va_rf rt), (2, .ref k), (0, .ref t), (1, .ref k)] dJ4_getEntry_27 rfl (by decide) rfl ?_
  refine z_pick [(0, .ref t), (1, .ref k), (2, .ref k), (3, va_rf rt)] [2, 3, 1, 0] rfl ?_
  have lp : ∀ (n_lp : Nat) (o : Option Nat), (∀ a, o = some a → a ∈ L ∧ gS L ps (fun a => kc (ky a)) c (lo a) (hi a)) → (o = none → ∃ j, gS L ps (fun a => kc (ky a)) c j j) → oZ lo hi o < n_lp → ZW l D Γ (zr 3 0 0) 28 [(0, .ref t), (1, .ref k), (2, .ref k), (3, va_rf o)] [] V (0 + 0) (0 + 0) := by
    intro n_lp
    induction n_lp with
    | zero => intro o _ _ hm; exact absurd hm (Nat.not_lt_zero _)
    | succ n_lp ih_lp =>
      intro o hlp_0 hlp_1 hm
      refine z_aload_nQ C 3 (r := o) rfl dJ4_getEntry_28 rfl ?_
      refine z_ifnullQ C 75 dJ4_getEntry_29 (by decide) (fun hn5 => ?_) (fun a4 hs6 => ?_)
      · skip
        refine z_lv (lv' := [(0, .ref t), (1, .ref k), (2, .ref k), (3, .null)]) (by rw [hn5]; rfl) ?_
        refine z_null C dJ4_getEntry_75 ?_
        exact z_aretN C hQ none rfl (Or.inl ⟨_, rfl⟩) ⟨rfl, Or.inr ⟨rfl, fun b hb => by obtain ⟨j, g⟩ := hlp_1 hn5; exact gS_no g b hb⟩⟩ (by decide) (by decide) dJ4_getEntry_76
      · skip
        refine z_lv (lv' := [(0, .ref t), (1, .ref k), (2, .ref k), (3, .ref a4)]) (by rw [hs6]; rfl) ?_
        obtain ⟨ma, ga⟩ := hlp_0 a4 hs6
        have hm2 : hi a4 - lo a4 + 1 < n_lp + 1 := by rw [hs6] at hm; exact hm
        refine z_aload_n C 2 rfl dJ4_getEntry_32 rfl ?_
        refine z_aload_n C 3 rfl dJ4_getEntry_33 rfl ?_
        refine z_get C k_E (hW.2 a4 ma) 0 (by decide) rfl q1033 dJ4_getEntry_34 ?_
        refine z_callF C k_S hk (As := [.ref (ky a4)]) (hcmp a4 ma) (lw_app (lw_in _ [653, 657, 659, 91] (by decide +kernel) (by decide +kernel)) (lw_meth q661)) zf_7 hdi_Comparable_compareTo rfl (Nat.le_of_ble_eq_true rfl) (by decide) (by decide) (by decide) (by decide) rfl dJ4_getEntry_37 (fun _ _ h => h.elim) (fun r7 V8 hP9 => ?_)
        obtain ⟨hv11, hz10⟩ := hP9
        rw [hv11]
        refine z_st (st' := [.int r7]) rfl ?_
        refine z_istore C [(4, .int r7), (0, .ref t), (1, .ref k), (2, .ref k), (3, .ref a4)] dJ4_getEntry_42 (by decide) rfl ?_
        refine z_iload C 0 rfl dJ4_getEntry_44 ?_
        refine z_if_ge C 57 dJ4_getEntry_46 (by decide) (fun c46 => ?_) (fun c46 => ?_)
        · skip
          refine z_iload C 0 rfl dJ4_getEntry_57 ?_
          refine z_if_le C 70 dJ4_getEntry_59 (by decide) (fun c59 => ?_) (fun c59 => ?_)
          · skip
            refine z_aload_n C 4 rfl dJ4_getEntry_70 rfl ?_
            exact z_aret C hQ (some a4) rfl (Or.inl ⟨_, rfl⟩) ⟨rfl, Or.inl ⟨_, rfl, ma, zc_eq hz10 c46 c59⟩⟩ (by decide) (by decide) dJ4_getEntry_71
          · skip
            have hlt := zc_gt hz10 c59
            refine z_aload_n C 4 rfl dJ4_getEntry_62 rfl ?_
            refine z_get C k_E (hW.2 a4 ma) 3 (by decide) rfl q1037 dJ4_getEntry_63 ?_
            refine z_astore_nQ C (r := (rg a4)) [(3, va_rf (rg a4)), (4, .int r7), (0, .ref t), (1, .ref k), (2, .ref k)] dJ4_getEntry_66 rfl (by decide) rfl ?_
            refine z_goto C 72 dJ4_getEntry_67 (by decide) ?_
            refine z_goto C 28 dJ4_getEntry_72 (by decide) ?_
            refine z_pick [(0, .ref t), (1, .ref k), (2, .ref k), (3, va_rf (rg a4))] [2, 3, 4, 0] rfl ?_
            exact ih_lp (rg a4) (fun b h => ⟨(gS_goR hI hS ma ga hlt h).1, (gS_goR hI hS ma ga hlt h).2.1⟩) (fun h => ⟨_, gS_enR hI hS ma ga hlt h⟩) (Nat.lt_of_lt_of_le (oZ_lt (fun b h => (gS_goR hI hS ma ga hlt h).2.2)) (by omega))
        · skip
          have hlt := zc_lt hz10 c46
          refine z_aload_n C 4 rfl dJ4_getEntry_49 rfl ?_
          refine z_get C k_E (hW.2 a4 ma) 2 (by decide) rfl q1036 dJ4_getEntry_50 ?_
          refine z_astore_nQ C (r := (lf a4)) [(3, va_rf (lf a4)), (4, .int r7), (0, .ref t), (1, .ref k), (2, .ref k)] dJ4_getEntry_53 rfl (by decide) rfl ?_
          refine z_goto C 72 dJ4_getEntry_54 (by decide) ?_
          refine z_goto C 28 dJ4_getEntry_72 (by decide) ?_
          refine z_pick [(0, .ref t), (1, .ref k), (2, .ref k), (3, va_rf (lf a4))] [2, 3, 4, 0] rfl ?_
          exact ih_lp (lf a4) (fun b h => ⟨(gS_goL hI hS ma ga hlt h).1, (gS_goL hI hS ma ga hlt h).2.1⟩) (fun h => ⟨_, gS_enL hI hS ma ga hlt h⟩) (Nat.lt_of_lt_of_le (oZ_lt (fun b h => (gS_goL hI hS ma ga hlt h).2.2)) (by omega))
  exact lp _ rt (fun a h => ⟨(hI.2.1.1 a h).1, gS_0 hI h⟩) (fun h => ⟨0, gS_e hI h⟩) (Nat.lt_succ_self _)
set_option maxHeartbeats 4000000 in
set_option maxRecDepth 100000 in
theorem mJ4_get_S {l : Launch} {D : ZD} {V : ZV} {t : Nat} {L : List Nat} {C : List (Nat × Nat)} {mc : Int32} (hM : tM V t L C mc) {k : Nat} {fk : List Value} {kc : Nat → List Nat} {c : List Nat} (hk : V k = some (.inr (6, fk))) (hcmp : ∀ q ∈ C, ZM l D yX7_compareTo (ws_ yX7_compareTo cX7_compareTo 2 (some .int)) 2 0 0 eI V [.ref k, .ref q.1] (fun r V2 => V2 = V ∧ zCmp r c (kc q.1)) zno_x) (hS : tSo kc C) : ZM l D yJ4_get (ws_ yJ4_get cJ4_get 3 (some (.object "java/lang/Object"))) 4 0 0 eO V [.ref t, .ref k] (fun r V' => V' = V ∧ ((∃ q ∈ C, kc q.1 = c ∧ r = some q.2) ∨ (r = none ∧ ∀ q ∈ C, kc q.1 ≠ c))) zno_x := by
  obtain ⟨ky, vl, ⟨rt, lf, rg, pa, cl, ps, lo, hi, hI, hW⟩, rfl⟩ := hM
  refine z_enter (by decide +kernel) [(0, .ref t), (1, .ref k)] rfl (Nat.le_of_ble_eq_true rfl) (zcat_cons rfl (zcat_cons rfl zcat_nil)) (fun Γ C hQ => ?_)
  refine z_aload_n C 0 rfl dJ4_get_0 rfl ?_
  refine z_aload_n C 1 rfl dJ4_get_1 rfl ?_
  refine z_callV C k_TM hW.1 (As := [.ref k]) (mJ4_getEntry_S hW hI hk (fun a ha => hcmp (tG ky vl a) (List.mem_map.mpr ⟨a, ha, rfl⟩)) (tSo.up hS hI)) (lw_V q622 q623 q624 q64 q625) rfl hd_J4_getEntry rfl (Nat.le_of_ble_eq_true rfl) (by decide) (by decide) (by decide) (by decide) rfl dJ4_get_2 (fun _ _ h => h.elim) (fun r1 V2 hP3 => ?_)
  obtain ⟨hv9, hc9⟩ := hP3
  rw [hv9]
  refine z_st (st' := [va_rf r1]) rfl ?_
  refine z_astore_nQ C (r := r1) [(2, va_rf r1), (0, .ref t), (1, .ref k)] dJ4_get_5 rfl (by decide) rfl ?_
  refine z_aload_nQ C 0 (r := r1) rfl dJ4_get_6 rfl ?_
  refine z_ifnonnullQ C 14 dJ4_get_7 (by decide) (fun a4 hs6 => ?_) (fun hn5 => ?_)
  · skip
    refine z_lv (lv' := [(2, .ref a4), (0, .ref t), (1, .ref k)]) (by rw [hs6]; rfl) ?_
    have hx : a4 ∈ L ∧ kc (ky a4) = c := by
      rcases hc9 with ⟨b, hb, hm, he⟩ | ⟨hb, _⟩
      · rw [hs6] at hb; cases hb; exact ⟨hm, he⟩
      · rw [hs6] at hb; cases hb
    refine z_aload_n C 0 rfl dJ4_get_14 rfl ?_
    refine z_get C k_E (hW.2 a4 hx.1) 1 (by decide) rfl q1035 dJ4_get_15 ?_
    exact z_aret C hQ (some (vl a4)) rfl (Or.inl ⟨_, rfl⟩) ⟨rfl, Or.inl ⟨tG ky vl a4, List.mem_map.mpr ⟨_, hx.1, rfl⟩, hx.2, rfl⟩⟩ (by decide) (by decide) dJ4_get_18
  · skip
    refine z_lv (lv' := [(2, .null), (0, .ref t), (1, .ref k)]) (by rw [hn5]; rfl) ?_
    refine z_null C dJ4_get_10 ?_
    refine z_goto C 18 dJ4_get_11 (by decide) ?_
    exact z_aretN C hQ none rfl (Or.inl ⟨_, rfl⟩) ⟨rfl, Or.inr ⟨rfl, (fun q hq => by obtain ⟨a, ha, rfl⟩ := List.mem_map.mp hq; rcases hc9 with ⟨b, hb, hm, he⟩ | ⟨_, h⟩; rw [hn5] at hb; cases hb; exact h a ha)⟩⟩ (by decide) (by decide) dJ4_get_18
set_option maxHeartbeats 4000000 in
set_option maxRecDepth 100000 in
theorem mJ4_containsKey_S {l : Launch} {D : ZD} {V : ZV} {t : Nat} {L : List Nat} {C : List (Nat × Nat)} {mc : Int32} (hM : tM V t L C mc) {k : Nat} {fk : List Value} {kc : Nat → List Nat} {c : List Nat} (hk : V k = some (.inr (6, fk))) (hcmp : ∀ q ∈ C, ZM l D yX7_compareTo (ws_ yX7_compareTo cX7_compareTo 2 (some .int)) 2 0 0 eI V [.ref k, .ref q.1] (fun r V2 => V2 = V ∧ zCmp r c (kc q.1)) zno_x) (hS : tSo kc C) : ZM l D yJ4_containsKey (ws_ yJ4_containsKey cJ4_containsKey 2 (some .boolean)) 4 0 0 eB V [.ref t, .ref k] (fun r V' => V' = V ∧ ((r = true ∧ ∃ q ∈ C, kc q.1 = c) ∨ (r = false ∧ ∀ q ∈ C, kc q.1 ≠ c))) zno_x := by
  obtain ⟨ky, vl, ⟨rt, lf, rg, pa, cl, ps, lo, hi, hI, hW⟩, rfl⟩ := hM
  refine z_enter (by decide +kernel) [(0, .ref t), (1, .ref k)] rfl (Nat.le_of_ble_eq_true rfl) (zcat_cons rfl (zcat_cons rfl zcat_nil)) (fun Γ C hQ => ?_)
  refine z_aload_n C 0 rfl dJ4_containsKey_0 rfl ?_
  refine z_aload_n C 1 rfl dJ4_containsKey_1 rfl ?_
  refine z_callV C k_TM hW.1 (As := [.ref k]) (mJ4_getEntry_S hW hI hk (fun a ha => hcmp (tG ky vl a) (List.mem_map.mpr ⟨a, ha, rfl⟩)) (tSo.up hS hI)) (lw_V q622 q623 q624 q64 q625) rfl hd_J4_getEntry rfl (Nat.le_of_ble_eq_true rfl) (by decide) (by decide) (by decide) (by decide) rfl dJ4_containsKey_2 (fun _ _ h => h.elim) (fun r1 V2 hP3 => ?_)
  obtain ⟨hv9, hc9⟩ := hP3
  rw [hv9]
  refine z_st (st' := [va_rf r1]) rfl ?_
  refine z_ifnullQ C 12 dJ4_containsKey_5 (by decide) (fun hn5 => ?_) (fun a4 hs6 => ?_)
  · skip
    refine z_iconst C (v := (nI 0)) dJ4_containsKey_12 rfl ?_
    exact z_zret C hQ false rfl rfl ⟨rfl, Or.inr ⟨rfl, (fun q hq => by obtain ⟨a, ha, rfl⟩ := List.mem_map.mp hq; rcases hc9 with ⟨b, hb, hm, he⟩ | ⟨_, h⟩; rw [hn5] at hb; cases hb; exact h a ha)⟩⟩ (by decide) (by decide) dJ4_containsKey_13
  · skip
    have hx : a4 ∈ L ∧ kc (ky a4) = c := by
      rcases hc9 with ⟨b, hb, hm, he⟩ | ⟨hb, _⟩
      · rw [hs6] at hb; cases hb; exact ⟨hm, he⟩
      · rw [hs6] at hb; cases hb
    refine z_iconst C (v := (nI 1)) dJ4_containsKey_8 rfl ?_
    refine z_goto C 13 dJ4_containsKey_9 (by decide) ?_
    exact z_zret C hQ true rfl rfl ⟨rfl, Or.inl ⟨rfl, tG ky vl a4, List.mem_map.mpr ⟨_, hx.1, rfl⟩, hx.2⟩⟩ (by decide) (by decide) dJ4_containsKey_13
set_option maxHeartbeats 4000000 in
set_option maxRecDepth 100000 in
theorem mJ4_remove_S {l : Launch} {D : ZD} {V : ZV} {t : Nat} {L : List Nat} {C : List (Nat × Nat)} {mc : Int32} (hM : tM V t L C mc) {k : Nat} {fk : List Value} {kc : Nat → List Nat} {c : List Nat} (hk : V k = some (.inr (6, fk))) (hcmp : ∀ q ∈ C, ZM l D yX7_compareTo (ws_ yX7_compareTo cX7_compareTo 2 (some .int)) 2 0 0 eI V [.ref k, .ref q.1] (fun r V2 => V2 = V ∧ zCmp r c (kc q.1)) zno_x) (hS : tSo kc C) : ZM l D yJ4_remove (ws_ yJ4_remove cJ4_remove 4 (some (.object "java/lang/Object"))) 4 0 0 eO V [.ref t, .ref k] (fun r V' => (∃ j q L2, C[j]? = some q ∧ kc q.1 = c ∧ r = some q.2 ∧ tM V' t L2 (cD C j) (mc + nI 1) ∧ (∀ a ∈ L2, a ∈ L) ∧ zUnc V V' (tC t L)) ∨ (r = none ∧ V' = V ∧ ∀ q ∈ C, kc q.1 ≠ c)) zno_x := by
  obtain ⟨ky, vl, ⟨rt, lf, rg, pa, cl, ps, lo, hi, hI, hW⟩, rfl⟩ := hM
  refine z_enter (by decide +kernel) [(0, .ref t), (1, .ref k)] rfl (Nat.le_of_ble_eq_true rfl) (zcat_cons rfl (zcat_cons rfl zcat_nil)) (fun Γ C hQ => ?_)
  refine z_aload_n C 0 rfl dJ4_remove_0 rfl ?_
  refine z_aload_n C 1 rfl dJ4_remove_1 rfl ?_
  refine z_callV C k_TM hW.1 (As := [.ref k]) (mJ4_getEntry_S hW hI hk (fun a ha => hcmp (tG ky vl a) (List.mem_map.mpr ⟨a, ha, rfl⟩)) (tSo.up hS hI)) (lw_V q622 q623 q624 q64 q625) rfl hd_J4_getEntry rfl (Nat.le_of_ble_eq_true rfl) (by decide) (by decide) (by decide) (by decide) rfl dJ4_remove_2 (fun _ _ h => h.elim) (fun r1 V2 hP3 => ?_)
  obtain ⟨hv9, hc9⟩ := hP3
  rw [hv9]
  refine z_st (st' := [va_rf r1]) rfl ?_
  refine z_astore_nQ C (r := r1) [(2, va_rf r1), (0, .ref t), (1, .ref k)] dJ4_remove_5 rfl (by decide) rfl ?_
  refine z_aload_nQ C 0 (r := r1) rfl dJ4_remove_6 rfl ?_
  refine z_ifnonnullQ C 12 dJ4_remove_7 (by decide) (fun a4 hs6 => ?_) (fun hn5 => ?_)
  · skip
    refine z_lv (lv' := [(2, .ref a4), (0, .ref t), (1, .ref k)]) (by rw [hs6]; rfl) ?_
    have hx : a4 ∈ L ∧ kc (ky a4) = c := by
      rcases hc9 with ⟨b, hb, hm, he⟩ | ⟨hb, _⟩
      · rw [hs6] at hb; cases hb; exact ⟨hm, he⟩
      · rw [hs6] at hb; cases hb
    refine z_aload_n C 0 rfl dJ4_remove_12 rfl ?_
    refine z_get C k_E (hW.2 a4 hx.1) 1 (by decide) rfl q1035 dJ4_remove_13 ?_
    refine z_astore_n C [(3, .ref (vl a4)), (2, .ref a4), (0, .ref t), (1, .ref k)] dJ4_remove_16 rfl (by decide) rfl ?_
    refine z_aload_n C 2 rfl dJ4_remove_17 rfl ?_
    refine z_aload_n C 1 rfl dJ4_remove_18 rfl ?_
    refine z_callV C k_TM hW.1 (As := [.ref a4]) (mJ4_deleteEntry hW hI hx.1 rfl) (lw_V q692 q694 qs6 q64 q695) rfl hd_J4_deleteEntry rfl (Nat.le_of_ble_eq_true rfl) (by decide) (by decide) (by decide) (by decide) rfl dJ4_remove_19 (fun _ _ h => h.elim) (fun r7 V8 hP9 => ?_)
    obtain ⟨L2, hM2, hs2, hU2⟩ := hP9
    refine z_st (st' := []) rfl ?_
    refine z_aload_n C 0 rfl dJ4_remove_22 rfl ?_
    exact z_aret C hQ (some (vl a4)) rfl (Or.inl ⟨_, rfl⟩) (Or.inl ⟨ps a4, (ky a4, vl a4), L2, tG_at hI hx.1, hx.2, rfl, hM2, hs2, hU2⟩) (by decide) (by decide) dJ4_remove_23
  · skip
    refine z_lv (lv' := [(2, .null), (0, .ref t), (1, .ref k)]) (by rw [hn5]; rfl) ?_
    refine z_null C dJ4_remove_10 ?_
    exact z_aretN C hQ none rfl (Or.inl ⟨_, rfl⟩) (Or.inr ⟨rfl, rfl, (fun q hq => by obtain ⟨a, ha, rfl⟩ := List.mem_map.mp hq; rcases hc9 with ⟨b, hb, hm, he⟩ | ⟨_, h⟩; rw [hn5] at hb; cases hb; exact h a ha)⟩) (by decide) (by decide) dJ4_remove_11
set_option maxHeartbeats 4000000 in
set_option maxRecDepth 100000 in
theorem mJ4_compare_S {l : Launch} {D : ZD} {V : ZV} {t k : Nat} {fk : List Value} {c : List Nat} {x0 x1 x3 x4 x5 x6 x7 x8 : Value} (ht : V t = some (.inr (9, [x0, x1, .null, x3, x4, x5, x6, x7, x8]))) (hk : V k = some (.inr (6, fk))) (hc0 : ZM l D yX7_compareTo (ws_ yX7_compareTo cX7_compareTo 2 (some .int)) 2 0 0 eI V [.ref k, .ref k] (fun r V2 => V2 = V ∧ zCmp r c c) zno_x) : ZM l D yJ4_compare (ws_ yJ4_compare cJ4_compare 3 (some .int)) 3 0 0 eI V [.ref t, .ref k, .ref k] (fun r V' => V' = V) zno_x := by
  refine z_enter (by decide +kernel) [(0, .ref t), (1, .ref k), (2, .ref k)] rfl (Nat.le_of_ble_eq_true rfl) (zcat_cons rfl (zcat_cons rfl (zcat_cons rfl zcat_nil))) (fun Γ C hQ => ?_)
  refine z_aload_n C 0 rfl dJ4_compare_0 rfl ?_
  refine z_get C k_TM ht 2 (by decide) rfl q161 dJ4_compare_1 ?_
  refine z_ifnonnull_n C dJ4_compare_4 ?_
  refine z_aload_n C 1 rfl dJ4_compare_7 rfl ?_
  refine z_ccast C k_S hk q651 (Or.inr q656) dJ4_compare_8 ?_
  refine z_aload_n C 2 rfl dJ4_compare_11 rfl ?_
  refine z_callF C k_S hk (As := [.ref k]) (hc0) (lw_app (lw_in _ [653, 657, 659, 91] (by decide +kernel) (by decide +kernel)) (lw_meth q661)) zf_7 hdi_Comparable_compareTo rfl (Nat.le_of_ble_eq_true rfl) (by decide) (by decide) (by decide) (by decide) rfl dJ4_compare_12 (fun _ _ h => h.elim) (fun r1 V2 hP3 => ?_)
  obtain ⟨hv5, hz4⟩ := hP3
  rw [hv5]
  refine z_st (st' := [.int r1]) rfl ?_
  refine z_goto C 31 dJ4_compare_17 (by decide) ?_
  exact z_iret C hQ r1 rfl rfl (by decide) (by decide) dJ4_compare_31
set_option maxHeartbeats 4000000 in
set_option maxRecDepth 100000 in
theorem mJ4_addEntryToEmptyMap_S {l : Launch} {D : ZD} {V : ZV} {t k v : Nat} {fk : List Value} {c : List Nat} {mc : Int32} (ht : V t = some (.inr (9, [.null, .null, .null, .null, .int (nI 0), .int mc, .null, .null, .null]))) (hk : V k = some (.inr (6, fk))) (hc0 : ZM l D yX7_compareTo (ws_ yX7_compareTo cX7_compareTo 2 (some .int)) 2 0 0 eI V [.ref k, .ref k] (fun r V2 => V2 = V ∧ zCmp r c c) zno_x) : ZM l D yJ4_addEntryToEmptyMap (ws_ yJ4_addEntryToEmptyMap cJ4_addEntryToEmptyMap 3 none) 4 1 6 eU V [.ref t, .ref k, .ref v] (fun r V' => ∃ e, V e = none ∧ tN V' t [e] (fun _ => k) (fun _ => v) 1 (mc + nI 1) ∧ zUnc V V' (fun a => a = t)) zno_x := by
  refine z_enter (by decide +kernel) [(0, .ref t), (1, .ref k), (2, .ref v)] rfl (Nat.le_of_ble_eq_true rfl) (zcat_cons rfl (zcat_cons rfl (zcat_cons rfl zcat_nil))) (fun Γ C hQ => ?_)
  have hU1 : zUnc V V (fun z_ => z_ = t) := zUnc.rf
  refine z_aload_n C 0 rfl dJ4_addEntryToEmptyMap_0 rfl ?_
  refine z_aload_n C 1 rfl dJ4_addEntryToEmptyMap_1 rfl ?_
  refine z_aload_n C 1 rfl dJ4_addEntryToEmptyMap_2 rfl ?_
  refine z_callV C k_TM ht (As := [.ref k, .ref k]) (mJ4_compare_S ht hk hc0) (lw_V q1022 q1023 q1024 q64 q1025) rfl hd_J4_compare rfl (Nat.le_of_ble_eq_true rfl) (by decide) (by decide) (by decide) (by decide) rfl dJ4_addEntryToEmptyMap_3 (fun _ _ h => h.elim) (fun r2 V3 hP4 => ?_)
  rw [hP4]
  refine z_st (st' := [.int r2]) rfl ?_
  refine z_pop C dJ4_addEntryToEmptyMap_6 rfl ?_
  refine z_aload_n C 0 rfl dJ4_addEntryToEmptyMap_7 rfl ?_
  refine z_new C k_E q1026 q1027 q90 [.null, .null, .null, .null, .null, .int (nI 0)] k0_E (by decide) (by decide) dJ4_addEntryToEmptyMap_8 (fun q5 hq6 => z_nV (fun V7 hV8 => ?_))
  have hf10 := zUnc.none hU1 (fun e => zne_new ht hq6 e.symm) hq6
  have hU9 := zUnc.new hU1 hV8 hq6
  have g11 := zup hV8 (zne_new ht hq6) ht
  have g12 := zup hV8 (zne_new hk hq6) hk
  have g13 : V7 q5 = some (.inr (12, [.null, .null, .null, .null, .null, .int (nI 0)])) := zself hV8
  refine z_dup C dJ4_addEntryToEmptyMap_11 rfl ?_
  refine z_aload_n C 1 rfl dJ4_addEntryToEmptyMap_12 rfl ?_
  refine z_aload_n C 2 rfl dJ4_addEntryToEmptyMap_13 rfl ?_
  refine z_null C dJ4_addEntryToEmptyMap_14 ?_
  refine z_callI C (rt := none) (As := [.ref k, .ref v, .null]) (mJ24_init (o := none) g13) q1030 q90 q1028 q1029 rfl hd_J24_init rfl (Nat.le_of_ble_eq_true rfl) (by decide) (by decide) (by decide) (by decide) rfl dJ4_addEntryToEmptyMap_15 (fun _ _ h => h.elim) (fun r14 V15 hP16 => ?_)
  obtain ⟨he1, heu⟩ := hP16
  refine z_st (st' := [.ref q5, .ref t]) rfl ?_
  have hU17 := zUnc.tr (S := (fun z_ => z_ = t)) hU9 heu (fun a h => Or.inr (by rw [show a = q5 from h]; exact hf10))
  have g18 := zUnc.get heu (fun e => (zne_cc g11 g13 (by decide)) e) g11
  have g19 := zUnc.get heu (fun e => (zne_cc g12 g13 (by decide)) e) g12
  refine z_put C k_TM g18 3 (by decide) [.null, .null, .null, .ref q5, .int (nI 0), .int mc, .null, .null, .null] rfl (Nat.le_of_ble_eq_true rfl) rfl rfl rfl q162 dJ4_addEntryToEmptyMap_18 (z_nV (fun V20 hV21 => ?_))
  have hU22 := zUnc.up (S := (fun z_ => z_ = t)) hU17 hV21 rfl
  have g23 := zup hV21 (zne_cc g19 g18 (by decide)) g19
  have g24 := zup hV21 (zne_cc he1 g18 (by decide)) he1
  have g25 : V20 t = some (.inr (9, [.null, .null, .null, .ref q5, .int (nI 0), .int mc, .null, .null, .null])) := zself hV21
  refine z_aload_n C 0 rfl dJ4_addEntryToEmptyMap_21 rfl ?_
  refine z_iconst C (v := (nI 1)) dJ4_addEntryToEmptyMap_22 rfl ?_
  refine z_put C k_TM g25 4 (by decide) [.null, .null, .null, .ref q5, .int (nI 1), .int mc, .null, .null, .null] rfl (Nat.le_of_ble_eq_true rfl) rfl rfl rfl q163 dJ4_addEntryToEmptyMap_23 (z_nV (fun V26 hV27 => ?_))
  have hU28 := zUnc.up (S := (fun z_ => z_ = t)) hU22 hV27 rfl
  have g29 := zup hV27 (zne_cc g23 g25 (by decide)) g23
  have g30 := zup hV27 (zne_cc g24 g25 (by decide)) g24
  have g31 : V26 t = some (.inr (9, [.null, .null, .null, .ref q5, .int (nI 1), .int mc, .null, .null, .null])) := zself hV27
  refine z_aload_n C 0 rfl dJ4_addEntryToEmptyMap_26 rfl ?_
  refine z_dup C dJ4_addEntryToEmptyMap_27 rfl ?_
  refine z_get C k_TM g31 5 (by decide) rfl q164 dJ4_addEntryToEmptyMap_28 ?_
  refine z_iconst C (v := (nI 1)) dJ4_addEntryToEmptyMap_31 rfl ?_
  refine z_iadd C dJ4_addEntryToEmptyMap_32 ?_
  refine z_put C k_TM g31 5 (by decide) [.null, .null, .null, .ref q5, .int (nI 1), .int (mc + (nI 1)), .null, .null, .null] rfl (Nat.le_of_ble_eq_true rfl) rfl rfl rfl q164 dJ4_addEntryToEmptyMap_33 (z_nV (fun V32 hV33 => ?_))
  have hU34 := zUnc.up (S := (fun z_ => z_ = t)) hU28 hV33 rfl
  have g35 := zup hV33 (zne_cc g29 g31 (by decide)) g29
  have g36 := zup hV33 (zne_cc g30 g31 (by decide)) g30
  have g37 : V32 t = some (.inr (9, [.null, .null, .null, .ref q5, .int (nI 1), .int (mc + (nI 1)), .null, .null, .null])) := zself hV33
  exact z_vret C hQ () rfl ⟨q5, hf10, ⟨_, _, _, _, _, _, _, _, tI_one q5, tW.one q5 k v g37 g36⟩, hU34⟩ (by decide) (by decide) dJ4_addEntryToEmptyMap_36
set_option maxHeartbeats 4000000 in
set_option maxRecDepth 100000 in
theorem mJ4_put_2_S {l : Launch} {D : ZD} {V : ZV} {t : Nat} {L : List Nat} {C : List (Nat × Nat)} {mc : Int32} (hM : tM V t L C mc) {k : Nat} {fk : List Value} {kc : Nat → List Nat} {c : List Nat} (hk : V k = some (.inr (6, fk))) (hcmp : ∀ q ∈ C, ZM l D yX7_compareTo (ws_ yX7_compareTo cX7_compareTo 2 (some .int)) 2 0 0 eI V [.ref k, .ref q.1] (fun r V2 => V2 = V ∧ zCmp r c (kc q.1)) zno_x) (hS : tSo kc C) (hc0 : ZM l D yX7_compareTo (ws_ yX7_compareTo cX7_compareTo 2 (some .int)) 2 0 0 eI V [.ref k, .ref k] (fun r V2 => V2 = V ∧ zCmp r c c) zno_x) {v : Nat} : ZM l D yJ4_put_2 (ws_ yJ4_put_2 cJ4_put_2 10 (some (.object "java/lang/Object"))) 5 1 6 eO V [.ref t, .ref k, .ref v, .int (nI 1)] (fun r V' => (∃ j q, C[j]? = some q ∧ kc q.1 = c ∧ r = some q.2 ∧ tM V' t L (C.set j (q.1, v)) mc ∧ zUnc V V' (tC t L)) ∨ (r = none ∧ ∃ e j, V e = none ∧ j ≤ C.length ∧ tM V' t (lI L j e) (cI C j (k, v)) (mc + nI 1) ∧ (∀ (i : Nat) (q : Nat × Nat), C[i]? = some q → (i < j → lexL (kc q.1) c) ∧ (j ≤ i → lexL c (kc q.1))) ∧ zUnc V V' (tC t L))) zno_x := by
  obtain ⟨ky, vl, ⟨rt, lf, rg, pa, cl, ps, lo, hi, hI, hW⟩, rfl⟩ := hM
  refine z_enter (by decide +kernel) [(0, .ref t), (1, .ref k), (2, .ref v), (3, .int (nI 1))] rfl (Nat.le_of_ble_eq_true rfl) (zcat_cons rfl (zcat_cons rfl (zcat_cons rfl (zcat_cons rfl zcat_nil)))) (fun Γ C hQ => ?_)
  have hU0 : zUnc V V (tC t L) := zUnc.rf
  refine z_aload_n C 0 rfl dJ4_put_2_0 rfl ?_
  refine z_get C k_TM hW.1 3 (by decide) rfl q162 dJ4_put_2_1 ?_
  refine z_astoreQ C (r := rt) [(4, va_rf rt), (0, .ref t), (1, .ref k), (2, .ref v), (3, .int (nI 1))] dJ4_put_2_4 (by decide) rfl ?_
  refine z_aloadQ C 0 (r := rt) rfl dJ4_put_2_6 ?_
  refine z_ifnonnullQ C 19 dJ4_put_2_8 (by decide) (fun a1 hs3 => ?_) (fun hn2 => ?_)
  · skip
    obtain ⟨hm4, hp5, -, -⟩ := hI.2.1.1 a1 hs3
    refine z_lv (lv' := [(4, .ref a1), (0, .ref t), (1, .ref k), (2, .ref v), (3, .int (nI 1))]) (by rw [hs3]; rfl) ?_
    refine z_aload_n C 1 rfl dJ4_put_2_19 rfl ?_
    refine z_get C k_TM hW.1 2 (by decide) rfl q161 dJ4_put_2_20 ?_
    refine z_astoreQ C (r := none) [(7, .null), (4, .ref a1), (0, .ref t), (1, .ref k), (2, .ref v), (3, .int (nI 1))] dJ4_put_2_23 (by decide) rfl ?_
    refine z_aloadQ C 0 (r := none) rfl dJ4_put_2_25 ?_
    refine z_ifnull_n C 112 dJ4_put_2_27 (by decide) ?_
    refine z_aload_n C 3 rfl dJ4_put_2_112 rfl ?_
    refine z_callS C (As := [.ref k]) (mJ17_requireNonNull) (lw_S q648 q649 q79 q650) hd_J17_requireNonNull rfl (Nat.le_of_ble_eq_true rfl) (by decide) (by decide) (by decide) (by decide) rfl dJ4_put_2_113 (fun _ _ h => h.elim) (fun r6 V7 hP8 => ?_)
    rw [hP8.1, hP8.2]
    refine z_st (st' := [.ref k]) rfl ?_
    refine z_pop C dJ4_put_2_116 rfl ?_
    refine z_aload_n C 3 rfl dJ4_put_2_117 rfl ?_
    refine z_ccast C k_S hk q651 (Or.inr q656) dJ4_put_2_118 ?_
    refine z_astore C [(8, .ref k), (7, .null), (4, .ref a1), (0, .ref t), (1, .ref k), (2, .ref v), (3, .int (nI 1))] dJ4_put_2_121 (by decide) rfl ?_
    refine z_pick [(0, .ref t), (1, .ref k), (2, .ref v), (3, .int (nI 1)), (4, .ref a1), (8, .ref k)] [3, 4, 5, 6, 2, 0] rfl ?_
    have lp : ∀ (n_lp : Nat) (a : Nat), a ∈ L → gS L ps (fun a => kc (ky a)) c (lo a) (hi a) → hi a - lo a < n_lp → ZW l D Γ (zr 5 1 6) 123 [(0, .ref t), (1, .ref k), (2, .ref v), (3, .int (nI 1)), (4, .ref a), (8, .ref k)] [] V (0 + 0) (0 + 0) := by
      intro n_lp
      induction n_lp with
      | zero => intro a _ _ hm; exact absurd hm (Nat.not_lt_zero _)
      | succ n_lp ih_lp =>
        intro a hlp_0 hlp_1 hm
        refine z_aload C 4 rfl dJ4_put_2_123 ?_
        refine z_astore C [(6, .ref a), (0, .ref t), (1, .ref k), (2, .ref v), (3, .int (nI 1)), (4, .ref a), (8, .ref k)] dJ4_put_2_125 (by decide) rfl ?_
        refine z_aload C 6 rfl dJ4_put_2_127 ?_
        refine z_aload C 5 rfl dJ4_put_2_129 ?_
        refine z_get C k_E (hW.2 a hlp_0) 0 (by decide) rfl q1033 dJ4_put_2_131 ?_
        refine z_callF C k_S hk (As := [.ref (ky a)]) (hcmp (tG ky vl a) (List.mem_map.mpr ⟨_, hlp_0, rfl⟩)) (lw_app (lw_in _ [653, 657, 659, 91] (by decide +kernel) (by decide +kernel)) (lw_meth q661)) zf_7 hdi_Comparable_compareTo rfl (Nat.le_of_ble_eq_true rfl) (by decide) (by decide) (by decide) (by decide) rfl dJ4_put_2_134 (fun _ _ h => h.elim) (fun r9 V10 hP11 => ?_)
        obtain ⟨hv13, hz12⟩ := hP11
        rw [hv13]
        refine z_st (st' := [.int r9]) rfl ?_
        refine z_istore C [(5, .int r9), (6, .ref a), (0, .ref t), (1, .ref k), (2, .ref v), (3, .int (nI 1)), (4, .ref a), (8, .ref k)] dJ4_put_2_139 (by decide) rfl ?_
        refine z_iload C 0 rfl dJ4_put_2_141 ?_
        refine z_if_ge C 156 dJ4_put_2_143 (by decide) (fun c143 => ?_) (fun c143 => ?_)
        · skip
          refine z_iload C 0 rfl dJ4_put_2_156 ?_
          refine z_if_le C 171 dJ4_put_2_158 (by decide) (fun c158 => ?_) (fun c158 => ?_)
          · skip
            refine z_aload C 6 rfl dJ4_put_2_171 ?_
            refine z_get C k_E (hW.2 a hlp_0) 1 (by decide) rfl q1035 dJ4_put_2_173 ?_
            refine z_astore C [(9, .ref (vl a)), (5, .int r9), (6, .ref a), (0, .ref t), (1, .ref k), (2, .ref v), (3, .int (nI 1)), (4, .ref a), (8, .ref k)] dJ4_put_2_176 (by decide) rfl ?_
            refine z_iload_n C 6 rfl dJ4_put_2_178 rfl ?_
            refine z_if_neN C 187 (by omega) dJ4_put_2_179 (by decide) (fun c179 => ?_) (fun c179 => ?_)
            · skip
              refine z_aload C 7 rfl dJ4_put_2_187 ?_
              refine z_aload_n C 5 rfl dJ4_put_2_189 rfl ?_
              refine z_put C k_E (hW.2 a hlp_0) 1 (by decide) [.ref (ky a), .ref v, va_rf (lf a), va_rf (rg a), va_rf (pa a), .int (zb (cl a))] rfl (Nat.le_of_ble_eq_true rfl) rfl rfl rfl q1035 dJ4_put_2_190 (z_nV (fun V14 hV15 => ?_))
              have hW16 := tW.uvl hW hlp_0 v hV15
              have hU17 := zUnc.up (S := tC t L) hU0 hV15 (Or.inr hlp_0)
              have g18 := zup hV15 (zne_cc hk (hW.2 a hlp_0) (by decide)) hk
              refine z_aload C 0 rfl dJ4_put_2_193 ?_
              exact z_aret C hQ (some (vl a)) rfl (Or.inl ⟨_, rfl⟩) (Or.inl ⟨ps a, (ky a, vl a), tG_at hI hlp_0, (zc_eq hz12 c143 c158), rfl, ⟨_, _, ⟨_, _, _, _, _, _, _, _, hI, hW16⟩, (tSet hI hlp_0).symm⟩, hU17⟩) (by decide) (by decide) dJ4_put_2_195
            · skip
              exfalso; omega
          · skip
            have hlt := zc_gt hz12 c158
            refine z_aload C 6 rfl dJ4_put_2_161 ?_
            refine z_get C k_E (hW.2 a hlp_0) 3 (by decide) rfl q1037 dJ4_put_2_163 ?_
            refine z_astoreQ C (r := (rg a)) [(4, va_rf (rg a)), (5, .int r9), (6, .ref a), (0, .ref t), (1, .ref k), (2, .ref v), (3, .int (nI 1)), (8, .ref k)] dJ4_put_2_166 (by decide) rfl ?_
            refine z_goto C 196 dJ4_put_2_168 (by decide) ?_
            refine z_aloadQ C 0 (r := (rg a)) rfl dJ4_put_2_196 ?_
            refine z_ifnonnullQ C 123 dJ4_put_2_198 (by decide) (fun a19 hs21 => ?_) (fun hn20 => ?_)
            · skip
              obtain ⟨hm22, hp23, nx24⟩ := hI.mr hlp_0 hs21
              refine z_lv (lv' := [(4, .ref a19), (5, .int r9), (6, .ref a), (0, .ref t), (1, .ref k), (2, .ref v), (3, .int (nI 1)), (8, .ref k)]) (by rw [hs21]; rfl) ?_
              refine z_pick [(0, .ref t), (1, .ref k), (2, .ref v), (3, .int (nI 1)), (4, .ref a19), (8, .ref k)] [3, 4, 5, 6, 0, 7] rfl ?_
              obtain ⟨q1, q2, q3⟩ := gS_goR hI (tSo.up hS hI) hlp_0 hlp_1 hlt hs21
              exact ih_lp a19 q1 q2 (by omega)
            · skip
              refine z_lv (lv' := [(4, .null), (5, .int r9), (6, .ref a), (0, .ref t), (1, .ref k), (2, .ref v), (3, .int (nI 1)), (8, .ref k)]) (by rw [hn20]; rfl) ?_
              refine z_aload_n C 3 rfl dJ4_put_2_201 rfl ?_
              refine z_aload_n C 4 rfl dJ4_put_2_202 rfl ?_
              refine z_aload_n C 5 rfl dJ4_put_2_203 rfl ?_
              refine z_aload C 2 rfl dJ4_put_2_204 ?_
              refine z_iload C 1 rfl dJ4_put_2_206 ?_
              refine z_if_ge C 215 dJ4_put_2_208 (by decide) (fun c208 => ?_) (fun c208 => ?_)
              · skip
                refine z_iconst C (v := (nI 0)) dJ4_put_2_215 rfl ?_
                refine z_st (st' := [.int (zb false), .ref a, .ref v, .ref k, .ref t]) rfl ?_
                have hg := gS_enR hI (tSo.up hS hI) hlp_0 hlp_1 hlt hn20
                refine z_callV C k_TM hW.1 (As := [.ref k, .ref v, .ref a, .int (zb false)]) (mJ4_addEntry hW hI hlp_0 (Or.inr ⟨rfl, hn20⟩)) (lw_V q1055 q1057 qs18 q64 q1058) rfl hd_J4_addEntry rfl (Nat.le_of_ble_eq_true rfl) (by decide) (by decide) (by decide) (by decide) rfl dJ4_put_2_216 (fun _ _ h => h.elim) (fun r25 V26 hP27 => ?_)
                obtain ⟨e, he, hN, hU⟩ := hP27
                refine z_st (st' := []) rfl ?_
                have hne : e ∉ L := fun z => by have := hW.2 e z; rw [he] at this; cases this
                have hjl : (ps a + 1) ≤ L.length := by have := hI.m hlp_0; omega
                rw [if_neg (by decide)] at hN
                refine z_null C dJ4_put_2_219 ?_
                exact z_aretN C hQ none rfl (Or.inl ⟨_, rfl⟩) (Or.inr ⟨rfl, e, (ps a + 1), he, by rw [List.length_map]; exact hjl, ⟨_, _, by rw [lI_len hjl]; exact hN, (cI_map hne).symm⟩, gS.C hg hI, hU⟩) (by decide) (by decide) dJ4_put_2_220
              · skip
                exact absurd c143 c208
        · skip
          have hlt := zc_lt hz12 c143
          refine z_aload C 6 rfl dJ4_put_2_146 ?_
          refine z_get C k_E (hW.2 a hlp_0) 2 (by decide) rfl q1036 dJ4_put_2_148 ?_
          refine z_astoreQ C (r := (lf a)) [(4, va_rf (lf a)), (5, .int r9), (6, .ref a), (0, .ref t), (1, .ref k), (2, .ref v), (3, .int (nI 1)), (8, .ref k)] dJ4_put_2_151 (by decide) rfl ?_
          refine z_goto C 196 dJ4_put_2_153 (by decide) ?_
          refine z_aloadQ C 0 (r := (lf a)) rfl dJ4_put_2_196 ?_
          refine z_ifnonnullQ C 123 dJ4_put_2_198 (by decide) (fun a28 hs30 => ?_) (fun hn29 => ?_)
          · skip
            obtain ⟨hm31, hp32, nx33⟩ := hI.ml hlp_0 hs30
            refine z_lv (lv' := [(4, .ref a28), (5, .int r9), (6, .ref a), (0, .ref t), (1, .ref k), (2, .ref v), (3, .int (nI 1)), (8, .ref k)]) (by rw [hs30]; rfl) ?_
            refine z_pick [(0, .ref t), (1, .ref k), (2, .ref v), (3, .int (nI 1)), (4, .ref a28), (8, .ref k)] [3, 4, 5, 6, 0, 7] rfl ?_
            obtain ⟨q1, q2, q3⟩ := gS_goL hI (tSo.up hS hI) hlp_0 hlp_1 hlt hs30
            exact ih_lp a28 q1 q2 (by omega)
          · skip
            refine z_lv (lv' := [(4, .null), (5, .int r9), (6, .ref a), (0, .ref t), (1, .ref k), (2, .ref v), (3, .int (nI 1)), (8, .ref k)]) (by rw [hn29]; rfl) ?_
            refine z_aload_n C 3 rfl dJ4_put_2_201 rfl ?_
            refine z_aload_n C 4 rfl dJ4_put_2_202 rfl ?_
            refine z_aload_n C 5 rfl dJ4_put_2_203 rfl ?_
            refine z_aload C 2 rfl dJ4_put_2_204 ?_
            refine z_iload C 1 rfl dJ4_put_2_206 ?_
            refine z_if_ge C 215 dJ4_put_2_208 (by decide) (fun c208 => ?_) (fun c208 => ?_)
            · skip
              exact absurd c208 c143
            · skip
              refine z_iconst C (v := (nI 1)) dJ4_put_2_211 rfl ?_
              refine z_goto C 216 dJ4_put_2_212 (by decide) ?_
              refine z_st (st' := [.int (zb true), .ref a, .ref v, .ref k, .ref t]) rfl ?_
              have hg := gS_enL hI (tSo.up hS hI) hlp_0 hlp_1 hlt hn29
              refine z_callV C k_TM hW.1 (As := [.ref k, .ref v, .ref a, .int (zb true)]) (mJ4_addEntry hW hI hlp_0 (Or.inl ⟨rfl, hn29⟩)) (lw_V q1055 q1057 qs18 q64 q1058) rfl hd_J4_addEntry rfl (Nat.le_of_ble_eq_true rfl) (by decide) (by decide) (by decide) (by decide) rfl dJ4_put_2_216 (fun _ _ h => h.elim) (fun r34 V35 hP36 => ?_)
              obtain ⟨e, he, hN, hU⟩ := hP36
              refine z_st (st' := []) rfl ?_
              have hne : e ∉ L := fun z => by have := hW.2 e z; rw [he] at this; cases this
              have hjl : ps a ≤ L.length := by have := hI.m hlp_0; omega
              rw [if_pos rfl] at hN
              refine z_null C dJ4_put_2_219 ?_
              exact z_aretN C hQ none rfl (Or.inl ⟨_, rfl⟩) (Or.inr ⟨rfl, e, ps a, he, by rw [List.length_map]; exact hjl, ⟨_, _, by rw [lI_len hjl]; exact hN, (cI_map hne).symm⟩, gS.C hg hI, hU⟩) (by decide) (by decide) dJ4_put_2_220
    exact lp _ a1 hm4 (gS_0 hI hs3) (Nat.lt_succ_self _)
  · skip
    refine z_lv (lv' := [(4, .null), (0, .ref t), (1, .ref k), (2, .ref v), (3, .int (nI 1))]) (by rw [hn2]; rfl) ?_
    refine z_aload_n C 1 rfl dJ4_put_2_11 rfl ?_
    refine z_aload_n C 2 rfl dJ4_put_2_12 rfl ?_
    refine z_aload_n C 3 rfl dJ4_put_2_13 rfl ?_
    have hL0 := hI.2.1.2 hn2
    subst hL0
    have ht0 := hW.1
    rw [hn2] at ht0
    refine z_callV C k_TM hW.1 (As := [.ref k, .ref v]) (mJ4_addEntryToEmptyMap_S ht0 hk hc0) (lw_V q1018 q1020 qs17 q64 q1021) rfl hd_J4_addEntryToEmptyMap rfl (Nat.le_of_ble_eq_true rfl) (by decide) (by decide) (by decide) (by decide) rfl dJ4_put_2_14 (fun _ _ h => h.elim) (fun r37 V38 hP39 => ?_)
    obtain ⟨e, he, hN, hU⟩ := hP39
    refine z_st (st' := []) rfl ?_
    refine z_null C dJ4_put_2_17 ?_
    exact z_aretN C hQ none rfl (Or.inl ⟨_, rfl⟩) (Or.inr ⟨rfl, e, 0, he, Nat.zero_le _, ⟨_, _, hN, rfl⟩, fun i q h => by simp at h, hU.mono (fun a h => Or.inl h)⟩) (by decide) (by decide) dJ4_put_2_18
set_option maxHeartbeats 4000000 in
set_option maxRecDepth 100000 in
theorem mJ4_put_S {l : Launch} {D : ZD} {V : ZV} {t : Nat} {L : List Nat} {C : List (Nat × Nat)} {mc : Int32} (hM : tM V t L C mc) {k : Nat} {fk : List Value} {kc : Nat → List Nat} {c : List Nat} (hk : V k = some (.inr (6, fk))) (hcmp : ∀ q ∈ C, ZM l D yX7_compareTo (ws_ yX7_compareTo cX7_compareTo 2 (some .int)) 2 0 0 eI V [.ref k, .ref q.1] (fun r V2 => V2 = V ∧ zCmp r c (kc q.1)) zno_x) (hS : tSo kc C) (hc0 : ZM l D yX7_compareTo (ws_ yX7_compareTo cX7_compareTo 2 (some .int)) 2 0 0 eI V [.ref k, .ref k] (fun r V2 => V2 = V ∧ zCmp r c c) zno_x) {v : Nat} : ZM l D yJ4_put (ws_ yJ4_put cJ4_put 3 (some (.object "java/lang/Object"))) 6 1 6 eO V [.ref t, .ref k, .ref v] (fun r V' => (∃ j q, C[j]? = some q ∧ kc q.1 = c ∧ r = some q.2 ∧ tM V' t L (C.set j (q.1, v)) mc ∧ zUnc V V' (tC t L)) ∨ (r = none ∧ ∃ e j, V e = none ∧ j ≤ C.length ∧ tM V' t (lI L j e) (cI C j (k, v)) (mc + nI 1) ∧ (∀ (i : Nat) (q : Nat × Nat), C[i]? = some q → (i < j → lexL (kc q.1) c) ∧ (j ≤ i → lexL c (kc q.1))) ∧ zUnc V V' (tC t L))) zno_x := by
  refine z_enter (by decide +kernel) [(0, .ref t), (1, .ref k), (2, .ref v)] rfl (Nat.le_of_ble_eq_true rfl) (zcat_cons rfl (zcat_cons rfl (zcat_cons rfl zcat_nil))) (fun Γ C hQ => ?_)
  have hT : ∃ f, V t = some (.inr (9, f)) := by obtain ⟨ky, vl, ⟨rt, lf, rg, pa, cl, ps, lo, hi, hI, hW⟩, _⟩ := hM; exact ⟨_, hW.1⟩
  obtain ⟨ft, hT⟩ := hT
  refine z_aload_n C 0 rfl dJ4_put_0 rfl ?_
  refine z_aload_n C 1 rfl dJ4_put_1 rfl ?_
  refine z_aload_n C 2 rfl dJ4_put_2 rfl ?_
  refine z_iconst C (v := (nI 1)) dJ4_put_3 rfl ?_
  refine z_callV C k_TM hT (As := [.ref k, .ref v, .int (nI 1)]) (mJ4_put_2_S hM hk hcmp hS hc0) (lw_V q1014 q1016 qs16 q64 q1017) rfl hd_J4_put_2 rfl (Nat.le_of_ble_eq_true rfl) (by decide) (by decide) (by decide) (by decide) rfl dJ4_put_4 (fun _ _ h => h.elim) (fun r1 V2 hP3 => ?_)
  refine z_st (st' := [va_rf r1]) rfl ?_
  exact z_aretQ C hQ r1 rfl (Or.inl ⟨_, rfl⟩) hP3 (by decide) (by decide) dJ4_put_7
set_option maxHeartbeats 4000000 in
set_option maxRecDepth 100000 in
theorem mJ4_getEntry_Y {l : Launch} {D : ZD} {V : ZV} {t : Nat} {L : List Nat} {rt : Option Nat} {lf rg pa : Nat → Option Nat} {cl : Nat → Bool} {ky vl : Nat → Nat} {sz : Nat} {mc : Int32} (hW : tW V t L rt lf rg pa cl ky vl sz mc) {ps lo hi : Nat → Nat} (hI : tI L rt lf rg pa ps lo hi) {k : Nat} {fk : List Value} {kc : Nat → List Nat} {c : List Nat} (hk : V k = some (.inr (1, fk))) (hcmp : ∀ a ∈ L, ZM l D yX2_compareTo (ws_ yX2_compareTo cX2_compareTo 2 (some .int)) 3 0 0 eI V [.ref k, .ref (ky a)] (fun r V2 => V2 = V ∧ zCmp r c (kc (ky a))) zno_x) (hS : ∀ a ∈ L, ∀ b ∈ L, ps a < ps b → lexL (kc (ky a)) (kc (ky b))) : ZM l D yJ4_getEntry (ws_ yJ4_getEntry cJ4_getEntry 5 (some (.object "java/util/TreeMap$Entry"))) 4 0 0 eO V [.ref t, .ref k] (fun r V' => V' = V ∧ ((∃ a, r = some a ∧ a ∈ L ∧ kc (ky a) = c) ∨ (r = none ∧ ∀ a ∈ L, kc (ky a) ≠ c))) zno_x := by
  refine z_enter (by decide +kernel) [(0, .ref t), (1, .ref k)] rfl (Nat.le_of_ble_eq_true rfl) (zcat_cons rfl (zcat_cons rfl zcat_nil)) (fun Γ C hQ => ?_)
  refine z_aload_n C 0 rfl dJ4_getEntry_0 rfl ?_
  refine z_get C k_TM hW.1 2 (by decide) rfl q161 dJ4_getEntry_1 ?_
  refine z_ifnull_n C 13 dJ4_getEntry_4 (by decide) ?_
  refine z_aload_n C 1 rfl dJ4_getEntry_13 rfl ?_
  refine z_callS C (As := [.ref k]) (mJ17_requireNonNull) (lw_S q648 q649 q79 q650) hd_J17_requireNonNull rfl (Nat.le_of_ble_eq_true rfl) (by decide) (by decide) (by decide) (by decide) rfl dJ4_getEntry_14 (fun _ _ h => h.elim) (fun r1 V2 hP3 => ?_)
  rw [hP3.1, hP3.2]
  refine z_st (st' := [.ref k]) rfl ?_
  refine z_pop C dJ4_getEntry_17 rfl ?_
  refine z_aload_n C 1 rfl dJ4_getEntry_18 rfl ?_
  refine z_ccast C k_Y hk q651 (Or.inr q667) dJ4_getEntry_19 ?_
  refine z_astore_n C [(2, .ref k), (0, .ref t), (1, .ref k)] dJ4_getEntry_22 rfl (by decide) rfl ?_
  refine z_aload_n C 1 rfl dJ4_getEntry_23 rfl ?_
  refine z_get C k_TM hW.1 3 (by decide) rfl q162 dJ4_getEntry_24 ?_
  refine z_astore_nQ C (r := rt) [(3, va_rf rt), (2, .ref k), (0, .ref t), (1, .ref k)] dJ4_getEntry_27 rfl (by decide) rfl ?_
  refine z_pick [(0, .ref t), (1, .ref k), (2, .ref k), (3, va_rf rt)] [2, 3, 1, 0] rfl ?_
  have lp : ∀ (n_lp : Nat) (o : Option Nat), (∀ a, o = some a → a ∈ L ∧ gS L ps (fun a => kc (ky a)) c (lo a) (hi a)) → (o = none → ∃ j, gS L ps (fun a => kc (ky a)) c j j) → oZ lo hi o < n_lp → ZW l D Γ (zr 4 0 0) 28 [(0, .ref t), (1, .ref k), (2, .ref k), (3, va_rf o)] [] V (0 + 0) (0 + 0) := by
    intro n_lp
    induction n_lp with
    | zero => intro o _ _ hm; exact absurd hm (Nat.not_lt_zero _)
    | succ n_lp ih_lp =>
      intro o hlp_0 hlp_1 hm
      refine z_aload_nQ C 3 (r := o) rfl dJ4_getEntry_28 rfl ?_
      refine z_ifnullQ C 75 dJ4_getEntry_29 (by decide) (fun hn5 => ?_) (fun a4 hs6 => ?_)
      · skip
        refine z_lv (lv' := [(0, .ref t), (1, .ref k), (2, .ref k), (3, .null)]) (by rw [hn5]; rfl) ?_
        refine z_null C dJ4_getEntry_75 ?_
        exact z_aretN C hQ none rfl (Or.inl ⟨_, rfl⟩) ⟨rfl, Or.inr ⟨rfl, fun b hb => by obtain ⟨j, g⟩ := hlp_1 hn5; exact gS_no g b hb⟩⟩ (by decide) (by decide) dJ4_getEntry_76
      · skip
        refine z_lv (lv' := [(0, .ref t), (1, .ref k), (2, .ref k), (3, .ref a4)]) (by rw [hs6]; rfl) ?_
        obtain ⟨ma, ga⟩ := hlp_0 a4 hs6
        have hm2 : hi a4 - lo a4 + 1 < n_lp + 1 := by rw [hs6] at hm; exact hm
        refine z_aload_n C 2 rfl dJ4_getEntry_32 rfl ?_
        refine z_aload_n C 3 rfl dJ4_getEntry_33 rfl ?_
        refine z_get C k_E (hW.2 a4 ma) 0 (by decide) rfl q1033 dJ4_getEntry_34 ?_
        refine z_callF C k_Y hk (As := [.ref (ky a4)]) (hcmp a4 ma) (lw_app (lw_in _ [653, 668, 670, 59] (by decide +kernel) (by decide +kernel)) (lw_meth q672)) zf_8 hdi_Comparable_compareTo rfl (Nat.le_of_ble_eq_true rfl) (by decide) (by decide) (by decide) (by decide) rfl dJ4_getEntry_37 (fun _ _ h => h.elim) (fun r7 V8 hP9 => ?_)
        obtain ⟨hv11, hz10⟩ := hP9
        rw [hv11]
        refine z_st (st' := [.int r7]) rfl ?_
        refine z_istore C [(4, .int r7), (0, .ref t), (1, .ref k), (2, .ref k), (3, .ref a4)] dJ4_getEntry_42 (by decide) rfl ?_
        refine z_iload C 0 rfl dJ4_getEntry_44 ?_
        refine z_if_ge C 57 dJ4_getEntry_46 (by decide) (fun c46 => ?_) (fun c46 => ?_)
        · skip
          refine z_iload C 0 rfl dJ4_getEntry_57 ?_
          refine z_if_le C 70 dJ4_getEntry_59 (by decide) (fun c59 => ?_) (fun c59 => ?_)
          · skip
            refine z_aload_n C 4 rfl dJ4_getEntry_70 rfl ?_
            exact z_aret C hQ (some a4) rfl (Or.inl ⟨_, rfl⟩) ⟨rfl, Or.inl ⟨_, rfl, ma, zc_eq hz10 c46 c59⟩⟩ (by decide) (by decide) dJ4_getEntry_71
          · skip
            have hlt := zc_gt hz10 c59
            refine z_aload_n C 4 rfl dJ4_getEntry_62 rfl ?_
            refine z_get C k_E (hW.2 a4 ma) 3 (by decide) rfl q1037 dJ4_getEntry_63 ?_
            refine z_astore_nQ C (r := (rg a4)) [(3, va_rf (rg a4)), (4, .int r7), (0, .ref t), (1, .ref k), (2, .ref k)] dJ4_getEntry_66 rfl (by decide) rfl ?_
            refine z_goto C 72 dJ4_getEntry_67 (by decide) ?_
            refine z_goto C 28 dJ4_getEntry_72 (by decide) ?_
            refine z_pick [(0, .ref t), (1, .ref k), (2, .ref k), (3, va_rf (rg a4))] [2, 3, 4, 0] rfl ?_
            exact ih_lp (rg a4) (fun b h => ⟨(gS_goR hI hS ma ga hlt h).1, (gS_goR hI hS ma ga hlt h).2.1⟩) (fun h => ⟨_, gS_enR hI hS ma ga hlt h⟩) (Nat.lt_of_lt_of_le (oZ_lt (fun b h => (gS_goR hI hS ma ga hlt h).2.2)) (by omega))
        · skip
          have hlt := zc_lt hz10 c46
          refine z_aload_n C 4 rfl dJ4_getEntry_49 rfl ?_
          refine z_get C k_E (hW.2 a4 ma) 2 (by decide) rfl q1036 dJ4_getEntry_50 ?_
          refine z_astore_nQ C (r := (lf a4)) [(3, va_rf (lf a4)), (4, .int r7), (0, .ref t), (1, .ref k), (2, .ref k)] dJ4_getEntry_53 rfl (by decide) rfl ?_
          refine z_goto C 72 dJ4_getEntry_54 (by decide) ?_
          refine z_goto C 28 dJ4_getEntry_72 (by decide) ?_
          refine z_pick [(0, .ref t), (1, .ref k), (2, .ref k), (3, va_rf (lf a4))] [2, 3, 4, 0] rfl ?_
          exact ih_lp (lf a4) (fun b h => ⟨(gS_goL hI hS ma ga hlt h).1, (gS_goL hI hS ma ga hlt h).2.1⟩) (fun h => ⟨_, gS_enL hI hS ma ga hlt h⟩) (Nat.lt_of_lt_of_le (oZ_lt (fun b h => (gS_goL hI hS ma ga hlt h).2.2)) (by omega))
  exact lp _ rt (fun a h => ⟨(hI.2.1.1 a h).1, gS_0 hI h⟩) (fun h => ⟨0, gS_e hI h⟩) (Nat.lt_succ_self _)
set_option maxHeartbeats 4000000 in
set_option maxRecDepth 100000 in
theorem mJ4_get_Y {l : Launch} {D : ZD} {V : ZV} {t : Nat} {L : List Nat} {C : List (Nat × Nat)} {mc : Int32} (hM : tM V t L C mc) {k : Nat} {fk : List Value} {kc : Nat → List Nat} {c : List Nat} (hk : V k = some (.inr (1, fk))) (hcmp : ∀ q ∈ C, ZM l D yX2_compareTo (ws_ yX2_compareTo cX2_compareTo 2 (some .int)) 3 0 0 eI V [.ref k, .ref q.1] (fun r V2 => V2 = V ∧ zCmp r c (kc q.1)) zno_x) (hS : tSo kc C) : ZM l D yJ4_get (ws_ yJ4_get cJ4_get 3 (some (.object "java/lang/Object"))) 5 0 0 eO V [.ref t, .ref k] (fun r V' => V' = V ∧ ((∃ q ∈ C, kc q.1 = c ∧ r = some q.2) ∨ (r = none ∧ ∀ q ∈ C, kc q.1 ≠ c))) zno_x := by
  obtain ⟨ky, vl, ⟨rt, lf, rg, pa, cl, ps, lo, hi, hI, hW⟩, rfl⟩ := hM
  refine z_enter (by decide +kernel) [(0, .ref t), (1, .ref k)] rfl (Nat.le_of_ble_eq_true rfl) (zcat_cons rfl (zcat_cons rfl zcat_nil)) (fun Γ C hQ => ?_)
  refine z_aload_n C 0 rfl dJ4_get_0 rfl ?_
  refine z_aload_n C 1 rfl dJ4_get_1 rfl ?_
  refine z_callV C k_TM hW.1 (As := [.ref k]) (mJ4_getEntry_Y hW hI hk (fun a ha => hcmp (tG ky vl a) (List.mem_map.mpr ⟨a, ha, rfl⟩)) (tSo.up hS hI)) (lw_V q622 q623 q624 q64 q625) rfl hd_J4_getEntry rfl (Nat.le_of_ble_eq_true rfl) (by decide) (by decide) (by decide) (by decide) rfl dJ4_get_2 (fun _ _ h => h.elim) (fun r1 V2 hP3 => ?_)
  obtain ⟨hv9, hc9⟩ := hP3
  rw [hv9]
  refine z_st (st' := [va_rf r1]) rfl ?_
  refine z_astore_nQ C (r := r1) [(2, va_rf r1), (0, .ref t), (1, .ref k)] dJ4_get_5 rfl (by decide) rfl ?_
  refine z_aload_nQ C 0 (r := r1) rfl dJ4_get_6 rfl ?_
  refine z_ifnonnullQ C 14 dJ4_get_7 (by decide) (fun a4 hs6 => ?_) (fun hn5 => ?_)
  · skip
    refine z_lv (lv' := [(2, .ref a4), (0, .ref t), (1, .ref k)]) (by rw [hs6]; rfl) ?_
    have hx : a4 ∈ L ∧ kc (ky a4) = c := by
      rcases hc9 with ⟨b, hb, hm, he⟩ | ⟨hb, _⟩
      · rw [hs6] at hb; cases hb; exact ⟨hm, he⟩
      · rw [hs6] at hb; cases hb
    refine z_aload_n C 0 rfl dJ4_get_14 rfl ?_
    refine z_get C k_E (hW.2 a4 hx.1) 1 (by decide) rfl q1035 dJ4_get_15 ?_
    exact z_aret C hQ (some (vl a4)) rfl (Or.inl ⟨_, rfl⟩) ⟨rfl, Or.inl ⟨tG ky vl a4, List.mem_map.mpr ⟨_, hx.1, rfl⟩, hx.2, rfl⟩⟩ (by decide) (by decide) dJ4_get_18
  · skip
    refine z_lv (lv' := [(2, .null), (0, .ref t), (1, .ref k)]) (by rw [hn5]; rfl) ?_
    refine z_null C dJ4_get_10 ?_
    refine z_goto C 18 dJ4_get_11 (by decide) ?_
    exact z_aretN C hQ none rfl (Or.inl ⟨_, rfl⟩) ⟨rfl, Or.inr ⟨rfl, (fun q hq => by obtain ⟨a, ha, rfl⟩ := List.mem_map.mp hq; rcases hc9 with ⟨b, hb, hm, he⟩ | ⟨_, h⟩; rw [hn5] at hb; cases hb; exact h a ha)⟩⟩ (by decide) (by decide) dJ4_get_18
set_option maxHeartbeats 4000000 in
set_option maxRecDepth 100000 in
theorem mJ4_containsKey_Y {l : Launch} {D : ZD} {V : ZV} {t : Nat} {L : List Nat} {C : List (Nat × Nat)} {mc : Int32} (hM : tM V t L C mc) {k : Nat} {fk : List Value} {kc : Nat → List Nat} {c : List Nat} (hk : V k = some (.inr (1, fk))) (hcmp : ∀ q ∈ C, ZM l D yX2_compareTo (ws_ yX2_compareTo cX2_compareTo 2 (some .int)) 3 0 0 eI V [.ref k, .ref q.1] (fun r V2 => V2 = V ∧ zCmp r c (kc q.1)) zno_x) (hS : tSo kc C) : ZM l D yJ4_containsKey (ws_ yJ4_containsKey cJ4_containsKey 2 (some .boolean)) 5 0 0 eB V [.ref t, .ref k] (fun r V' => V' = V ∧ ((r = true ∧ ∃ q ∈ C, kc q.1 = c) ∨ (r = false ∧ ∀ q ∈ C, kc q.1 ≠ c))) zno_x := by
  obtain ⟨ky, vl, ⟨rt, lf, rg, pa, cl, ps, lo, hi, hI, hW⟩, rfl⟩ := hM
  refine z_enter (by decide +kernel) [(0, .ref t), (1, .ref k)] rfl (Nat.le_of_ble_eq_true rfl) (zcat_cons rfl (zcat_cons rfl zcat_nil)) (fun Γ C hQ => ?_)
  refine z_aload_n C 0 rfl dJ4_containsKey_0 rfl ?_
  refine z_aload_n C 1 rfl dJ4_containsKey_1 rfl ?_
  refine z_callV C k_TM hW.1 (As := [.ref k]) (mJ4_getEntry_Y hW hI hk (fun a ha => hcmp (tG ky vl a) (List.mem_map.mpr ⟨a, ha, rfl⟩)) (tSo.up hS hI)) (lw_V q622 q623 q624 q64 q625) rfl hd_J4_getEntry rfl (Nat.le_of_ble_eq_true rfl) (by decide) (by decide) (by decide) (by decide) rfl dJ4_containsKey_2 (fun _ _ h => h.elim) (fun r1 V2 hP3 => ?_)
  obtain ⟨hv9, hc9⟩ := hP3
  rw [hv9]
  refine z_st (st' := [va_rf r1]) rfl ?_
  refine z_ifnullQ C 12 dJ4_containsKey_5 (by decide) (fun hn5 => ?_) (fun a4 hs6 => ?_)
  · skip
    refine z_iconst C (v := (nI 0)) dJ4_containsKey_12 rfl ?_
    exact z_zret C hQ false rfl rfl ⟨rfl, Or.inr ⟨rfl, (fun q hq => by obtain ⟨a, ha, rfl⟩ := List.mem_map.mp hq; rcases hc9 with ⟨b, hb, hm, he⟩ | ⟨_, h⟩; rw [hn5] at hb; cases hb; exact h a ha)⟩⟩ (by decide) (by decide) dJ4_containsKey_13
  · skip
    have hx : a4 ∈ L ∧ kc (ky a4) = c := by
      rcases hc9 with ⟨b, hb, hm, he⟩ | ⟨hb, _⟩
      · rw [hs6] at hb; cases hb; exact ⟨hm, he⟩
      · rw [hs6] at hb; cases hb
    refine z_iconst C (v := (nI 1)) dJ4_containsKey_8 rfl ?_
    refine z_goto C 13 dJ4_containsKey_9 (by decide) ?_
    exact z_zret C hQ true rfl rfl ⟨rfl, Or.inl ⟨rfl, tG ky vl a4, List.mem_map.mpr ⟨_, hx.1, rfl⟩, hx.2⟩⟩ (by decide) (by decide) dJ4_containsKey_13
set_option maxHeartbeats 4000000 in
set_option maxRecDepth 100000 in
theorem mJ4_compare_Y {l : Launch} {D : ZD} {V : ZV} {t k : Nat} {fk : List Value} {c : List Nat} {x0 x1 x3 x4 x5 x6 x7 x8 : Value} (ht : V t = some (.inr (9, [x0, x1, .null, x3, x4, x5, x6, x7, x8]))) (hk : V k = some (.inr (1, fk))) (hc0 : ZM l D yX2_compareTo (ws_ yX2_compareTo cX2_compareTo 2 (some .int)) 3 0 0 eI V [.ref k, .ref k] (fun r V2 => V2 = V ∧ zCmp r c c) zno_x) : ZM l D yJ4_compare (ws_ yJ4_compare cJ4_compare 3 (some .int)) 4 0 0 eI V [.ref t, .ref k, .ref k] (fun r V' => V' = V) zno_x := by
  refine z_enter (by decide +kernel) [(0, .ref t), (1, .ref k), (2, .ref k)] rfl (Nat.le_of_ble_eq_true rfl) (zcat_cons rfl (zcat_cons rfl (zcat_cons rfl zcat_nil))) (fun Γ C hQ => ?_)
  refine z_aload_n C 0 rfl dJ4_compare_0 rfl ?_
  refine z_get C k_TM ht 2 (by decide) rfl q161 dJ4_compare_1 ?_
  refine z_ifnonnull_n C dJ4_compare_4 ?_
  refine z_aload_n C 1 rfl dJ4_compare_7 rfl ?_
  refine z_ccast C k_Y hk q651 (Or.inr q667) dJ4_compare_8 ?_
  refine z_aload_n C 2 rfl dJ4_compare_11 rfl ?_
  refine z_callF C k_Y hk (As := [.ref k]) (hc0) (lw_app (lw_in _ [653, 668, 670, 59] (by decide +kernel) (by decide +kernel)) (lw_meth q672)) zf_8 hdi_Comparable_compareTo rfl (Nat.le_of_ble_eq_true rfl) (by decide) (by decide) (by decide) (by decide) rfl dJ4_compare_12 (fun _ _ h => h.elim) (fun r1 V2 hP3 => ?_)
  obtain ⟨hv5, hz4⟩ := hP3
  rw [hv5]
  refine z_st (st' := [.int r1]) rfl ?_
  refine z_goto C 31 dJ4_compare_17 (by decide) ?_
  exact z_iret C hQ r1 rfl rfl (by decide) (by decide) dJ4_compare_31
set_option maxHeartbeats 4000000 in
set_option maxRecDepth 100000 in
theorem mJ4_addEntryToEmptyMap_Y {l : Launch} {D : ZD} {V : ZV} {t k v : Nat} {fk : List Value} {c : List Nat} {mc : Int32} (ht : V t = some (.inr (9, [.null, .null, .null, .null, .int (nI 0), .int mc, .null, .null, .null]))) (hk : V k = some (.inr (1, fk))) (hc0 : ZM l D yX2_compareTo (ws_ yX2_compareTo cX2_compareTo 2 (some .int)) 3 0 0 eI V [.ref k, .ref k] (fun r V2 => V2 = V ∧ zCmp r c c) zno_x) : ZM l D yJ4_addEntryToEmptyMap (ws_ yJ4_addEntryToEmptyMap cJ4_addEntryToEmptyMap 3 none) 5 1 6 eU V [.ref t, .ref k, .ref v] (fun r V' => ∃ e, V e = none ∧ tN V' t [e] (fun _ => k) (fun _ => v) 1 (mc + nI 1) ∧ zUnc V V' (fun a => a = t)) zno_x := by
  refine z_enter (by decide +kernel) [(0, .ref t), (1, .ref k), (2, .ref v)] rfl (Nat.le_of_ble_eq_true rfl) (zcat_cons rfl (zcat_cons rfl (zcat_cons rfl zcat_nil))) (fun Γ C hQ => ?_)
  have hU1 : zUnc V V (fun z_ => z_ = t) := zUnc.rf
  refine z_aload_n C 0 rfl dJ4_addEntryToEmptyMap_0 rfl ?_
  refine z_aload_n C 1 rfl dJ4_addEntryToEmptyMap_1 rfl ?_
  refine z_aload_n C 1 rfl dJ4_addEntryToEmptyMap_2 rfl ?_
  refine z_callV C k_TM ht (As := [.ref k, .ref k]) (mJ4_compare_Y ht hk hc0) (lw_V q1022 q1023 q1024 q64 q1025) rfl hd_J4_compare rfl (Nat.le_of_ble_eq_true rfl) (by decide) (by decide) (by decide) (by decide) rfl dJ4_addEntryToEmptyMap_3 (fun _ _ h => h.elim) (fun r2 V3 hP4 => ?_)
  rw [hP4]
  refine z_st (st' := [.int r2]) rfl ?_
  refine z_pop C dJ4_addEntryToEmptyMap_6 rfl ?_
  refine z_aload_n C 0 rfl dJ4_addEntryToEmptyMap_7 rfl ?_
  refine z_new C k_E q1026 q1027 q90 [.null, .null, .null, .null, .null, .int (nI 0)] k0_E (by decide) (by decide) dJ4_addEntryToEmptyMap_8 (fun q5 hq6 => z_nV (fun V7 hV8 => ?_))
  have hf10 := zUnc.none hU1 (fun e => zne_new ht hq6 e.symm) hq6
  have hU9 := zUnc.new hU1 hV8 hq6
  have g11 := zup hV8 (zne_new ht hq6) ht
  have g12 := zup hV8 (zne_new hk hq6) hk
  have g13 : V7 q5 = some (.inr (12, [.null, .null, .null, .null, .null, .int (nI 0)])) := zself hV8
  refine z_dup C dJ4_addEntryToEmptyMap_11 rfl ?_
  refine z_aload_n C 1 rfl dJ4_addEntryToEmptyMap_12 rfl ?_
  refine z_aload_n C 2 rfl dJ4_addEntryToEmptyMap_13 rfl ?_
  refine z_null C dJ4_addEntryToEmptyMap_14 ?_
  refine z_callI C (rt := none) (As := [.ref k, .ref v, .null]) (mJ24_init (o := none) g13) q1030 q90 q1028 q1029 rfl hd_J24_init rfl (Nat.le_of_ble_eq_true rfl) (by decide) (by decide) (by decide) (by decide) rfl dJ4_addEntryToEmptyMap_15 (fun _ _ h => h.elim) (fun r14 V15 hP16 => ?_)
  obtain ⟨he1, heu⟩ := hP16
  refine z_st (st' := [.ref q5, .ref t]) rfl ?_
  have hU17 := zUnc.tr (S := (fun z_ => z_ = t)) hU9 heu (fun a h => Or.inr (by rw [show a = q5 from h]; exact hf10))
  have g18 := zUnc.get heu (fun e => (zne_cc g11 g13 (by decide)) e) g11
  have g19 := zUnc.get heu (fun e => (zne_cc g12 g13 (by decide)) e) g12
  refine z_put C k_TM g18 3 (by decide) [.null, .null, .null, .ref q5, .int (nI 0), .int mc, .null, .null, .null] rfl (Nat.le_of_ble_eq_true rfl) rfl rfl rfl q162 dJ4_addEntryToEmptyMap_18 (z_nV (fun V20 hV21 => ?_))
  have hU22 := zUnc.up (S := (fun z_ => z_ = t)) hU17 hV21 rfl
  have g23 := zup hV21 (zne_cc g19 g18 (by decide)) g19
  have g24 := zup hV21 (zne_cc he1 g18 (by decide)) he1
  have g25 : V20 t = some (.inr (9, [.null, .null, .null, .ref q5, .int (nI 0), .int mc, .null, .null, .null])) := zself hV21
  refine z_aload_n C 0 rfl dJ4_addEntryToEmptyMap_21 rfl ?_
  refine z_iconst C (v := (nI 1)) dJ4_addEntryToEmptyMap_22 rfl ?_
  refine z_put C k_TM g25 4 (by decide) [.null, .null, .null, .ref q5, .int (nI 1), .int mc, .null, .null, .null] rfl (Nat.le_of_ble_eq_true rfl) rfl rfl rfl q163 dJ4_addEntryToEmptyMap_23 (z_nV (fun V26 hV27 => ?_))
  have hU28 := zUnc.up (S := (fun z_ => z_ = t)) hU22 hV27 rfl
  have g29 := zup hV27 (zne_cc g23 g25 (by decide)) g23
  have g30 := zup hV27 (zne_cc g24 g25 (by decide)) g24
  have g31 : V26 t = some (.inr (9, [.null, .null, .null, .ref q5, .int (nI 1), .int mc, .null, .null, .null])) := zself hV27
  refine z_aload_n C 0 rfl dJ4_addEntryToEmptyMap_26 rfl ?_
  refine z_dup C dJ4_addEntryToEmptyMap_27 rfl ?_
  refine z_get C k_TM g31 5 (by decide) rfl q164 dJ4_addEntryToEmptyMap_28 ?_
  refine z_iconst C (v := (nI 1)) dJ4_addEntryToEmptyMap_31 rfl ?_
  refine z_iadd C dJ4_addEntryToEmptyMap_32 ?_
  refine z_put C k_TM g31 5 (by decide) [.null, .null, .null, .ref q5, .int (nI 1), .int (mc + (nI 1)), .null, .null, .null] rfl (Nat.le_of_ble_eq_true rfl) rfl rfl rfl q164 dJ4_addEntryToEmptyMap_33 (z_nV (fun V32 hV33 => ?_))
  have hU34 := zUnc.up (S := (fun z_ => z_ = t)) hU28 hV33 rfl
  have g35 := zup hV33 (zne_cc g29 g31 (by decide)) g29
  have g36 := zup hV33 (zne_cc g30 g31 (by decide)) g30
  have g37 : V32 t = some (.inr (9, [.null, .null, .null, .ref q5, .int (nI 1), .int (mc + (nI 1)), .null, .null, .null])) := zself hV33
  exact z_vret C hQ () rfl ⟨q5, hf10, ⟨_, _, _, _, _, _, _, _, tI_one q5, tW.one q5 k v g37 g36⟩, hU34⟩ (by decide) (by decide) dJ4_addEntryToEmptyMap_36
set_option maxHeartbeats 4000000 in
set_option maxRecDepth 100000 in
theorem mJ4_put_2_Y {l : Launch} {D : ZD} {V : ZV} {t : Nat} {L : List Nat} {C : List (Nat × Nat)} {mc : Int32} (hM : tM V t L C mc) {k : Nat} {fk : List Value} {kc : Nat → List Nat} {c : List Nat} (hk : V k = some (.inr (1, fk))) (hcmp : ∀ q ∈ C, ZM l D yX2_compareTo (ws_ yX2_compareTo cX2_compareTo 2 (some .int)) 3 0 0 eI V [.ref k, .ref q.1] (fun r V2 => V2 = V ∧ zCmp r c (kc q.1)) zno_x) (hS : tSo kc C) (hc0 : ZM l D yX2_compareTo (ws_ yX2_compareTo cX2_compareTo 2 (some .int)) 3 0 0 eI V [.ref k, .ref k] (fun r V2 => V2 = V ∧ zCmp r c c) zno_x) {v : Nat} : ZM l D yJ4_put_2 (ws_ yJ4_put_2 cJ4_put_2 10 (some (.object "java/lang/Object"))) 6 1 6 eO V [.ref t, .ref k, .ref v, .int (nI 1)] (fun r V' => (∃ j q, C[j]? = some q ∧ kc q.1 = c ∧ r = some q.2 ∧ tM V' t L (C.set j (q.1, v)) mc ∧ zUnc V V' (tC t L)) ∨ (r = none ∧ ∃ e j, V e = none ∧ j ≤ C.length ∧ tM V' t (lI L j e) (cI C j (k, v)) (mc + nI 1) ∧ (∀ (i : Nat) (q : Nat × Nat), C[i]? = some q → (i < j → lexL (kc q.1) c) ∧ (j ≤ i → lexL c (kc q.1))) ∧ zUnc V V' (tC t L))) zno_x := by
  obtain ⟨ky, vl, ⟨rt, lf, rg, pa, cl, ps, lo, hi, hI, hW⟩, rfl⟩ := hM
  refine z_enter (by decide +kernel) [(0, .ref t), (1, .ref k), (2, .ref v), (3, .int (nI 1))] rfl (Nat.le_of_ble_eq_true rfl) (zcat_cons rfl (zcat_cons rfl (zcat_cons rfl (zcat_cons rfl zcat_nil)))) (fun Γ C hQ => ?_)
  have hU0 : zUnc V V (tC t L) := zUnc.rf
  refine z_aload_n C 0 rfl dJ4_put_2_0 rfl ?_
  refine z_get C k_TM hW.1 3 (by decide) rfl q162 dJ4_put_2_1 ?_
  refine z_astoreQ C (r := rt) [(4, va_rf rt), (0, .ref t), (1, .ref k), (2, .ref v), (3, .int (nI 1))] dJ4_put_2_4 (by decide) rfl ?_
  refine z_aloadQ C 0 (r := rt) rfl dJ4_put_2_6 ?_
  refine z_ifnonnullQ C 19 dJ4_put_2_8 (by decide) (fun a1 hs3 => ?_) (fun hn2 => ?_)
  · skip
    obtain ⟨hm4, hp5, -, -⟩ := hI.2.1.1 a1 hs3
    refine z_lv (lv' := [(4, .ref a1), (0, .ref t), (1, .ref k), (2, .ref v), (3, .int (nI 1))]) (by rw [hs3]; rfl) ?_
    refine z_aload_n C 1 rfl dJ4_put_2_19 rfl ?_
    refine z_get C k_TM hW.1 2 (by decide) rfl q161 dJ4_put_2_20 ?_
    refine z_astoreQ C (r := none) [(7, .null), (4, .ref a1), (0, .ref t), (1, .ref k), (2, .ref v), (3, .int (nI 1))] dJ4_put_2_23 (by decide) rfl ?_
    refine z_aloadQ C 0 (r := none) rfl dJ4_put_2_25 ?_
    refine z_ifnull_n C 112 dJ4_put_2_27 (by decide) ?_
    refine z_aload_n C 3 rfl dJ4_put_2_112 rfl ?_
    refine z_callS C (As := [.ref k]) (mJ17_requireNonNull) (lw_S q648 q649 q79 q650) hd_J17_requireNonNull rfl (Nat.le_of_ble_eq_true rfl) (by decide) (by decide) (by decide) (by decide) rfl dJ4_put_2_113 (fun _ _ h => h.elim) (fun r6 V7 hP8 => ?_)
    rw [hP8.1, hP8.2]
    refine z_st (st' := [.ref k]) rfl ?_
    refine z_pop C dJ4_put_2_116 rfl ?_
    refine z_aload_n C 3 rfl dJ4_put_2_117 rfl ?_
    refine z_ccast C k_Y hk q651 (Or.inr q667) dJ4_put_2_118 ?_
    refine z_astore C [(8, .ref k), (7, .null), (4, .ref a1), (0, .ref t), (1, .ref k), (2, .ref v), (3, .int (nI 1))] dJ4_put_2_121 (by decide) rfl ?_
    refine z_pick [(0, .ref t), (1, .ref k), (2, .ref v), (3, .int (nI 1)), (4, .ref a1), (8, .ref k)] [3, 4, 5, 6, 2, 0] rfl ?_
    have lp : ∀ (n_lp : Nat) (a : Nat), a ∈ L → gS L ps (fun a => kc (ky a)) c (lo a) (hi a) → hi a - lo a < n_lp → ZW l D Γ (zr 6 1 6) 123 [(0, .ref t), (1, .ref k), (2, .ref v), (3, .int (nI 1)), (4, .ref a), (8, .ref k)] [] V (0 + 0) (0 + 0) := by
      intro n_lp
      induction n_lp with
      | zero => intro a _ _ hm; exact absurd hm (Nat.not_lt_zero _)
      | succ n_lp ih_lp =>
        intro a hlp_0 hlp_1 hm
        refine z_aload C 4 rfl dJ4_put_2_123 ?_
        refine z_astore C [(6, .ref a), (0, .ref t), (1, .ref k), (2, .ref v), (3, .int (nI 1)), (4, .ref a), (8, .ref k)] dJ4_put_2_125 (by decide) rfl ?_
        refine z_aload C 6 rfl dJ4_put_2_127 ?_
        refine z_aload C 5 rfl dJ4_put_2_129 ?_
        refine z_get C k_E (hW.2 a hlp_0) 0 (by decide) rfl q1033 dJ4_put_2_131 ?_
        refine z_callF C k_Y hk (As := [.ref (ky a)]) (hcmp (tG ky vl a) (List.mem_map.mpr ⟨_, hlp_0, rfl⟩)) (lw_app (lw_in _ [653, 668, 670, 59] (by decide +kernel) (by decide +kernel)) (lw_meth q672)) zf_8 hdi_Comparable_compareTo rfl (Nat.le_of_ble_eq_true rfl) (by decide) (by decide) (by decide) (by decide) rfl dJ4_put_2_134 (fun _ _ h => h.elim) (fun r9 V10 hP11 => ?_)
        obtain ⟨hv13, hz12⟩ := hP11
        rw [hv13]
        refine z_st (st' := [.int r9]) rfl ?_
        refine z_istore C [(5, .int r9), (6, .ref a), (0, .ref t), (1, .ref k), (2, .ref v), (3, .int (nI 1)), (4, .ref a), (8, .ref k)] dJ4_put_2_139 (by decide) rfl ?_
        refine z_iload C 0 rfl dJ4_put_2_141 ?_
        refine z_if_ge C 156 dJ4_put_2_143 (by decide) (fun c143 => ?_) (fun c143 => ?_)
        · skip
          refine z_iload C 0 rfl dJ4_put_2_156 ?_
          refine z_if_le C 171 dJ4_put_2_158 (by decide) (fun c158 => ?_) (fun c158 => ?_)
          · skip
            refine z_aload C 6 rfl dJ4_put_2_171 ?_
            refine z_get C k_E (hW.2 a hlp_0) 1 (by decide) rfl q1035 dJ4_put_2_173 ?_
            refine z_astore C [(9, .ref (vl a)), (5, .int r9), (6, .ref a), (0, .ref t), (1, .ref k), (2, .ref v), (3, .int (nI 1)), (4, .ref a), (8, .ref k)] dJ4_put_2_176 (by decide) rfl ?_
            refine z_iload_n C 6 rfl dJ4_put_2_178 rfl ?_
            refine z_if_neN C 187 (by omega) dJ4_put_2_179 (by decide) (fun c179 => ?_) (fun c179 => ?_)
            · skip
              refine z_aload C 7 rfl dJ4_put_2_187 ?_
              refine z_aload_n C 5 rfl dJ4_put_2_189 rfl ?_
              refine z_put C k_E (hW.2 a hlp_0) 1 (by decide) [.ref (ky a), .ref v, va_rf (lf a), va_rf (rg a), va_rf (pa a), .int (zb (cl a))] rfl (Nat.le_of_ble_eq_true rfl) rfl rfl rfl q1035 dJ4_put_2_190 (z_nV (fun V14 hV15 => ?_))
              have hW16 := tW.uvl hW hlp_0 v hV15
              have hU17 := zUnc.up (S := tC t L) hU0 hV15 (Or.inr hlp_0)
              have g18 := zup hV15 (zne_cc hk (hW.2 a hlp_0) (by decide)) hk
              refine z_aload C 0 rfl dJ4_put_2_193 ?_
              exact z_aret C hQ (some (vl a)) rfl (Or.inl ⟨_, rfl⟩) (Or.inl ⟨ps a, (ky a, vl a), tG_at hI hlp_0, (zc_eq hz12 c143 c158), rfl, ⟨_, _, ⟨_, _, _, _, _, _, _, _, hI, hW16⟩, (tSet hI hlp_0).symm⟩, hU17⟩) (by decide) (by decide) dJ4_put_2_195
            · skip
              exfalso; omega
          · skip
            have hlt := zc_gt hz12 c158
            refine z_aload C 6 rfl dJ4_put_2_161 ?_
            refine z_get C k_E (hW.2 a hlp_0) 3 (by decide) rfl q1037 dJ4_put_2_163 ?_
            refine z_astoreQ C (r := (rg a)) [(4, va_rf (rg a)), (5, .int r9), (6, .ref a), (0, .ref t), (1, .ref k), (2, .ref v), (3, .int (nI 1)), (8, .ref k)] dJ4_put_2_166 (by decide) rfl ?_
            refine z_goto C 196 dJ4_put_2_168 (by decide) ?_
            refine z_aloadQ C 0 (r := (rg a)) rfl dJ4_put_2_196 ?_
            refine z_ifnonnullQ C 123 dJ4_put_2_198 (by decide) (fun a19 hs21 => ?_) (fun hn20 => ?_)
            · skip
              obtain ⟨hm22, hp23, nx24⟩ := hI.mr hlp_0 hs21
              refine z_lv (lv' := [(4, .ref a19), (5, .int r9), (6, .ref a), (0, .ref t), (1, .ref k), (2, .ref v), (3, .int (nI 1)), (8, .ref k)]) (by rw [hs21]; rfl) ?_
              refine z_pick [(0, .ref t), (1, .ref k), (2, .ref v), (3, .int (nI 1)), (4, .ref a19), (8, .ref k)] [3, 4, 5, 6, 0, 7] rfl ?_
              obtain ⟨q1, q2, q3⟩ := gS_goR hI (tSo.up hS hI) hlp_0 hlp_1 hlt hs21
              exact ih_lp a19 q1 q2 (by omega)
            · skip
              refine z_lv (lv' := [(4, .null), (5, .int r9), (6, .ref a), (0, .ref t), (1, .ref k), (2, .ref v), (3, .int (nI 1)), (8, .ref k)]) (by rw [hn20]; rfl) ?_
              refine z_aload_n C 3 rfl dJ4_put_2_201 rfl ?_
              refine z_aload_n C 4 rfl dJ4_put_2_202 rfl ?_
              refine z_aload_n C 5 rfl dJ4_put_2_203 rfl ?_
              refine z_aload C 2 rfl dJ4_put_2_204 ?_
              refine z_iload C 1 rfl dJ4_put_2_206 ?_
              refine z_if_ge C 215 dJ4_put_2_208 (by decide) (fun c208 => ?_) (fun c208 => ?_)
              · skip
                refine z_iconst C (v := (nI 0)) dJ4_put_2_215 rfl ?_
                refine z_st (st' := [.int (zb false), .ref a, .ref v, .ref k, .ref t]) rfl ?_
                have hg := gS_enR hI (tSo.up hS hI) hlp_0 hlp_1 hlt hn20
                refine z_callV C k_TM hW.1 (As := [.ref k, .ref v, .ref a, .int (zb false)]) (mJ4_addEntry hW hI hlp_0 (Or.inr ⟨rfl, hn20⟩)) (lw_V q1055 q1057 qs18 q64 q1058) rfl hd_J4_addEntry rfl (Nat.le_of_ble_eq_true rfl) (by decide) (by decide) (by decide) (by decide) rfl dJ4_put_2_216 (fun _ _ h => h.elim) (fun r25 V26 hP27 => ?_)
                obtain ⟨e, he, hN, hU⟩ := hP27
                refine z_st (st' := []) rfl ?_
                have hne : e ∉ L := fun z => by have := hW.2 e z; rw [he] at this; cases this
                have hjl : (ps a + 1) ≤ L.length := by have := hI.m hlp_0; omega
                rw [if_neg (by decide)] at hN
                refine z_null C dJ4_put_2_219 ?_
                exact z_aretN C hQ none rfl (Or.inl ⟨_, rfl⟩) (Or.inr ⟨rfl, e, (ps a + 1), he, by rw [List.length_map]; exact hjl, ⟨_, _, by rw [lI_len hjl]; exact hN, (cI_map hne).symm⟩, gS.C hg hI, hU⟩) (by decide) (by decide) dJ4_put_2_220
              · skip
                exact absurd c143 c208
        · skip
          have hlt := zc_lt hz12 c143
          refine z_aload C 6 rfl dJ4_put_2_146 ?_
          refine z_get C k_E (hW.2 a hlp_0) 2 (by decide) rfl q1036 dJ4_put_2_148 ?_
          refine z_astoreQ C (r := (lf a)) [(4, va_rf (lf a)), (5, .int r9), (6, .ref a), (0, .ref t), (1, .ref k), (2, .ref v), (3, .int (nI 1)), (8, .ref k)] dJ4_put_2_151 (by decide) rfl ?_
          refine z_goto C 196 dJ4_put_2_153 (by decide) ?_
          refine z_aloadQ C 0 (r := (lf a)) rfl dJ4_put_2_196 ?_
          refine z_ifnonnullQ C 123 dJ4_put_2_198 (by decide) (fun a28 hs30 => ?_) (fun hn29 => ?_)
          · skip
            obtain ⟨hm31, hp32, nx33⟩ := hI.ml hlp_0 hs30
            refine z_lv (lv' := [(4, .ref a28), (5, .int r9), (6, .ref a), (0, .ref t), (1, .ref k), (2, .ref v), (3, .int (nI 1)), (8, .ref k)]) (by rw [hs30]; rfl) ?_
            refine z_pick [(0, .ref t), (1, .ref k), (2, .ref v), (3, .int (nI 1)), (4, .ref a28), (8, .ref k)] [3, 4, 5, 6, 0, 7] rfl ?_
            obtain ⟨q1, q2, q3⟩ := gS_goL hI (tSo.up hS hI) hlp_0 hlp_1 hlt hs30
            exact ih_lp a28 q1 q2 (by omega)
          · skip
            refine z_lv (lv' := [(4, .null), (5, .int r9), (6, .ref a), (0, .ref t), (1, .ref k), (2, .ref v), (3, .int (nI 1)), (8, .ref k)]) (by rw [hn29]; rfl) ?_
            refine z_aload_n C 3 rfl dJ4_put_2_201 rfl ?_
            refine z_aload_n C 4 rfl dJ4_put_2_202 rfl ?_
            refine z_aload_n C 5 rfl dJ4_put_2_203 rfl ?_
            refine z_aload C 2 rfl dJ4_put_2_204 ?_
            refine z_iload C 1 rfl dJ4_put_2_206 ?_
            refine z_if_ge C 215 dJ4_put_2_208 (by decide) (fun c208 => ?_) (fun c208 => ?_)
            · skip
              exact absurd c208 c143
            · skip
              refine z_iconst C (v := (nI 1)) dJ4_put_2_211 rfl ?_
              refine z_goto C 216 dJ4_put_2_212 (by decide) ?_
              refine z_st (st' := [.int (zb true), .ref a, .ref v, .ref k, .ref t]) rfl ?_
              have hg := gS_enL hI (tSo.up hS hI) hlp_0 hlp_1 hlt hn29
              refine z_callV C k_TM hW.1 (As := [.ref k, .ref v, .ref a, .int (zb true)]) (mJ4_addEntry hW hI hlp_0 (Or.inl ⟨rfl, hn29⟩)) (lw_V q1055 q1057 qs18 q64 q1058) rfl hd_J4_addEntry rfl (Nat.le_of_ble_eq_true rfl) (by decide) (by decide) (by decide) (by decide) rfl dJ4_put_2_216 (fun _ _ h => h.elim) (fun r34 V35 hP36 => ?_)
              obtain ⟨e, he, hN, hU⟩ := hP36
              refine z_st (st' := []) rfl ?_
              have hne : e ∉ L := fun z => by have := hW.2 e z; rw [he] at this; cases this
              have hjl : ps a ≤ L.length := by have := hI.m hlp_0; omega
              rw [if_pos rfl] at hN
              refine z_null C dJ4_put_2_219 ?_
              exact z_aretN C hQ none rfl (Or.inl ⟨_, rfl⟩) (Or.inr ⟨rfl, e, ps a, he, by rw [List.length_map]; exact hjl, ⟨_, _, by rw [lI_len hjl]; exact hN, (cI_map hne).symm⟩, gS.C hg hI, hU⟩) (by decide) (by decide) dJ4_put_2_220
    exact lp _ a1 hm4 (gS_0 hI hs3) (Nat.lt_succ_self _)
  · skip
    refine z_lv (lv' := [(4, .null), (0, .ref t), (1, .ref k), (2, .ref v), (3, .int (nI 1))]) (by rw [hn2]; rfl) ?_
    refine z_aload_n C 1 rfl dJ4_put_2_11 rfl ?_
    refine z_aload_n C 2 rfl dJ4_put_2_12 rfl ?_
    refine z_aload_n C 3 rfl dJ4_put_2_13 rfl ?_
    have hL0 := hI.2.1.2 hn2
    subst hL0
    have ht0 := hW.1
    rw [hn2] at ht0
    refine z_callV C k_TM hW.1 (As := [.ref k, .ref v]) (mJ4_addEntryToEmptyMap_Y ht0 hk hc0) (lw_V q1018 q1020 qs17 q64 q1021) rfl hd_J4_addEntryToEmptyMap rfl (Nat.le_of_ble_eq_true rfl) (by decide) (by decide) (by decide) (by decide) rfl dJ4_put_2_14 (fun _ _ h => h.elim) (fun r37 V38 hP39 => ?_)
    obtain ⟨e, he, hN, hU⟩ := hP39
    refine z_st (st' := []) rfl ?_
    refine z_null C dJ4_put_2_17 ?_
    exact z_aretN C hQ none rfl (Or.inl ⟨_, rfl⟩) (Or.inr ⟨rfl, e, 0, he, Nat.zero_le _, ⟨_, _, hN, rfl⟩, fun i q h => by simp at h, hU.mono (fun a h => Or.inl h)⟩) (by decide) (by decide) dJ4_put_2_18
set_option maxHeartbeats 4000000 in
set_option maxRecDepth 100000 in
theorem mJ4_put_Y {l : Launch} {D : ZD} {V : ZV} {t : Nat} {L : List Nat} {C : List (Nat × Nat)} {mc : Int32} (hM : tM V t L C mc) {k : Nat} {fk : List Value} {kc : Nat → List Nat} {c : List Nat} (hk : V k = some (.inr (1, fk))) (hcmp : ∀ q ∈ C, ZM l D yX2_compareTo (ws_ yX2_compareTo cX2_compareTo 2 (some .int)) 3 0 0 eI V [.ref k, .ref q.1] (fun r V2 => V2 = V ∧ zCmp r c (kc q.1)) zno_x) (hS : tSo kc C) (hc0 : ZM l D yX2_compareTo (ws_ yX2_compareTo cX2_compareTo 2 (some .int)) 3 0 0 eI V [.ref k, .ref k] (fun r V2 => V2 = V ∧ zCmp r c c) zno_x) {v : Nat} : ZM l D yJ4_put (ws_ yJ4_put cJ4_put 3 (some (.object "java/lang/Object"))) 7 1 6 eO V [.ref t, .ref k, .ref v] (fun r V' => (∃ j q, C[j]? = some q ∧ kc q.1 = c ∧ r = some q.2 ∧ tM V' t L (C.set j (q.1, v)) mc ∧ zUnc V V' (tC t L)) ∨ (r = none ∧ ∃ e j, V e = none ∧ j ≤ C.length ∧ tM V' t (lI L j e) (cI C j (k, v)) (mc + nI 1) ∧ (∀ (i : Nat) (q : Nat × Nat), C[i]? = some q → (i < j → lexL (kc q.1) c) ∧ (j ≤ i → lexL c (kc q.1))) ∧ zUnc V V' (tC t L))) zno_x := by
  refine z_enter (by decide +kernel) [(0, .ref t), (1, .ref k), (2, .ref v)] rfl (Nat.le_of_ble_eq_true rfl) (zcat_cons rfl (zcat_cons rfl (zcat_cons rfl zcat_nil))) (fun Γ C hQ => ?_)
  have hT : ∃ f, V t = some (.inr (9, f)) := by obtain ⟨ky, vl, ⟨rt, lf, rg, pa, cl, ps, lo, hi, hI, hW⟩, _⟩ := hM; exact ⟨_, hW.1⟩
  obtain ⟨ft, hT⟩ := hT
  refine z_aload_n C 0 rfl dJ4_put_0 rfl ?_
  refine z_aload_n C 1 rfl dJ4_put_1 rfl ?_
  refine z_aload_n C 2 rfl dJ4_put_2 rfl ?_
  refine z_iconst C (v := (nI 1)) dJ4_put_3 rfl ?_
  refine z_callV C k_TM hT (As := [.ref k, .ref v, .int (nI 1)]) (mJ4_put_2_Y hM hk hcmp hS hc0) (lw_V q1014 q1016 qs16 q64 q1017) rfl hd_J4_put_2 rfl (Nat.le_of_ble_eq_true rfl) (by decide) (by decide) (by decide) (by decide) rfl dJ4_put_4 (fun _ _ h => h.elim) (fun r1 V2 hP3 => ?_)
  refine z_st (st' := [va_rf r1]) rfl ?_
  exact z_aretQ C hQ r1 rfl (Or.inl ⟨_, rfl⟩) hP3 (by decide) (by decide) dJ4_put_7
set_option maxHeartbeats 4000000 in
set_option maxRecDepth 100000 in
theorem mJ4_key {l : Launch} {D : ZD} {V : ZV} {e k v : Nat} {x2 x3 x4 x5 : Value} (he : V e = some (.inr (12, [.ref k, .ref v, x2, x3, x4, x5]))) : ZM l D yJ4_key (ws_ yJ4_key cJ4_key 1 (some (.object "java/lang/Object"))) 1 0 0 eR V [.ref e] (fun r V' => V' = V ∧ r = k) zno_x := by
  refine z_enter (by decide +kernel) [(0, .ref e)] rfl (Nat.le_of_ble_eq_true rfl) (zcat_cons rfl zcat_nil) (fun Γ C hQ => ?_)
  refine z_aload_n C 0 rfl dJ4_key_0 rfl ?_
  refine z_ifnonnull_r C 12 dJ4_key_1 (by decide) ?_
  refine z_aload_n C 0 rfl dJ4_key_12 rfl ?_
  refine z_get C k_E he 0 (by decide) rfl q1033 dJ4_key_13 ?_
  exact z_aret C hQ k rfl (Or.inl ⟨_, rfl⟩) ⟨rfl, rfl⟩ (by decide) (by decide) dJ4_key_16
set_option maxHeartbeats 4000000 in
set_option maxRecDepth 100000 in
theorem mJ27_init {l : Launch} {D : ZD} {V : ZV} {s : Nat} (hs : V s = some (.inr (13, [.null, .null]))) {e k v : Nat} {x2 x3 x4 x5 : Value} (he : V e = some (.inr (12, [.ref k, .ref v, x2, x3, x4, x5]))) : ZM l D yJ27_init (ws_ yJ27_init cJ27_init 2 none) 2 0 0 eU V [.ref s, .ref e] (fun r V' => V' s = some (.inr (13, [.ref k, .ref v])) ∧ zUnc V V' (fun a => a = s)) zno_x := by
  refine z_enter (by decide +kernel) [(0, .ref s), (1, .ref e)] rfl (Nat.le_of_ble_eq_true rfl) (zcat_cons rfl (zcat_cons rfl zcat_nil)) (fun Γ C hQ => ?_)
  have hU1 : zUnc V V (fun z_ => z_ = s) := zUnc.rf
  refine z_aload_n C 0 rfl dJ27_init_0 rfl ?_
  refine z_objInit C q1326 q103 q104 dJ27_init_1 (by decide) (by decide) ?_
  refine z_aload_n C 0 rfl dJ27_init_4 rfl ?_
  refine z_aload_n C 1 rfl dJ27_init_5 rfl ?_
  refine z_callF C k_E he (As := []) (mJ24_getKey he) (lw_app (lw_in _ [1328, 1338, 1340, 90] (by decide +kernel) (by decide +kernel)) (lw_meth q1342)) zf_11 hdi_Map_Entry_getKey rfl (Nat.le_of_ble_eq_true rfl) (by decide) (by decide) (by decide) (by decide) rfl dJ27_init_6 (fun _ _ h => h.elim) (fun r2 V3 hP4 => ?_)
  rw [hP4.1, hP4.2]
  refine z_st (st' := [.ref k, .ref s]) rfl ?_
  refine z_putF C k_SI hs 0 (by decide) [.ref k, .null] rfl (Nat.le_of_ble_eq_true rfl) rfl rfl rfl rfl rfl q1357 dJ27_init_11 (z_nV (fun V5 hV6 => ?_))
  have hU7 := zUnc.up (S := (fun z_ => z_ = s)) hU1 hV6 rfl
  have g8 := zup hV6 (zne_cc he hs (by decide)) he
  have g9 : V5 s = some (.inr (13, [.ref k, .null])) := zself hV6
  refine z_aload_n C 0 rfl dJ27_init_14 rfl ?_
  refine z_aload_n C 1 rfl dJ27_init_15 rfl ?_
  refine z_callF C k_E g8 (As := []) (mJ24_getValue g8) (lw_app (lw_in _ [1344, 1352, 1354, 90] (by decide +kernel) (by decide +kernel)) (lw_meth q1356)) zf_12 hdi_Map_Entry_getValue rfl (Nat.le_of_ble_eq_true rfl) (by decide) (by decide) (by decide) (by decide) rfl dJ27_init_16 (fun _ _ h => h.elim) (fun r10 V11 hP12 => ?_)
  rw [hP12.1, hP12.2]
  refine z_st (st' := [.ref v, .ref s]) rfl ?_
  refine z_putF C k_SI g9 1 (by decide) [.ref k, .ref v] rfl (Nat.le_of_ble_eq_true rfl) rfl rfl rfl rfl rfl q1358 dJ27_init_21 (z_nV (fun V13 hV14 => ?_))
  have hU15 := zUnc.up (S := (fun z_ => z_ = s)) hU7 hV14 rfl
  have g16 := zup hV14 (zne_cc g8 g9 (by decide)) g8
  have g17 : V13 s = some (.inr (13, [.ref k, .ref v])) := zself hV14
  exact z_vret C hQ () rfl ⟨g17, hU15⟩ (by decide) (by decide) dJ27_init_24
set_option maxHeartbeats 4000000 in
set_option maxRecDepth 100000 in
theorem mJ27_getValue {l : Launch} {D : ZD} {V : ZV} {s k v : Nat} (hs : V s = some (.inr (13, [.ref k, .ref v]))) : ZM l D yJ27_getValue (ws_ yJ27_getValue cJ27_getValue 1 (some (.object "java/lang/Object"))) 1 0 0 eR V [.ref s] (fun r V' => V' = V ∧ r = v) zno_x := by
  refine z_enter (by decide +kernel) [(0, .ref s)] rfl (Nat.le_of_ble_eq_true rfl) (zcat_cons rfl zcat_nil) (fun Γ C hQ => ?_)
  refine z_aload_n C 0 rfl dJ27_getValue_0 rfl ?_
  refine z_get C k_SI hs 1 (by decide) rfl q1358 dJ27_getValue_1 ?_
  exact z_aret C hQ v rfl (Or.inl ⟨_, rfl⟩) ⟨rfl, rfl⟩ (by decide) (by decide) dJ27_getValue_4
set_option maxHeartbeats 4000000 in
set_option maxRecDepth 100000 in
theorem mJ4_exportEntry {l : Launch} {D : ZD} {V : ZV} {e k v : Nat} {x2 x3 x4 x5 : Value} (he : V e = some (.inr (12, [.ref k, .ref v, x2, x3, x4, x5]))) : ZM l D yJ4_exportEntry (ws_ yJ4_exportEntry cJ4_exportEntry 1 (some (.object "java/util/Map$Entry"))) 3 1 2 eR V [.ref e] (fun r V' => V' r = some (.inr (13, [.ref k, .ref v])) ∧ V r = none ∧ zUnc V V' (fun _ => False)) zno_x := by
  refine z_enter (by decide +kernel) [(0, .ref e)] rfl (Nat.le_of_ble_eq_true rfl) (zcat_cons rfl zcat_nil) (fun Γ C hQ => ?_)
  have hU1 : zUnc V V (fun _ => False) := zUnc.rf
  refine z_aload_n C 0 rfl dJ4_exportEntry_0 rfl ?_
  refine z_ifnonnull_r C 8 dJ4_exportEntry_1 (by decide) ?_
  refine z_new C k_SI q1321 q1322 q96 [.null, .null] k0_SI (by decide) (by decide) dJ4_exportEntry_8 (fun q2 hq3 => z_nV (fun V4 hV5 => ?_))
  have hf7 := zUnc.none hU1 (fun h => h) hq3
  have hU6 := zUnc.new hU1 hV5 hq3
  have g8 := zup hV5 (zne_new he hq3) he
  have g9 : V4 q2 = some (.inr (13, [.null, .null])) := zself hV5
  refine z_dup C dJ4_exportEntry_11 rfl ?_
  refine z_aload_n C 0 rfl dJ4_exportEntry_12 rfl ?_
  refine z_callI C (rt := none) (As := [.ref e]) (mJ27_init g9 g8) q1325 q96 q1323 q1324 rfl hd_J27_init rfl (Nat.le_of_ble_eq_true rfl) (by decide) (by decide) (by decide) (by decide) rfl dJ4_exportEntry_13 (fun _ _ h => h.elim) (fun r10 V11 hP12 => ?_)
  obtain ⟨hi1, hui⟩ := hP12
  refine z_st (st' := [.ref q2]) rfl ?_
  have hU13 := zUnc.tr (S := (fun _ => False)) hU6 hui (fun a h => Or.inr (by rw [show a = q2 from h]; exact hf7))
  have g14 := zUnc.get hui (fun e9 => (zne_cc g8 g9 (by decide)) e9) g8
  exact z_aret C hQ q2 rfl (Or.inl ⟨_, rfl⟩) ⟨hi1, hf7, hU13⟩ (by decide) (by decide) dJ4_exportEntry_16
set_option maxHeartbeats 4000000 in
set_option maxRecDepth 100000 in
theorem mJ4_firstKey {l : Launch} {D : ZD} {V : ZV} {t : Nat} {L : List Nat} {C : List (Nat × Nat)} {mc : Int32} (hM : tM V t L C mc) {q : Nat × Nat} (h0 : C[0]? = some q) : ZM l D yJ4_firstKey (ws_ yJ4_firstKey cJ4_firstKey 1 (some (.object "java/lang/Object"))) 2 0 0 eR V [.ref t] (fun r V' => V' = V ∧ r = q.1) zno_x := by
  obtain ⟨ky, vl, ⟨rt, lf, rg, pa, cl, ps, lo, hi, hI, hW⟩, rfl⟩ := hM
  refine z_enter (by decide +kernel) [(0, .ref t)] rfl (Nat.le_of_ble_eq_true rfl) (zcat_cons rfl zcat_nil) (fun Γ C hQ => ?_)
  refine z_aload_n C 0 rfl dJ4_firstKey_0 rfl ?_
  refine z_callV C k_TM hW.1 (As := []) (mJ4_getFirstEntry hW hI) (lw_V q1305 q1306 q1307 q64 q1308) rfl hd_J4_getFirstEntry rfl (Nat.le_of_ble_eq_true rfl) (by decide) (by decide) (by decide) (by decide) rfl dJ4_firstKey_1 (fun _ _ h => h.elim) (fun r1 V2 hP3 => ?_)
  obtain ⟨hv9, hc9⟩ := hP3
  rw [hv9]
  rcases hc9 with ⟨_, h2⟩ | ⟨a, h1, ha, hp0⟩
  · exfalso; rw [h2] at h0; cases h0
  have hq0 := tG_at (ky := ky) (vl := vl) hI ha
  rw [hp0, h0] at hq0
  have hq1 : q = (ky a, vl a) := Option.some.inj hq0
  subst h1
  refine z_st (st' := [.ref a]) rfl ?_
  refine z_callS C (As := [.ref a]) (mJ4_key (hW.2 a ha)) (lw_S q1309 q1310 q64 q1311) hd_J4_key rfl (Nat.le_of_ble_eq_true rfl) (by decide) (by decide) (by decide) (by decide) rfl dJ4_firstKey_4 (fun _ _ h => h.elim) (fun r4 V5 hP6 => ?_)
  rw [hP6.1, hP6.2]
  refine z_st (st' := [.ref (ky a)]) rfl ?_
  exact z_aret C hQ (ky a) rfl (Or.inl ⟨_, rfl⟩) ⟨rfl, by rw [hq1]⟩ (by decide) (by decide) dJ4_firstKey_7
set_option maxHeartbeats 4000000 in
set_option maxRecDepth 100000 in
theorem mJ4_firstEntry {l : Launch} {D : ZD} {V : ZV} {t : Nat} {L : List Nat} {C : List (Nat × Nat)} {mc : Int32} (hM : tM V t L C mc) {q : Nat × Nat} (h0 : C[0]? = some q) : ZM l D yJ4_firstEntry (ws_ yJ4_firstEntry cJ4_firstEntry 1 (some (.object "java/util/Map$Entry"))) 4 1 2 eR V [.ref t] (fun r V' => V' r = some (.inr (13, [.ref q.1, .ref q.2])) ∧ V r = none ∧ zUnc V V' (fun _ => False)) zno_x := by
  obtain ⟨ky, vl, ⟨rt, lf, rg, pa, cl, ps, lo, hi, hI, hW⟩, rfl⟩ := hM
  refine z_enter (by decide +kernel) [(0, .ref t)] rfl (Nat.le_of_ble_eq_true rfl) (zcat_cons rfl zcat_nil) (fun Γ C hQ => ?_)
  refine z_aload_n C 0 rfl dJ4_firstEntry_0 rfl ?_
  refine z_callV C k_TM hW.1 (As := []) (mJ4_getFirstEntry hW hI) (lw_V q1305 q1306 q1307 q64 q1308) rfl hd_J4_getFirstEntry rfl (Nat.le_of_ble_eq_true rfl) (by decide) (by decide) (by decide) (by decide) rfl dJ4_firstEntry_1 (fun _ _ h => h.elim) (fun r1 V2 hP3 => ?_)
  obtain ⟨hv9, hc9⟩ := hP3
  rw [hv9]
  rcases hc9 with ⟨_, h2⟩ | ⟨a, h1, ha, hp0⟩
  · exfalso; rw [h2] at h0; cases h0
  have hq0 := tG_at (ky := ky) (vl := vl) hI ha
  rw [hp0, h0] at hq0
  have hq1 : q = (ky a, vl a) := Option.some.inj hq0
  subst h1
  refine z_st (st' := [.ref a]) rfl ?_
  refine z_callS C (As := [.ref a]) (mJ4_exportEntry (hW.2 a ha)) (lw_S q1318 q1319 q64 q1320) hd_J4_exportEntry rfl (Nat.le_of_ble_eq_true rfl) (by decide) (by decide) (by decide) (by decide) rfl dJ4_firstEntry_4 (fun _ _ h => h.elim) (fun r4 V5 hP6 => ?_)
  refine z_st (st' := [.ref r4]) rfl ?_
  exact z_aret C hQ r4 rfl (Or.inl ⟨_, rfl⟩) (by rw [hq1]; exact hP6) (by decide) (by decide) dJ4_firstEntry_7
set_option maxHeartbeats 4000000 in
set_option maxRecDepth 100000 in
theorem mJ4_size {l : Launch} {D : ZD} {V : ZV} {t : Nat} {L : List Nat} {C : List (Nat × Nat)} {mc : Int32} (hM : tM V t L C mc)  : ZM l D yJ4_size (ws_ yJ4_size cJ4_size 1 (some .int)) 1 0 0 eN V [.ref t] (fun r V' => V' = V ∧ r = C.length) zno_x := by
  obtain ⟨ky, vl, ⟨rt, lf, rg, pa, cl, ps, lo, hi, hI, hW⟩, rfl⟩ := hM
  refine z_enter (by decide +kernel) [(0, .ref t)] rfl (Nat.le_of_ble_eq_true rfl) (zcat_cons rfl zcat_nil) (fun Γ C hQ => ?_)
  refine z_aload_n C 0 rfl dJ4_size_0 rfl ?_
  refine z_get C k_TM hW.1 4 (by decide) rfl q163 dJ4_size_1 ?_
  exact z_iret C hQ L.length rfl ⟨rfl, (List.length_map _).symm⟩ (by decide) (by decide) dJ4_size_4
set_option maxHeartbeats 4000000 in
set_option maxRecDepth 100000 in
theorem mJ3_isEmpty {l : Launch} {D : ZD} {V : ZV} {t : Nat} {L : List Nat} {C : List (Nat × Nat)} {mc : Int32} (hM : tM V t L C mc) (hC : C.length < 1000000) : ZM l D yJ3_isEmpty (ws_ yJ3_isEmpty cJ3_isEmpty 1 (some .boolean)) 2 0 0 eB V [.ref t] (fun r V' => V' = V ∧ r = decide (C.length = 0)) zno_x := by
  obtain ⟨ky, vl, ⟨rt, lf, rg, pa, cl, ps, lo, hi, hI, hW⟩, rfl⟩ := hM
  refine z_enter (by decide +kernel) [(0, .ref t)] rfl (Nat.le_of_ble_eq_true rfl) (zcat_cons rfl zcat_nil) (fun Γ C hQ => ?_)
  refine z_aload_n C 0 rfl dJ3_isEmpty_0 rfl ?_
  refine z_callA C k_TM hW.1 (As := []) (owner := "java/util/AbstractMap") (x := ⟨"java/util/AbstractMap", "size", "()I"⟩) (mJ4_size ⟨ky, vl, ⟨rt, lf, rg, pa, cl, ps, lo, hi, hI, hW⟩, rfl⟩) (lw_app (lw_in _ [1296, 1298, 1299, 958, 64] (by decide +kernel) (by decide +kernel)) (lw_meth q960)) q1300 (by decide +kernel) rfl (Nat.le_of_ble_eq_true rfl) (by decide) (by decide) (by decide) (by decide) rfl dJ3_isEmpty_1 (fun _ _ h => h.elim) (fun r1 V2 hP3 => ?_)
  rw [hP3.1, hP3.2]
  refine z_st (st' := [.int (nI ((L.map (tG ky vl)).length))]) rfl ?_
  refine z_if_neN C 11 (by omega) dJ3_isEmpty_4 (by decide) (fun c4 => ?_) (fun c4 => ?_)
  · skip
    refine z_iconst C (v := (nI 0)) dJ3_isEmpty_11 rfl ?_
    exact z_zret C hQ false rfl rfl ⟨rfl, by first | exact (decide_eq_true c4).symm | exact (decide_eq_false (by omega)).symm⟩ (by decide) (by decide) dJ3_isEmpty_12
  · skip
    refine z_iconst C (v := (nI 1)) dJ3_isEmpty_7 rfl ?_
    refine z_goto C 12 dJ3_isEmpty_8 (by decide) ?_
    exact z_zret C hQ true rfl rfl ⟨rfl, by first | exact (decide_eq_true c4).symm | exact (decide_eq_false (by omega)).symm⟩ (by decide) (by decide) dJ3_isEmpty_12
