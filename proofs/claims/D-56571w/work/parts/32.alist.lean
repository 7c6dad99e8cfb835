/-! JDK: ArrayList -/
set_option maxRecDepth 100000
/-- the list al holds L -/
def hAL (D : ZD) (V : ZV) (al : Nat) (L : List Nat) (d cap : Nat) (f : Nat → Option Nat) (mc : Int32) : Prop :=
  V al = some (.inr (8, [.int mc, .ref d, .int (nI L.length)])) ∧ ((cap = 0 ∧ d = D.at 0 ∧ L = []) ∨ ((cap = 10 ∨ cap = 15 ∨ cap = 22 ∨ cap = 33) ∧ V d = some (.inl (D.arr 2, cap, .inr (.inr (.inr (.inr f))))) ∧ L.length ≤ cap ∧ ∀ (i x : Nat), L[i]? = some x → f i = some x))
theorem zcpyo {f g : Nat → Option Nat} {n i : Nat} (h : i < n) : va_cpy f g 0 0 n i = f i := by
  unfold va_cpy; rw [if_pos (by omega)]; congr 1; omega
theorem zUnc.mono {V V' : ZV} {S S' : Nat → Prop} (h : zUnc V V' S) (hs : ∀ a, S a → S' a) : zUnc V V' S' := fun a ha hn => h a (fun z => ha (hs a z)) hn
theorem hAL_snoc {D : ZD} {V : ZV} {al d cap x : Nat} {L : List Nat} {g : Nat → Option Nat} {mc : Int32} (h1 : V al = some (.inr (8, [.int mc, .ref d, .int (nI (L.length + 1))]))) (hc : cap = 10 ∨ cap = 15 ∨ cap = 22 ∨ cap = 33) (h2 : V d = some (.inl (D.arr 2, cap, .inr (.inr (.inr (.inr (va_up g L.length (some x)))))))) (hl : L.length < cap) (hg : ∀ i y : Nat, L[i]? = some y → g i = some y) : hAL D V al (L ++ [x]) d cap (va_up g L.length (some x)) mc := by
  have hlen : (L ++ [x]).length = L.length + 1 := by simp
  refine ⟨by rw [hlen]; exact h1, Or.inr ⟨hc, h2, by rw [hlen]; exact hl, fun i y hy => ?_⟩⟩
  rcases Nat.lt_trichotomy i L.length with q | q | q
  · rw [zvn (by omega)]
    rw [List.getElem?_append_left q] at hy
    exact hg i y hy
  · subst q
    rw [zvs]
    have : (L ++ [x])[L.length]? = some x := by simp
    rw [this] at hy; exact hy
  · rw [List.getElem?_eq_none (by rw [hlen]; omega)] at hy; cases hy
theorem hAL_mv {D : ZD} {V V' : ZV} {al d cap : Nat} {L : List Nat} {f : Nat → Option Nat} {mc mc2 : Int32} (h : hAL D V al L d cap f mc) (h1 : V' al = some (.inr (8, [.int mc2, .ref d, .int (nI L.length)]))) (hu : zUnc V V' (fun a => a = al)) : hAL D V' al L d cap f mc2 := by
  refine ⟨h1, ?_⟩
  rcases h.2 with q | ⟨q1, q2, q3⟩
  · exact Or.inl q
  · exact Or.inr ⟨q1, hu.get (fun e => zne_ao q2 h.1 e) q2, q3⟩

set_option maxHeartbeats 4000000 in
set_option maxRecDepth 100000 in
theorem mJ0_init {l : Launch} {D : ZD} {V : ZV} {a : Nat} : ZM l D yJ0_init (ws_ yJ0_init cJ0_init 1 none) 2 0 0 eU V [.ref a] (fun r V' => V' = V) zno_x := by
  refine z_enter (by decide +kernel) [(0, .ref a)] rfl (Nat.le_of_ble_eq_true rfl) (zcat_cons rfl zcat_nil) (fun Γ C hQ => ?_)
  refine z_aload_n C 0 rfl dJ0_init_0 rfl ?_
  refine z_objInit C q134 q103 q104 dJ0_init_1 (by decide) (by decide) ?_
  exact z_vret C hQ () rfl rfl (by decide) (by decide) dJ0_init_4
set_option maxHeartbeats 4000000 in
set_option maxRecDepth 100000 in
theorem mJ1_init {l : Launch} {D : ZD} {V : ZV} {a : Nat} {x : Value} {y : Value} {mc : Int32} (ha : V a = some (.inr (8, [.int mc, x, y]))) : ZM l D yJ1_init (ws_ yJ1_init cJ1_init 1 none) 3 0 0 eU V [.ref a] (fun r V' => V' a = some (.inr (8, [.int (nI 0), x, y])) ∧ zUnc V V' (fun z_ => z_ = a)) zno_x := by
  refine z_enter (by decide +kernel) [(0, .ref a)] rfl (Nat.le_of_ble_eq_true rfl) (zcat_cons rfl zcat_nil) (fun Γ C hQ => ?_)
  have hU1 : zUnc V V (fun z_ => z_ = a) := zUnc.rf
  refine z_aload_n C 0 rfl dJ1_init_0 rfl ?_
  refine z_callI C (rt := none) (As := []) (mJ0_init) q133 q60 q131 q132 rfl hd_J0_init rfl (Nat.le_of_ble_eq_true rfl) (by decide) (by decide) (by decide) (by decide) rfl dJ1_init_1 (fun _ _ h => h.elim) (fun r2 V3 hP4 => ?_)
  rw [hP4]
  refine z_st (st' := []) rfl ?_
  refine z_aload_n C 0 rfl dJ1_init_4 rfl ?_
  refine z_iconst C (v := (nI 0)) dJ1_init_5 rfl ?_
  refine z_put C k_AL ha 0 (by decide) [.int (nI 0), x, y] rfl (Nat.le_of_ble_eq_true rfl) rfl rfl rfl q141 dJ1_init_6 (z_nV (fun V5 hV6 => ?_))
  have hU7 := zUnc.up (S := (fun z_ => z_ = a)) hU1 hV6 rfl
  have g8 : V5 a = some (.inr (8, [.int (nI 0), x, y])) := zself hV6
  exact z_vret C hQ () rfl ⟨g8, hU7⟩ (by decide) (by decide) dJ1_init_9
set_option maxHeartbeats 4000000 in
set_option maxRecDepth 100000 in
theorem mJ2_init {l : Launch} {D : ZD} {V : ZV} {al : Nat} (ha : V al = some (.inr (8, [.int (nI 0), .null, .int (nI 0)]))) : ZM l D yJ2_init (ws_ yJ2_init cJ2_init 1 none) 4 0 0 eU V [.ref al] (fun r V' => hAL D V' al [] (D.at 0) 0 (fun _ => none) 0 ∧ zUnc V V' (fun a => a = al)) zno_x := by
  refine z_enter (by decide +kernel) [(0, .ref al)] rfl (Nat.le_of_ble_eq_true rfl) (zcat_cons rfl zcat_nil) (fun Γ C hQ => ?_)
  have hU1 : zUnc V V (fun z_ => z_ = al) := zUnc.rf
  refine z_aload_n C 0 rfl dJ2_init_0 rfl ?_
  refine z_callI C (rt := none) (As := []) (mJ1_init ha) q130 q61 q128 q129 rfl hd_J1_init rfl (Nat.le_of_ble_eq_true rfl) (by decide) (by decide) (by decide) (by decide) rfl dJ2_init_1 (fun _ _ h => h.elim) (fun r2 V3 hP4 => ?_)
  obtain ⟨hi1, hui⟩ := hP4
  refine z_st (st' := []) rfl ?_
  have hU5 := zUnc.tr (S := (fun z_ => z_ = al)) hU1 hui (fun a h => Or.inl h)
  refine z_aload_n C 0 rfl dJ2_init_4 rfl ?_
  refine z_getsD C q135 dJ2_init_5 ?_
  refine z_put C k_AL hi1 1 (by decide) [.int (nI 0), .ref (D.at 0), .int (nI 0)] rfl (Nat.le_of_ble_eq_true rfl) rfl rfl rfl q137 dJ2_init_8 (z_nV (fun V6 hV7 => ?_))
  have hU8 := zUnc.up (S := (fun z_ => z_ = al)) hU5 hV7 rfl
  have g9 : V6 al = some (.inr (8, [.int (nI 0), .ref (D.at 0), .int (nI 0)])) := zself hV7
  exact z_vret C hQ () rfl ⟨⟨g9, Or.inl ⟨rfl, rfl, rfl⟩⟩, hU8⟩ (by decide) (by decide) dJ2_init_11
set_option maxHeartbeats 4000000 in
set_option maxRecDepth 100000 in
theorem mJ22_newLength {l : Launch} {D : ZD} {V : ZV} {o a b : Nat} (ho : o < 100000) (ha : a < 100000) (hb : b < 100000) (h1 : 1 ≤ a) : ZM l D yJ22_newLength (ws_ yJ22_newLength cJ22_newLength 4 (some .int)) 2 0 0 eN V [.int (nI o), .int (nI a), .int (nI b)] (fun r V' => V' = V ∧ r = o + max a b) zno_x := by
  refine z_enter (by decide +kernel) [(0, .int (nI o)), (1, .int (nI a)), (2, .int (nI b))] rfl (Nat.le_of_ble_eq_true rfl) (zcat_cons rfl (zcat_cons rfl (zcat_cons rfl zcat_nil))) (fun Γ C hQ => ?_)
  refine z_iload_n C 0 rfl dJ22_newLength_0 rfl ?_
  refine z_iload_n C 1 rfl dJ22_newLength_1 rfl ?_
  refine z_iload_n C 2 rfl dJ22_newLength_2 rfl ?_
  refine z_mmax C (by omega) (by omega) q879 (Nat.le_of_ble_eq_true rfl) (Nat.le_of_ble_eq_true rfl) (by decide) (by decide) dJ22_newLength_3 ?_
  refine z_iaddN C dJ22_newLength_6 ?_
  refine z_istore_n C [(3, .int (nI (o + (max a b)))), (0, .int (nI o)), (1, .int (nI a)), (2, .int (nI b))] dJ22_newLength_7 rfl (by decide) rfl ?_
  refine z_iconst C (v := (nI 0)) dJ22_newLength_8 rfl ?_
  refine z_iload_n C 0 rfl dJ22_newLength_9 rfl ?_
  refine z_icmp_geN C 21 (by omega) (by omega) dJ22_newLength_10 (by decide) (fun c10 => ?_) (fun c10 => ?_)
  · skip
    exfalso; omega
  · skip
    refine z_iload_n C 0 rfl dJ22_newLength_13 rfl ?_
    refine z_ldc C q882 dJ22_newLength_14 ?_
    refine z_top (v := .int (nI 2147483639)) (by rfl) ?_
    refine z_icmp_gtN C 21 (by omega) (by omega) dJ22_newLength_16 (by decide) (fun c16 => ?_) (fun c16 => ?_)
    · skip
      exfalso; omega
    · skip
      refine z_iload_n C 0 rfl dJ22_newLength_19 rfl ?_
      exact z_iret C hQ (o + (max a b)) rfl ⟨rfl, rfl⟩ (by decide) (by decide) dJ22_newLength_20
set_option maxHeartbeats 4000000 in
set_option maxRecDepth 100000 in
theorem mJ23_copyOf_2_A {l : Launch} {D : ZD} {V : ZV} {a n m : Nat} {f : Nat → Option Nat} (ha : V a = some (.inl (D.arr 2, n, .inr (.inr (.inr (.inr f)))))) (hnm : n ≤ m) (hm : m ≤ 100000) (hel : ∀ i, i < n → ∀ y, f i = some y → ∃ vs, V y = some (.inr (7, vs))) : ZM l D yJ23_copyOf_2 (ws_ yJ23_copyOf_2 cJ23_copyOf_2 4 (some (.array (.object "java/lang/Object")))) 3 1 m eR V [.ref a, .int (nI m), .ref (D.at 2)] (fun r V' => ∃ g, V' r = some (.inl (D.arr 2, m, .inr (.inr (.inr (.inr g))))) ∧ V r = none ∧ zUnc V V' (fun _ => False) ∧ ∀ i, i < n → g i = f i) zno_x := by
  refine z_enter (by decide +kernel) [(0, .ref a), (1, .int (nI m)), (2, .ref (D.at 2))] rfl (Nat.le_of_ble_eq_true rfl) (zcat_cons rfl (zcat_cons rfl (zcat_cons rfl zcat_nil))) (fun Γ C hQ => ?_)
  have hU1 : zUnc V V (fun _ => False) := zUnc.rf
  refine z_aload_n C 2 rfl dJ23_copyOf_2_0 rfl ?_
  refine z_ldcM C q918 dJ23_copyOf_2_1 ?_
  refine z_acmp_ne C (some (D.at 2)) (some (D.at 2)) 13 dJ23_copyOf_2_3 (by decide) (fun c3 => ?_) (fun c3 => ?_)
  · skip
    exfalso; exact absurd rfl c3
  · skip
    refine z_iload_n C 1 rfl dJ23_copyOf_2_6 rfl ?_
    refine z_newq C 2 (by decide) q919 (by omega) (by simp only [zr]; omega) (by simp only [zr]; omega) dJ23_copyOf_2_7 (fun q2 hq3 => z_nV (fun V4 hV5 => ?_))
    have hf7 := zUnc.none hU1 (fun h => h) hq3
    have hU6 := zUnc.new hU1 hV5 hq3
    have nx8 : a ≠ q2 := (zne_new ha hq3)
    have g9 := zup hV5 (zne_new ha hq3) ha
    have g10 : V4 q2 = some (.inl (D.arr 2, m, .inr (.inr (.inr (.inr (fun _ => none)))))) := zself hV5
    refine z_goto C 24 dJ23_copyOf_2_10 (by decide) ?_
    refine z_astore_n C [(3, .ref q2), (0, .ref a), (1, .int (nI m)), (2, .ref (D.at 2))] dJ23_copyOf_2_24 rfl (by decide) rfl ?_
    refine z_aload_n C 1 rfl dJ23_copyOf_2_25 rfl ?_
    refine z_iconst C (v := (nI 0)) dJ23_copyOf_2_26 rfl ?_
    refine z_aload_n C 0 rfl dJ23_copyOf_2_27 rfl ?_
    refine z_iconst C (v := (nI 0)) dJ23_copyOf_2_28 rfl ?_
    refine z_aload_n C 1 rfl dJ23_copyOf_2_29 rfl ?_
    refine z_alen C 2 rfl g9 (n := n) rfl dJ23_copyOf_2_30 ?_
    refine z_iload_n C 2 rfl dJ23_copyOf_2_31 rfl ?_
    refine z_mmin C (by omega) (by omega) q920 (Nat.le_of_ble_eq_true rfl) (Nat.le_of_ble_eq_true rfl) (by simp only [zr]; omega) (by simp only [zr]; omega) dJ23_copyOf_2_32 ?_
    refine z_top (v := .int (nI n)) (by rw [Nat.min_eq_left hnm]) ?_
    refine z_copyq C 2 (by decide) k_A (Or.inr q1717) q921 q923 q922 q88 g9 g10 (fun i hi z hz => by obtain ⟨vs, hvs⟩ := hel i (by omega) z (by simpa using hz); exact ⟨vs, hU6.get (fun h => h) hvs⟩) (by omega) (by omega) (by omega) (by omega) (Nat.le_of_ble_eq_true rfl) (Nat.le_of_ble_eq_true rfl) dJ23_copyOf_2_35 (z_nV (fun V11 hV12 => ?_))
    have hU13 := zUnc.upn hU6 hV12 hf7
    have g14 := zup hV12 nx8 g9
    have g15 : V11 q2 = some (.inl (D.arr 2, m, .inr (.inr (.inr (.inr (va_cpy f (fun _ => none) 0 0 n)))))) := zself hV12
    refine z_aload_n C 0 rfl dJ23_copyOf_2_38 rfl ?_
    exact z_aret C hQ q2 rfl (Or.inr ⟨_, rfl⟩) ⟨_, g15, hf7, hU13, fun i hi => zcpyo hi⟩ (by omega) (by omega) dJ23_copyOf_2_39
set_option maxHeartbeats 4000000 in
set_option maxRecDepth 100000 in
theorem mJ23_copyOf_A {l : Launch} {D : ZD} {V : ZV} {a n m : Nat} {f : Nat → Option Nat} (ha : V a = some (.inl (D.arr 2, n, .inr (.inr (.inr (.inr f)))))) (hnm : n ≤ m) (hm : m ≤ 100000) (hel : ∀ i, i < n → ∀ y, f i = some y → ∃ vs, V y = some (.inr (7, vs))) : ZM l D yJ23_copyOf (ws_ yJ23_copyOf cJ23_copyOf 2 (some (.array (.object "java/lang/Object")))) 4 1 m eR V [.ref a, .int (nI m)] (fun r V' => ∃ g, V' r = some (.inl (D.arr 2, m, .inr (.inr (.inr (.inr g))))) ∧ V r = none ∧ zUnc V V' (fun _ => False) ∧ ∀ i, i < n → g i = f i) zno_x := by
  refine z_enter (by decide +kernel) [(0, .ref a), (1, .int (nI m))] rfl (Nat.le_of_ble_eq_true rfl) (zcat_cons rfl (zcat_cons rfl zcat_nil)) (fun Γ C hQ => ?_)
  refine z_aload_n C 0 rfl dJ23_copyOf_0 rfl ?_
  refine z_iload_n C 1 rfl dJ23_copyOf_1 rfl ?_
  refine z_aload_n C 0 rfl dJ23_copyOf_2 rfl ?_
  refine z_getC C ha q889 (Nat.le_of_ble_eq_true rfl) (Nat.le_of_ble_eq_true rfl) dJ23_copyOf_3 ?_
  refine z_callS C (As := [.ref a, .int (nI m), .ref (D.at 2)]) (mJ23_copyOf_2_A ha hnm hm hel) (lw_S q915 q916 q87 q917) hd_J23_copyOf_2 rfl (Nat.le_of_ble_eq_true rfl) (by decide) (by decide) (by omega) (by omega) rfl dJ23_copyOf_6 (fun _ _ h => h.elim) (fun r1 V2 hP3 => ?_)
  refine z_st (st' := [.ref r1]) rfl ?_
  exact z_aret C hQ r1 rfl (Or.inr ⟨_, rfl⟩) hP3 (by omega) (by omega) dJ23_copyOf_9
set_option maxHeartbeats 4000000 in
set_option maxRecDepth 100000 in
theorem mJ23_copyOf_2_P {l : Launch} {D : ZD} {V : ZV} {a n m : Nat} {f : Nat → Option Nat} (ha : V a = some (.inl (D.arr 2, n, .inr (.inr (.inr (.inr f)))))) (hnm : n ≤ m) (hm : m ≤ 100000) (hel : ∀ i, i < n → ∀ y, f i = some y → ∃ vs, V y = some (.inr (5, vs))) : ZM l D yJ23_copyOf_2 (ws_ yJ23_copyOf_2 cJ23_copyOf_2 4 (some (.array (.object "java/lang/Object")))) 3 1 m eR V [.ref a, .int (nI m), .ref (D.at 2)] (fun r V' => ∃ g, V' r = some (.inl (D.arr 2, m, .inr (.inr (.inr (.inr g))))) ∧ V r = none ∧ zUnc V V' (fun _ => False) ∧ ∀ i, i < n → g i = f i) zno_x := by
  refine z_enter (by decide +kernel) [(0, .ref a), (1, .int (nI m)), (2, .ref (D.at 2))] rfl (Nat.le_of_ble_eq_true rfl) (zcat_cons rfl (zcat_cons rfl (zcat_cons rfl zcat_nil))) (fun Γ C hQ => ?_)
  have hU1 : zUnc V V (fun _ => False) := zUnc.rf
  refine z_aload_n C 2 rfl dJ23_copyOf_2_0 rfl ?_
  refine z_ldcM C q918 dJ23_copyOf_2_1 ?_
  refine z_acmp_ne C (some (D.at 2)) (some (D.at 2)) 13 dJ23_copyOf_2_3 (by decide) (fun c3 => ?_) (fun c3 => ?_)
  · skip
    exfalso; exact absurd rfl c3
  · skip
    refine z_iload_n C 1 rfl dJ23_copyOf_2_6 rfl ?_
    refine z_newq C 2 (by decide) q919 (by omega) (by simp only [zr]; omega) (by simp only [zr]; omega) dJ23_copyOf_2_7 (fun q2 hq3 => z_nV (fun V4 hV5 => ?_))
    have hf7 := zUnc.none hU1 (fun h => h) hq3
    have hU6 := zUnc.new hU1 hV5 hq3
    have nx8 : a ≠ q2 := (zne_new ha hq3)
    have g9 := zup hV5 (zne_new ha hq3) ha
    have g10 : V4 q2 = some (.inl (D.arr 2, m, .inr (.inr (.inr (.inr (fun _ => none)))))) := zself hV5
    refine z_goto C 24 dJ23_copyOf_2_10 (by decide) ?_
    refine z_astore_n C [(3, .ref q2), (0, .ref a), (1, .int (nI m)), (2, .ref (D.at 2))] dJ23_copyOf_2_24 rfl (by decide) rfl ?_
    refine z_aload_n C 1 rfl dJ23_copyOf_2_25 rfl ?_
    refine z_iconst C (v := (nI 0)) dJ23_copyOf_2_26 rfl ?_
    refine z_aload_n C 0 rfl dJ23_copyOf_2_27 rfl ?_
    refine z_iconst C (v := (nI 0)) dJ23_copyOf_2_28 rfl ?_
    refine z_aload_n C 1 rfl dJ23_copyOf_2_29 rfl ?_
    refine z_alen C 2 rfl g9 (n := n) rfl dJ23_copyOf_2_30 ?_
    refine z_iload_n C 2 rfl dJ23_copyOf_2_31 rfl ?_
    refine z_mmin C (by omega) (by omega) q920 (Nat.le_of_ble_eq_true rfl) (Nat.le_of_ble_eq_true rfl) (by simp only [zr]; omega) (by simp only [zr]; omega) dJ23_copyOf_2_32 ?_
    refine z_top (v := .int (nI n)) (by rw [Nat.min_eq_left hnm]) ?_
    refine z_copyq C 2 (by decide) k_P (Or.inr q1713) q921 q923 q922 q88 g9 g10 (fun i hi z hz => by obtain ⟨vs, hvs⟩ := hel i (by omega) z (by simpa using hz); exact ⟨vs, hU6.get (fun h => h) hvs⟩) (by omega) (by omega) (by omega) (by omega) (Nat.le_of_ble_eq_true rfl) (Nat.le_of_ble_eq_true rfl) dJ23_copyOf_2_35 (z_nV (fun V11 hV12 => ?_))
    have hU13 := zUnc.upn hU6 hV12 hf7
    have g14 := zup hV12 nx8 g9
    have g15 : V11 q2 = some (.inl (D.arr 2, m, .inr (.inr (.inr (.inr (va_cpy f (fun _ => none) 0 0 n)))))) := zself hV12
    refine z_aload_n C 0 rfl dJ23_copyOf_2_38 rfl ?_
    exact z_aret C hQ q2 rfl (Or.inr ⟨_, rfl⟩) ⟨_, g15, hf7, hU13, fun i hi => zcpyo hi⟩ (by omega) (by omega) dJ23_copyOf_2_39
set_option maxHeartbeats 4000000 in
set_option maxRecDepth 100000 in
theorem mJ23_copyOf_P {l : Launch} {D : ZD} {V : ZV} {a n m : Nat} {f : Nat → Option Nat} (ha : V a = some (.inl (D.arr 2, n, .inr (.inr (.inr (.inr f)))))) (hnm : n ≤ m) (hm : m ≤ 100000) (hel : ∀ i, i < n → ∀ y, f i = some y → ∃ vs, V y = some (.inr (5, vs))) : ZM l D yJ23_copyOf (ws_ yJ23_copyOf cJ23_copyOf 2 (some (.array (.object "java/lang/Object")))) 4 1 m eR V [.ref a, .int (nI m)] (fun r V' => ∃ g, V' r = some (.inl (D.arr 2, m, .inr (.inr (.inr (.inr g))))) ∧ V r = none ∧ zUnc V V' (fun _ => False) ∧ ∀ i, i < n → g i = f i) zno_x := by
  refine z_enter (by decide +kernel) [(0, .ref a), (1, .int (nI m))] rfl (Nat.le_of_ble_eq_true rfl) (zcat_cons rfl (zcat_cons rfl zcat_nil)) (fun Γ C hQ => ?_)
  refine z_aload_n C 0 rfl dJ23_copyOf_0 rfl ?_
  refine z_iload_n C 1 rfl dJ23_copyOf_1 rfl ?_
  refine z_aload_n C 0 rfl dJ23_copyOf_2 rfl ?_
  refine z_getC C ha q889 (Nat.le_of_ble_eq_true rfl) (Nat.le_of_ble_eq_true rfl) dJ23_copyOf_3 ?_
  refine z_callS C (As := [.ref a, .int (nI m), .ref (D.at 2)]) (mJ23_copyOf_2_P ha hnm hm hel) (lw_S q915 q916 q87 q917) hd_J23_copyOf_2 rfl (Nat.le_of_ble_eq_true rfl) (by decide) (by decide) (by omega) (by omega) rfl dJ23_copyOf_6 (fun _ _ h => h.elim) (fun r1 V2 hP3 => ?_)
  refine z_st (st' := [.ref r1]) rfl ?_
  exact z_aret C hQ r1 rfl (Or.inr ⟨_, rfl⟩) hP3 (by omega) (by omega) dJ23_copyOf_9
set_option maxHeartbeats 4000000 in
set_option maxRecDepth 100000 in
theorem mJ2_grow_2_n {l : Launch} {D : ZD} {V : ZV} {al d n cap : Nat} {mc : Int32} {f : Nat → Option Nat} (hal : V al = some (.inr (8, [.int mc, .ref d, .int (nI n)]))) (hd : V d = some (.inl (D.arr 2, cap, .inr (.inr (.inr (.inr f)))))) (hc1 : 2 ≤ cap) (hc : cap ≤ 22) (hel : ∀ i, i < cap → ∀ y, f i = some y → ∃ vs, V y = some (.inr (7, vs))) : ZM l D yJ2_grow_2 (ws_ yJ2_grow_2 cJ2_grow_2 4 (some (.array (.object "java/lang/Object")))) 5 1 33 eR V [.ref al, .int (nI (cap + 1))] (fun r V' => ∃ g, V' al = some (.inr (8, [.int mc, .ref r, .int (nI n)])) ∧ V' r = some (.inl (D.arr 2, cap + cap / 2, .inr (.inr (.inr (.inr g))))) ∧ V r = none ∧ zUnc V V' (fun a => a = al) ∧ ∀ i, i < cap → g i = f i) zno_x := by
  refine z_enter (by decide +kernel) [(0, .ref al), (1, .int (nI (cap + 1)))] rfl (Nat.le_of_ble_eq_true rfl) (zcat_cons rfl (zcat_cons rfl zcat_nil)) (fun Γ C hQ => ?_)
  have hU1 : zUnc V V (fun z_ => z_ = al) := zUnc.rf
  refine z_aload_n C 0 rfl dJ2_grow_2_0 rfl ?_
  refine z_get C k_AL hal 1 (by decide) rfl q137 dJ2_grow_2_1 ?_
  refine z_alen C 2 rfl hd (n := cap) rfl dJ2_grow_2_4 ?_
  refine z_istore_n C [(2, .int (nI cap)), (0, .ref al), (1, .int (nI (cap + 1)))] dJ2_grow_2_5 rfl (by decide) rfl ?_
  refine z_iload_n C 0 rfl dJ2_grow_2_6 rfl ?_
  refine z_if_gtN C 20 (by omega) dJ2_grow_2_7 (by decide) (fun c7 => ?_) (fun c7 => ?_)
  · skip
    refine z_iload_n C 0 rfl dJ2_grow_2_20 rfl ?_
    refine z_iload_n C 2 rfl dJ2_grow_2_21 rfl ?_
    refine z_iload_n C 0 rfl dJ2_grow_2_22 rfl ?_
    refine z_isubN C (by omega) dJ2_grow_2_23 ?_
    refine z_iload_n C 0 rfl dJ2_grow_2_24 rfl ?_
    refine z_iconst C (v := (nI 1)) dJ2_grow_2_25 rfl ?_
    refine z_ishr C dJ2_grow_2_26 ?_
    refine z_top (v := .int (nI (cap / 2))) (congrArg Value.int (nI_shr (by omega))) ?_
    refine z_callS C (As := [.int (nI cap), .int (nI ((cap + 1) - cap)), .int (nI (cap / 2))]) (mJ22_newLength (by omega) (by omega) (by omega) (by omega)) (lw_S q1209 q877 q86 q878) hd_J22_newLength rfl (Nat.le_of_ble_eq_true rfl) (by decide) (by decide) (by omega) (by omega) rfl dJ2_grow_2_27 (fun _ _ h => h.elim) (fun r2 V3 hP4 => ?_)
    rw [hP4.1, hP4.2]
    refine z_st (st' := [.int (nI (cap + max ((cap + 1) - cap) (cap / 2)))]) rfl ?_
    refine z_top (v := .int (nI (cap + cap / 2))) (by congr 2; omega) ?_
    refine z_istore_n C [(3, .int (nI (cap + cap / 2))), (2, .int (nI cap)), (0, .ref al), (1, .int (nI (cap + 1)))] dJ2_grow_2_30 rfl (by decide) rfl ?_
    refine z_aload_n C 2 rfl dJ2_grow_2_31 rfl ?_
    refine z_aload_n C 2 rfl dJ2_grow_2_32 rfl ?_
    refine z_get C k_AL hal 1 (by decide) rfl q137 dJ2_grow_2_33 ?_
    refine z_iload_n C 0 rfl dJ2_grow_2_36 rfl ?_
    refine z_callS C (As := [.ref d, .int (nI (cap + cap / 2))]) (mJ23_copyOf_A hd (m := cap + cap / 2) (by omega) (by omega) hel) (lw_S q1210 q887 q87 q888) hd_J23_copyOf rfl (Nat.le_of_ble_eq_true rfl) (by decide) (by decide) (by omega) (by omega) rfl dJ2_grow_2_37 (fun _ _ h => h.elim) (fun r5 V6 hP7 => ?_)
    obtain ⟨gg, hc1_, hc2_, hc3_, hc4_⟩ := hP7
    refine z_st (st' := [.ref r5, .ref al]) rfl ?_
    have hU8 := zUnc.tr (S := (fun z_ => z_ = al)) hU1 hc3_ (fun _ h => h.elim)
    have g9 := zUnc.get hc3_ (fun h => h) hal
    have g10 := zUnc.get hc3_ (fun h => h) hd
    refine z_dup_x1 C dJ2_grow_2_40 rfl rfl ?_
    refine z_put C k_AL g9 1 (by decide) [.int mc, .ref r5, .int (nI n)] rfl (Nat.le_of_ble_eq_true rfl) rfl rfl rfl q137 dJ2_grow_2_41 (z_nV (fun V11 hV12 => ?_))
    have hU13 := zUnc.up (S := (fun z_ => z_ = al)) hU8 hV12 rfl
    have g14 := zup hV12 (zne_ao g10 g9) g10
    have g15 := zup hV12 (zne_ao hc1_ g9) hc1_
    have g16 : V11 al = some (.inr (8, [.int mc, .ref r5, .int (nI n)])) := zself hV12
    exact z_aret C hQ r5 rfl (Or.inr ⟨_, rfl⟩) ⟨gg, g16, g15, hc2_, hU13, hc4_⟩ (by omega) (by omega) dJ2_grow_2_44
  · skip
    exfalso; omega
set_option maxHeartbeats 4000000 in
set_option maxRecDepth 100000 in
theorem mJ2_grow_2_0 {l : Launch} {D : ZD} {V : ZV} {al n : Nat} {mc : Int32} (hal : V al = some (.inr (8, [.int mc, .ref (D.at 0), .int (nI n)]))) : ZM l D yJ2_grow_2 (ws_ yJ2_grow_2 cJ2_grow_2 4 (some (.array (.object "java/lang/Object")))) 5 1 33 eR V [.ref al, .int (nI 1)] (fun r V' => V' al = some (.inr (8, [.int mc, .ref r, .int (nI n)])) ∧ V' r = some (.inl (D.arr 2, 10, .inr (.inr (.inr (.inr (fun _ => none)))))) ∧ V r = none ∧ zUnc V V' (fun a => a = al)) zno_x := by
  refine z_enter (by decide +kernel) [(0, .ref al), (1, .int (nI 1))] rfl (Nat.le_of_ble_eq_true rfl) (zcat_cons rfl (zcat_cons rfl zcat_nil)) (fun Γ C hQ => ?_)
  have hU1 : zUnc V V (fun z_ => z_ = al) := zUnc.rf
  refine z_aload_n C 0 rfl dJ2_grow_2_0 rfl ?_
  refine z_get C k_AL hal 1 (by decide) rfl q137 dJ2_grow_2_1 ?_
  refine z_alenD C dJ2_grow_2_4 ?_
  refine z_istore_n C [(2, .int (nI 0)), (0, .ref al), (1, .int (nI 1))] dJ2_grow_2_5 rfl (by decide) rfl ?_
  refine z_iload_n C 0 rfl dJ2_grow_2_6 rfl ?_
  refine z_if_gtN C 20 (by omega) dJ2_grow_2_7 (by decide) (fun c7 => ?_) (fun c7 => ?_)
  · skip
    exfalso; omega
  · skip
    refine z_aload_n C 1 rfl dJ2_grow_2_10 rfl ?_
    refine z_get C k_AL hal 1 (by decide) rfl q137 dJ2_grow_2_11 ?_
    refine z_getsD C q135 dJ2_grow_2_14 ?_
    refine z_acmp_eq C (some (D.at 0)) (some (D.at 0)) 45 dJ2_grow_2_17 (by decide) (fun c17 => ?_) (fun c17 => ?_)
    · skip
      refine z_aload_n C 1 rfl dJ2_grow_2_45 rfl ?_
      refine z_bipush C (v := (nI 10)) dJ2_grow_2_46 rfl ?_
      refine z_iload_n C 2 rfl dJ2_grow_2_48 rfl ?_
      refine z_mmax C (by omega) (by omega) q1211 (Nat.le_of_ble_eq_true rfl) (Nat.le_of_ble_eq_true rfl) (by decide) (by decide) dJ2_grow_2_49 ?_
      refine z_top (v := .int (nI 10)) (by rfl) ?_
      refine z_newq C 2 (by decide) q1212 (by omega) (by decide) (by decide) dJ2_grow_2_52 (fun q2 hq3 => z_nV (fun V4 hV5 => ?_))
      have hf7 := zUnc.none hU1 (fun e => zne_new hal hq3 e.symm) hq3
      have hU6 := zUnc.new hU1 hV5 hq3
      have g8 := zup hV5 (zne_new hal hq3) hal
      have g9 : V4 q2 = some (.inl (D.arr 2, 10, .inr (.inr (.inr (.inr (fun _ => none)))))) := zself hV5
      refine z_dup_x1 C dJ2_grow_2_55 rfl rfl ?_
      refine z_put C k_AL g8 1 (by decide) [.int mc, .ref q2, .int (nI n)] rfl (Nat.le_of_ble_eq_true rfl) rfl rfl rfl q137 dJ2_grow_2_56 (z_nV (fun V10 hV11 => ?_))
      have hU12 := zUnc.up (S := (fun z_ => z_ = al)) hU6 hV11 rfl
      have g13 := zup hV11 (zne_ao g9 g8) g9
      have g14 : V10 al = some (.inr (8, [.int mc, .ref q2, .int (nI n)])) := zself hV11
      exact z_aret C hQ q2 rfl (Or.inr ⟨_, rfl⟩) ⟨g14, g13, hf7, hU12⟩ (by decide) (by decide) dJ2_grow_2_59
    · skip
      exfalso; exact absurd rfl c17
set_option maxHeartbeats 4000000 in
set_option maxRecDepth 100000 in
theorem mJ2_grow_n {l : Launch} {D : ZD} {V : ZV} {al d cap : Nat} {mc : Int32} {f : Nat → Option Nat} (hal : V al = some (.inr (8, [.int mc, .ref d, .int (nI cap)]))) (hd : V d = some (.inl (D.arr 2, cap, .inr (.inr (.inr (.inr f)))))) (hc1 : 2 ≤ cap) (hc : cap ≤ 22) (hel : ∀ i, i < cap → ∀ y, f i = some y → ∃ vs, V y = some (.inr (7, vs))) : ZM l D yJ2_grow (ws_ yJ2_grow cJ2_grow 1 (some (.array (.object "java/lang/Object")))) 6 1 33 eR V [.ref al] (fun r V' => ∃ g, V' al = some (.inr (8, [.int mc, .ref r, .int (nI cap)])) ∧ V' r = some (.inl (D.arr 2, cap + cap / 2, .inr (.inr (.inr (.inr g))))) ∧ V r = none ∧ zUnc V V' (fun a => a = al) ∧ ∀ i, i < cap → g i = f i) zno_x := by
  refine z_enter (by decide +kernel) [(0, .ref al)] rfl (Nat.le_of_ble_eq_true rfl) (zcat_cons rfl zcat_nil) (fun Γ C hQ => ?_)
  refine z_aload_n C 0 rfl dJ2_grow_0 rfl ?_
  refine z_aload_n C 0 rfl dJ2_grow_1 rfl ?_
  refine z_get C k_AL hal 2 (by decide) rfl q140 dJ2_grow_2 ?_
  refine z_iconst C (v := (nI 1)) dJ2_grow_5 rfl ?_
  refine z_iaddN C dJ2_grow_6 ?_
  refine z_callV C k_AL hal (As := [.int (nI (cap + 1))]) (mJ2_grow_2_n hal hd hc1 hc hel) (lw_V q1205 q1207 qs25 q62 q1208) rfl hd_J2_grow_2 rfl (Nat.le_of_ble_eq_true rfl) (by decide) (by decide) (by decide) (by decide) rfl dJ2_grow_7 (fun _ _ h => h.elim) (fun r1 V2 hP3 => ?_)
  refine z_st (st' := [.ref r1]) rfl ?_
  exact z_aret C hQ r1 rfl (Or.inr ⟨_, rfl⟩) hP3 (by decide) (by decide) dJ2_grow_10
set_option maxHeartbeats 4000000 in
set_option maxRecDepth 100000 in
theorem mJ2_grow_0 {l : Launch} {D : ZD} {V : ZV} {al : Nat} {mc : Int32} (hal : V al = some (.inr (8, [.int mc, .ref (D.at 0), .int (nI 0)]))) : ZM l D yJ2_grow (ws_ yJ2_grow cJ2_grow 1 (some (.array (.object "java/lang/Object")))) 6 1 33 eR V [.ref al] (fun r V' => V' al = some (.inr (8, [.int mc, .ref r, .int (nI 0)])) ∧ V' r = some (.inl (D.arr 2, 10, .inr (.inr (.inr (.inr (fun _ => none)))))) ∧ V r = none ∧ zUnc V V' (fun a => a = al)) zno_x := by
  refine z_enter (by decide +kernel) [(0, .ref al)] rfl (Nat.le_of_ble_eq_true rfl) (zcat_cons rfl zcat_nil) (fun Γ C hQ => ?_)
  refine z_aload_n C 0 rfl dJ2_grow_0 rfl ?_
  refine z_aload_n C 0 rfl dJ2_grow_1 rfl ?_
  refine z_get C k_AL hal 2 (by decide) rfl q140 dJ2_grow_2 ?_
  refine z_iconst C (v := (nI 1)) dJ2_grow_5 rfl ?_
  refine z_iaddN C dJ2_grow_6 ?_
  refine z_top (v := .int (nI 1)) rfl ?_
  refine z_callV C k_AL hal (As := [.int (nI 1)]) (mJ2_grow_2_0 hal) (lw_V q1205 q1207 qs25 q62 q1208) rfl hd_J2_grow_2 rfl (Nat.le_of_ble_eq_true rfl) (by decide) (by decide) (by decide) (by decide) rfl dJ2_grow_7 (fun _ _ h => h.elim) (fun r1 V2 hP3 => ?_)
  refine z_st (st' := [.ref r1]) rfl ?_
  exact z_aret C hQ r1 rfl (Or.inr ⟨_, rfl⟩) hP3 (by decide) (by decide) dJ2_grow_10
set_option maxHeartbeats 4000000 in
set_option maxRecDepth 100000 in
theorem mJ2_add_2 {l : Launch} {D : ZD} {V : ZV} {al x d cap : Nat} {L : List Nat} {mc : Int32} {f : Nat → Option Nat} {vx : List Value} (h : hAL D V al L d cap f mc) (hx : V x = some (.inr (7, vx))) (hel : ∀ y, y ∈ L → ∃ vs, V y = some (.inr (7, vs))) (hn : L.length < 30) : ZM l D yJ2_add_2 (ws_ yJ2_add_2 cJ2_add_2 4 none) 7 1 33 eU V [.ref al, .ref x, .ref d, .int (nI L.length)] (fun r V' => ∃ d2 cap2 f2, hAL D V' al (L ++ [x]) d2 cap2 f2 mc ∧ zUnc V V' (fun a => a = al ∨ (cap ≠ 0 ∧ a = d))) zno_x := by
  refine z_enter (by decide +kernel) [(0, .ref al), (1, .ref x), (2, .ref d), (3, .int (nI L.length))] rfl (Nat.le_of_ble_eq_true rfl) (zcat_cons rfl (zcat_cons rfl (zcat_cons rfl (zcat_cons rfl zcat_nil)))) (fun Γ C hQ => ?_)
  rcases h.2 with ⟨hc0, hd0, hL0⟩ | ⟨hcc, hd, hlc, hf⟩
  · skip
    have hal := h.1
    subst hL0
    subst hd0
    have e1 : (.int (nI (([] : List Nat).length)) : Value) = .int (nI 0) := rfl
    refine z_lv (lv' := [(0, .ref al), (1, .ref x), (2, .ref (D.at 0)), (3, .int (nI 0))]) (by rw [e1]) ?_
    have hU2 : zUnc V V (fun z_ => z_ = al) := zUnc.rf
    refine z_iload_n C 3 rfl dJ2_add_2_0 rfl ?_
    refine z_aload_n C 2 rfl dJ2_add_2_1 rfl ?_
    refine z_alenD C dJ2_add_2_2 ?_
    refine z_icmp_neN C 11 (by omega) (by omega) dJ2_add_2_3 (by decide) (fun c3 => ?_) (fun c3 => ?_)
    · skip
      exfalso; omega
    · skip
      refine z_aload_n C 0 rfl dJ2_add_2_6 rfl ?_
      refine z_callV C k_AL hal (As := []) (mJ2_grow_0 hal) (lw_V q1201 q1203 qs24 q62 q1204) rfl hd_J2_grow rfl (Nat.le_of_ble_eq_true rfl) (by decide) (by decide) (by decide) (by decide) rfl dJ2_add_2_7 (fun _ _ h => h.elim) (fun r3 V4 hP5 => ?_)
      obtain ⟨ha1, ha2, ha3, ha4⟩ := hP5
      refine z_st (st' := [.ref r3]) rfl ?_
      have hU6 := zUnc.tr (S := (fun z_ => z_ = al)) hU2 ha4 (fun _ h => Or.inl h)
      have g7 := zUnc.get ha4 (fun e => zne_cc hx hal (by decide) e) hx
      refine z_astore_n C [(2, .ref r3), (0, .ref al), (1, .ref x), (3, .int (nI 0))] dJ2_add_2_10 rfl (by decide) rfl ?_
      refine z_aload_n C 0 rfl dJ2_add_2_11 rfl ?_
      refine z_iload_n C 3 rfl dJ2_add_2_12 rfl ?_
      refine z_aload_n C 2 rfl dJ2_add_2_13 rfl ?_
      refine z_aast C 2 (by decide) ha2 (by omega) (by omega) k_A g7 (Or.inr q1717) dJ2_add_2_14 (z_nV (fun V8 hV9 => ?_))
      have hU10 := zUnc.upn hU6 hV9 ha3
      have g11 := zup hV9 (zne_oa g7 ha2) g7
      have g12 := zup hV9 (zne_oa ha1 ha2) ha1
      have g13 : V8 r3 = some (.inl (D.arr 2, 10, .inr (.inr (.inr (.inr (va_up (fun _ => none) 0 (some x))))))) := zself hV9
      refine z_aload_n C 1 rfl dJ2_add_2_15 rfl ?_
      refine z_iload_n C 3 rfl dJ2_add_2_16 rfl ?_
      refine z_iconst C (v := (nI 1)) dJ2_add_2_17 rfl ?_
      refine z_iaddN C dJ2_add_2_18 ?_
      refine z_put C k_AL g12 2 (by decide) [.int mc, .ref r3, .int (nI (0 + 1))] rfl (Nat.le_of_ble_eq_true rfl) rfl rfl rfl q140 dJ2_add_2_19 (z_nV (fun V14 hV15 => ?_))
      have hU16 := zUnc.up (S := (fun z_ => z_ = al)) hU10 hV15 rfl
      have g17 := zup hV15 (zne_cc g11 g12 (by decide)) g11
      have g18 := zup hV15 (zne_ao g13 g12) g13
      have g19 : V14 al = some (.inr (8, [.int mc, .ref r3, .int (nI (0 + 1))])) := zself hV15
      exact z_vret C hQ () rfl ⟨r3, 10, _, hAL_snoc (L := []) g19 (Or.inl rfl) g18 (by decide) (fun i y hy => by simp at hy), hU16.mono (fun a h => Or.inl h)⟩ (by decide) (by decide) dJ2_add_2_22
  · skip
    refine z_iload_n C 3 rfl dJ2_add_2_0 rfl ?_
    refine z_aload_n C 2 rfl dJ2_add_2_1 rfl ?_
    refine z_alen C 2 rfl hd (n := cap) rfl dJ2_add_2_2 ?_
    refine z_icmp_neN C 11 (by omega) (by omega) dJ2_add_2_3 (by decide) (fun c3 => ?_) (fun c3 => ?_)
    · skip
      have hU20 : zUnc V V (fun z_ => z_ = al ∨ z_ = d) := zUnc.rf
      refine z_aload_n C 2 rfl dJ2_add_2_11 rfl ?_
      refine z_iload_n C 3 rfl dJ2_add_2_12 rfl ?_
      refine z_aload_n C 1 rfl dJ2_add_2_13 rfl ?_
      refine z_aast C 2 (by decide) hd (by omega) (by omega) k_A hx (Or.inr q1717) dJ2_add_2_14 (z_nV (fun V21 hV22 => ?_))
      have hU23 := zUnc.up (S := (fun z_ => z_ = al ∨ z_ = d)) hU20 hV22 (Or.inr rfl)
      have g24 := zup hV22 (zne_oa h.1 hd) h.1
      have g25 := zup hV22 (zne_oa hx hd) hx
      have g26 : V21 d = some (.inl (D.arr 2, cap, .inr (.inr (.inr (.inr (va_up f L.length (some x))))))) := zself hV22
      refine z_aload_n C 0 rfl dJ2_add_2_15 rfl ?_
      refine z_iload_n C 3 rfl dJ2_add_2_16 rfl ?_
      refine z_iconst C (v := (nI 1)) dJ2_add_2_17 rfl ?_
      refine z_iaddN C dJ2_add_2_18 ?_
      refine z_put C k_AL g24 2 (by decide) [.int mc, .ref d, .int (nI (L.length + 1))] rfl (Nat.le_of_ble_eq_true rfl) rfl rfl rfl q140 dJ2_add_2_19 (z_nV (fun V27 hV28 => ?_))
      have hU29 := zUnc.up (S := (fun z_ => z_ = al ∨ z_ = d)) hU23 hV28 (Or.inl rfl)
      have g30 := zup hV28 (zne_cc g25 g24 (by decide)) g25
      have g31 := zup hV28 (zne_ao g26 g24) g26
      have g32 : V27 al = some (.inr (8, [.int mc, .ref d, .int (nI (L.length + 1))])) := zself hV28
      exact z_vret C hQ () rfl ⟨d, cap, _, hAL_snoc g32 hcc g31 (by omega) hf, hU29.mono (fun a h => by rcases h with h | h; exact Or.inl h; exact Or.inr ⟨by omega, h⟩)⟩ (by decide) (by decide) dJ2_add_2_22
    · skip
      have hlc2 : L.length = cap := by omega
      have hal2 : V al = some (.inr (8, [.int mc, .ref d, .int (nI cap)])) := by rw [← hlc2]; exact h.1
      have hel2 : ∀ i, i < cap → ∀ y, f i = some y → ∃ vs, V y = some (.inr (7, vs)) := by
        intro i hi y hy
        have e := List.getElem?_eq_getElem (l := L) (i := i) (by omega)
        rw [hf i _ e] at hy
        exact hel y (by rw [← Option.some.inj hy]; exact List.getElem_mem _)
      have hU33 : zUnc V V (fun z_ => z_ = al) := zUnc.rf
      refine z_aload_n C 0 rfl dJ2_add_2_6 rfl ?_
      refine z_callV C k_AL h.1 (As := []) (mJ2_grow_n hal2 hd (by omega) (by omega) hel2) (lw_V q1201 q1203 qs24 q62 q1204) rfl hd_J2_grow rfl (Nat.le_of_ble_eq_true rfl) (by decide) (by decide) (by decide) (by decide) rfl dJ2_add_2_7 (fun _ _ h => h.elim) (fun r34 V35 hP36 => ?_)
      obtain ⟨gg, ha1, ha2, ha3, ha4, ha5⟩ := hP36
      refine z_st (st' := [.ref r34]) rfl ?_
      have hU37 := zUnc.tr (S := (fun z_ => z_ = al)) hU33 ha4 (fun _ h => Or.inl h)
      have g38 := zUnc.get ha4 (fun e => zne_ao hd hal2 e) hd
      have g39 := zUnc.get ha4 (fun e => zne_cc hx hal2 (by decide) e) hx
      have ha1b : V35 al = some (.inr (8, [.int mc, .ref r34, .int (nI L.length)])) := by rw [hlc2]; exact ha1
      have nx40 : d ≠ r34 := zne_new hd ha3
      refine z_astore_n C [(2, .ref r34), (0, .ref al), (1, .ref x), (3, .int (nI L.length))] dJ2_add_2_10 rfl (by decide) rfl ?_
      refine z_aload_n C 0 rfl dJ2_add_2_11 rfl ?_
      refine z_iload_n C 3 rfl dJ2_add_2_12 rfl ?_
      refine z_aload_n C 2 rfl dJ2_add_2_13 rfl ?_
      refine z_aast C 2 (by decide) ha2 (by omega) (by omega) k_A g39 (Or.inr q1717) dJ2_add_2_14 (z_nV (fun V41 hV42 => ?_))
      have hU43 := zUnc.upn hU37 hV42 ha3
      have g44 := zup hV42 nx40 g38
      have g45 := zup hV42 (zne_oa g39 ha2) g39
      have g46 := zup hV42 (zne_oa ha1b ha2) ha1b
      have g47 : V41 r34 = some (.inl (D.arr 2, (cap + cap / 2), .inr (.inr (.inr (.inr (va_up gg L.length (some x))))))) := zself hV42
      refine z_aload_n C 1 rfl dJ2_add_2_15 rfl ?_
      refine z_iload_n C 3 rfl dJ2_add_2_16 rfl ?_
      refine z_iconst C (v := (nI 1)) dJ2_add_2_17 rfl ?_
      refine z_iaddN C dJ2_add_2_18 ?_
      refine z_put C k_AL g46 2 (by decide) [.int mc, .ref r34, .int (nI (L.length + 1))] rfl (Nat.le_of_ble_eq_true rfl) rfl rfl rfl q140 dJ2_add_2_19 (z_nV (fun V48 hV49 => ?_))
      have hU50 := zUnc.up (S := (fun z_ => z_ = al)) hU43 hV49 rfl
      have g51 := zup hV49 (zne_ao g44 g46) g44
      have g52 := zup hV49 (zne_cc g45 g46 (by decide)) g45
      have g53 := zup hV49 (zne_ao g47 g46) g47
      have g54 : V48 al = some (.inr (8, [.int mc, .ref r34, .int (nI (L.length + 1))])) := zself hV49
      exact z_vret C hQ () rfl ⟨r34, cap + cap / 2, _, hAL_snoc g54 (by omega) g53 (by omega) (fun i y hy => by rw [ha5 i (by have := (List.getElem?_eq_some_iff.mp hy).1; omega)]; exact hf i y hy), hU50.mono (fun a h => Or.inl h)⟩ (by decide) (by decide) dJ2_add_2_22
set_option maxHeartbeats 4000000 in
set_option maxRecDepth 100000 in
theorem mJ2_add {l : Launch} {D : ZD} {V : ZV} {al x d cap : Nat} {L : List Nat} {mc : Int32} {f : Nat → Option Nat} {vx : List Value} (h : hAL D V al L d cap f mc) (hx : V x = some (.inr (7, vx))) (hel : ∀ y, y ∈ L → ∃ vs, V y = some (.inr (7, vs))) (hn : L.length < 30) : ZM l D yJ2_add (ws_ yJ2_add cJ2_add 2 (some .boolean)) 8 1 33 eB V [.ref al, .ref x] (fun r V' => r = true ∧ ∃ d2 cap2 f2, hAL D V' al (L ++ [x]) d2 cap2 f2 (mc + nI 1) ∧ zUnc V V' (fun a => a = al ∨ (cap ≠ 0 ∧ a = d))) zno_x := by
  refine z_enter (by decide +kernel) [(0, .ref al), (1, .ref x)] rfl (Nat.le_of_ble_eq_true rfl) (zcat_cons rfl (zcat_cons rfl zcat_nil)) (fun Γ C hQ => ?_)
  have hU1 : zUnc V V (fun z_ => z_ = al) := zUnc.rf
  refine z_aload_n C 0 rfl dJ2_add_0 rfl ?_
  refine z_dup C dJ2_add_1 rfl ?_
  refine z_getS C k_AL h.1 0 (by decide) rfl q144 q143 dJ2_add_2 ?_
  refine z_iconst C (v := (nI 1)) dJ2_add_5 rfl ?_
  refine z_iadd C dJ2_add_6 ?_
  refine z_putS C k_AL h.1 0 (by decide) [.int (mc + (nI 1)), .ref d, .int (nI L.length)] rfl (Nat.le_of_ble_eq_true rfl) rfl rfl rfl q144 q143 dJ2_add_7 (z_nV (fun V2 hV3 => ?_))
  have hU4 := zUnc.up (S := (fun z_ => z_ = al)) hU1 hV3 rfl
  have g5 := zup hV3 (zne_cc hx h.1 (by decide)) hx
  have g6 : V2 al = some (.inr (8, [.int (mc + (nI 1)), .ref d, .int (nI L.length)])) := zself hV3
  refine z_aload_n C 0 rfl dJ2_add_10 rfl ?_
  refine z_aload_n C 1 rfl dJ2_add_11 rfl ?_
  refine z_aload_n C 0 rfl dJ2_add_12 rfl ?_
  refine z_get C k_AL g6 1 (by decide) rfl q137 dJ2_add_13 ?_
  refine z_aload_n C 0 rfl dJ2_add_16 rfl ?_
  refine z_get C k_AL g6 2 (by decide) rfl q140 dJ2_add_17 ?_
  have h2 : hAL D V2 al L d cap f (mc + nI 1) := hAL_mv h g6 hU4
  have hel2 : ∀ y, y ∈ L → ∃ vs, V2 y = some (.inr (7, vs)) := fun y hy => by obtain ⟨vs, hvs⟩ := hel y hy; exact ⟨vs, hU4.get (fun e => zne_cc hvs h.1 (by decide) e) hvs⟩
  refine z_callV C k_AL g6 (As := [.ref x, .ref d, .int (nI L.length)]) (mJ2_add_2 h2 g5 hel2 hn) (lw_V q1197 q1199 qs23 q62 q1200) rfl hd_J2_add_2 rfl (Nat.le_of_ble_eq_true rfl) (by decide) (by decide) (by omega) (by omega) rfl dJ2_add_20 (fun _ _ h => h.elim) (fun r7 V8 hP9 => ?_)
  obtain ⟨d2, cap2, f2, hA, hu⟩ := hP9
  refine z_st (st' := []) rfl ?_
  refine z_iconst C (v := (nI 1)) dJ2_add_23 rfl ?_
  exact z_zret C hQ true rfl rfl ⟨rfl, d2, cap2, f2, hA, zUnc.tr (hU4.mono (S' := fun a => a = al ∨ (cap ≠ 0 ∧ a = d)) (fun a h => Or.inl h)) hu (fun a h => Or.inl h)⟩ (by omega) (by omega) dJ2_add_24
set_option maxHeartbeats 4000000 in
set_option maxRecDepth 100000 in
theorem mJ2_size {l : Launch} {D : ZD} {V : ZV} {al d cap : Nat} {L : List Nat} {mc : Int32} {f : Nat → Option Nat} (h : hAL D V al L d cap f mc) : ZM l D yJ2_size (ws_ yJ2_size cJ2_size 1 (some .int)) 1 0 0 eN V [.ref al] (fun r V' => V' = V ∧ r = L.length) zno_x := by
  refine z_enter (by decide +kernel) [(0, .ref al)] rfl (Nat.le_of_ble_eq_true rfl) (zcat_cons rfl zcat_nil) (fun Γ C hQ => ?_)
  refine z_aload_n C 0 rfl dJ2_size_0 rfl ?_
  refine z_get C k_AL h.1 2 (by decide) rfl q140 dJ2_size_1 ?_
  exact z_iret C hQ L.length rfl ⟨rfl, rfl⟩ (by decide) (by decide) dJ2_size_4
set_option maxHeartbeats 4000000 in
set_option maxRecDepth 100000 in
theorem mJ25_checkIndex {l : Launch} {D : ZD} {V : ZV} {i n : Nat} (hi : i < n) (hn : n < 100000) : ZM l D yJ25_checkIndex (ws_ yJ25_checkIndex cJ25_checkIndex 3 (some .int)) 1 0 0 eN V [.int (nI i), .int (nI n), .null] (fun r V' => V' = V ∧ r = i) zno_x := by
  refine z_enter (by decide +kernel) [(0, .int (nI i)), (1, .int (nI n)), (2, .null)] rfl (Nat.le_of_ble_eq_true rfl) (zcat_cons rfl (zcat_cons rfl (zcat_cons rfl zcat_nil))) (fun Γ C hQ => ?_)
  refine z_iload_n C 0 rfl dJ25_checkIndex_0 rfl ?_
  refine z_if_ltN C 9 (by omega) dJ25_checkIndex_1 (by decide) (fun c1 => ?_) (fun c1 => ?_)
  · skip
    exfalso; omega
  · skip
    refine z_iload_n C 0 rfl dJ25_checkIndex_4 rfl ?_
    refine z_iload_n C 1 rfl dJ25_checkIndex_5 rfl ?_
    refine z_icmp_ltN C 16 (by omega) (by omega) dJ25_checkIndex_6 (by decide) (fun c6 => ?_) (fun c6 => ?_)
    · skip
      refine z_iload_n C 0 rfl dJ25_checkIndex_16 rfl ?_
      exact z_iret C hQ i rfl ⟨rfl, rfl⟩ (by decide) (by decide) dJ25_checkIndex_17
    · skip
      exfalso; omega
set_option maxHeartbeats 4000000 in
set_option maxRecDepth 100000 in
theorem mJ17_checkIndex {l : Launch} {D : ZD} {V : ZV} {i n : Nat} (hi : i < n) (hn : n < 100000) : ZM l D yJ17_checkIndex (ws_ yJ17_checkIndex cJ17_checkIndex 2 (some .int)) 2 0 0 eN V [.int (nI i), .int (nI n)] (fun r V' => V' = V ∧ r = i) zno_x := by
  refine z_enter (by decide +kernel) [(0, .int (nI i)), (1, .int (nI n))] rfl (Nat.le_of_ble_eq_true rfl) (zcat_cons rfl (zcat_cons rfl zcat_nil)) (fun Γ C hQ => ?_)
  refine z_iload_n C 0 rfl dJ17_checkIndex_0 rfl ?_
  refine z_iload_n C 1 rfl dJ17_checkIndex_1 rfl ?_
  refine z_null C dJ17_checkIndex_2 ?_
  refine z_callS C (As := [.int (nI i), .int (nI n), .null]) (mJ25_checkIndex hi hn) (lw_S q1237 q1238 q93 q1239) hd_J25_checkIndex rfl (Nat.le_of_ble_eq_true rfl) (by decide) (by decide) (by decide) (by decide) rfl dJ17_checkIndex_3 (fun _ _ h => h.elim) (fun r1 V2 hP3 => ?_)
  rw [hP3.1, hP3.2]
  refine z_st (st' := [.int (nI i)]) rfl ?_
  exact z_iret C hQ i rfl ⟨rfl, rfl⟩ (by decide) (by decide) dJ17_checkIndex_6
set_option maxHeartbeats 4000000 in
set_option maxRecDepth 100000 in
theorem mJ2_elementData {l : Launch} {D : ZD} {V : ZV} {al d cap i x : Nat} {L : List Nat} {mc : Int32} {f : Nat → Option Nat} (h : hAL D V al L d cap f mc) (hi : L[i]? = some x) : ZM l D yJ2_elementData (ws_ yJ2_elementData cJ2_elementData 2 (some (.object "java/lang/Object"))) 1 0 0 eR V [.ref al, .int (nI i)] (fun r V' => V' = V ∧ r = x) zno_x := by
  refine z_enter (by decide +kernel) [(0, .ref al), (1, .int (nI i))] rfl (Nat.le_of_ble_eq_true rfl) (zcat_cons rfl (zcat_cons rfl zcat_nil)) (fun Γ C hQ => ?_)
  have hil := (List.getElem?_eq_some_iff.mp hi).1
  obtain ⟨hcc, hd, hlc, hf⟩ := h.2.resolve_left (fun q => by rw [q.2.2] at hil; exact absurd hil (Nat.not_lt_zero _))
  refine z_aload_n C 0 rfl dJ2_elementData_0 rfl ?_
  refine z_get C k_AL h.1 1 (by decide) rfl q137 dJ2_elementData_1 ?_
  refine z_iload_n C 1 rfl dJ2_elementData_4 rfl ?_
  refine z_aaldR C 2 (by decide) hd (by omega) (by omega) (hf i x hi) dJ2_elementData_5 ?_
  exact z_aret C hQ x rfl (Or.inl ⟨_, rfl⟩) ⟨rfl, rfl⟩ (by decide) (by decide) dJ2_elementData_6
set_option maxHeartbeats 4000000 in
set_option maxRecDepth 100000 in
theorem mJ2_get {l : Launch} {D : ZD} {V : ZV} {al d cap i x : Nat} {L : List Nat} {mc : Int32} {f : Nat → Option Nat} (h : hAL D V al L d cap f mc) (hi : L[i]? = some x) : ZM l D yJ2_get (ws_ yJ2_get cJ2_get 2 (some (.object "java/lang/Object"))) 3 0 0 eR V [.ref al, .int (nI i)] (fun r V' => V' = V ∧ r = x) zno_x := by
  refine z_enter (by decide +kernel) [(0, .ref al), (1, .int (nI i))] rfl (Nat.le_of_ble_eq_true rfl) (zcat_cons rfl (zcat_cons rfl zcat_nil)) (fun Γ C hQ => ?_)
  have hil := (List.getElem?_eq_some_iff.mp hi).1
  obtain ⟨hcc, hd, hlc, hf⟩ := h.2.resolve_left (fun q => by rw [q.2.2] at hil; exact absurd hil (Nat.not_lt_zero _))
  refine z_iload_n C 1 rfl dJ2_get_0 rfl ?_
  refine z_aload_n C 0 rfl dJ2_get_1 rfl ?_
  refine z_get C k_AL h.1 2 (by decide) rfl q140 dJ2_get_2 ?_
  refine z_callS C (As := [.int (nI i), .int (nI L.length)]) (mJ17_checkIndex hil (by omega)) (lw_S q1234 q1235 q79 q1236) hd_J17_checkIndex rfl (Nat.le_of_ble_eq_true rfl) (by decide) (by decide) (by decide) (by decide) rfl dJ2_get_5 (fun _ _ h => h.elim) (fun r1 V2 hP3 => ?_)
  rw [hP3.1, hP3.2]
  refine z_st (st' := [.int (nI i)]) rfl ?_
  refine z_pop C dJ2_get_8 rfl ?_
  refine z_aload_n C 0 rfl dJ2_get_9 rfl ?_
  refine z_iload_n C 1 rfl dJ2_get_10 rfl ?_
  refine z_callV C k_AL h.1 (As := [.int (nI i)]) (mJ2_elementData h hi) (lw_V q1240 q1241 q1242 q62 q1243) rfl hd_J2_elementData rfl (Nat.le_of_ble_eq_true rfl) (by decide) (by decide) (by decide) (by decide) rfl dJ2_get_11 (fun _ _ h => h.elim) (fun r4 V5 hP6 => ?_)
  rw [hP6.1, hP6.2]
  refine z_st (st' := [.ref x]) rfl ?_
  exact z_aret C hQ x rfl (Or.inl ⟨_, rfl⟩) ⟨rfl, rfl⟩ (by decide) (by decide) dJ2_get_14
set_option maxHeartbeats 4000000 in
set_option maxRecDepth 100000 in
theorem mJ15_init {l : Launch} {D : ZD} {V : ZV} {it al : Nat} {x y : Value} {n : Int32} (hal : V al = some (.inr (8, [.int n, x, y]))) (hi : V it = some (.inr (10, [.int (nI 0), .int (nI 0), .int (nI 0), .null]))) : ZM l D yJ15_init (ws_ yJ15_init cJ15_init 2 none) 2 0 0 eU V [.ref it, .ref al] (fun r V' => V' it = some (.inr (10, [.int (nI 0), .int (-1), .int n, .ref al])) ∧ zUnc V V' (fun a => a = it)) zno_x := by
  refine z_enter (by decide +kernel) [(0, .ref it), (1, .ref al)] rfl (Nat.le_of_ble_eq_true rfl) (zcat_cons rfl (zcat_cons rfl zcat_nil)) (fun Γ C hQ => ?_)
  have hU1 : zUnc V V (fun z_ => z_ = it) := zUnc.rf
  refine z_aload_n C 0 rfl dJ15_init_0 rfl ?_
  refine z_aload_n C 1 rfl dJ15_init_1 rfl ?_
  refine z_putF C k_It hi 3 (by decide) [.int (nI 0), .int (nI 0), .int (nI 0), .ref al] rfl (Nat.le_of_ble_eq_true rfl) rfl rfl rfl rfl rfl q574 dJ15_init_2 (z_nV (fun V2 hV3 => ?_))
  have hU4 := zUnc.up (S := (fun z_ => z_ = it)) hU1 hV3 rfl
  have g5 := zup hV3 (zne_cc hal hi (by decide)) hal
  have g6 : V2 it = some (.inr (10, [.int (nI 0), .int (nI 0), .int (nI 0), .ref al])) := zself hV3
  refine z_aload_n C 0 rfl dJ15_init_5 rfl ?_
  refine z_objInit C q570 q103 q104 dJ15_init_6 (by decide) (by decide) ?_
  refine z_aload_n C 0 rfl dJ15_init_9 rfl ?_
  refine z_iconst C (v := (-1)) dJ15_init_10 rfl ?_
  refine z_put C k_It g6 1 (by decide) [.int (nI 0), .int (-1), .int (nI 0), .ref al] rfl (Nat.le_of_ble_eq_true rfl) rfl rfl rfl q572 dJ15_init_11 (z_nV (fun V7 hV8 => ?_))
  have hU9 := zUnc.up (S := (fun z_ => z_ = it)) hU4 hV8 rfl
  have g10 := zup hV8 (zne_cc g5 g6 (by decide)) g5
  have g11 : V7 it = some (.inr (10, [.int (nI 0), .int (-1), .int (nI 0), .ref al])) := zself hV8
  refine z_aload_n C 0 rfl dJ15_init_14 rfl ?_
  refine z_aload_n C 0 rfl dJ15_init_15 rfl ?_
  refine z_get C k_It g11 3 (by decide) rfl q574 dJ15_init_16 ?_
  refine z_getS C k_AL g10 0 (by decide) rfl q142 q143 dJ15_init_19 ?_
  refine z_put C k_It g11 2 (by decide) [.int (nI 0), .int (-1), .int n, .ref al] rfl (Nat.le_of_ble_eq_true rfl) rfl rfl rfl q573 dJ15_init_22 (z_nV (fun V12 hV13 => ?_))
  have hU14 := zUnc.up (S := (fun z_ => z_ = it)) hU9 hV13 rfl
  have g15 := zup hV13 (zne_cc g10 g11 (by decide)) g10
  have g16 : V12 it = some (.inr (10, [.int (nI 0), .int (-1), .int n, .ref al])) := zself hV13
  exact z_vret C hQ () rfl ⟨g16, hU14⟩ (by decide) (by decide) dJ15_init_25
set_option maxHeartbeats 4000000 in
set_option maxRecDepth 100000 in
theorem mJ2_iterator {l : Launch} {D : ZD} {V : ZV} {al d cap : Nat} {L : List Nat} {mc : Int32} {f : Nat → Option Nat} (h : hAL D V al L d cap f mc)  : ZM l D yJ2_iterator (ws_ yJ2_iterator cJ2_iterator 1 (some (.object "java/util/Iterator"))) 3 1 4 eR V [.ref al] (fun r V' => V' r = some (.inr (10, [.int (nI 0), .int (-1), .int mc, .ref al])) ∧ V r = none ∧ zUnc V V' (fun _ => False)) zno_x := by
  refine z_enter (by decide +kernel) [(0, .ref al)] rfl (Nat.le_of_ble_eq_true rfl) (zcat_cons rfl zcat_nil) (fun Γ C hQ => ?_)
  have hU1 : zUnc V V (fun _ => False) := zUnc.rf
  refine z_new C k_It q565 q566 q77 [.int (nI 0), .int (nI 0), .int (nI 0), .null] k0_It (by decide) (by decide) dJ2_iterator_0 (fun q2 hq3 => z_nV (fun V4 hV5 => ?_))
  have hf7 := zUnc.none hU1 (fun h => h) hq3
  have hU6 := zUnc.new hU1 hV5 hq3
  have g8 := zup hV5 (zne_new h.1 hq3) h.1
  have g9 : V4 q2 = some (.inr (10, [.int (nI 0), .int (nI 0), .int (nI 0), .null])) := zself hV5
  refine z_dup C dJ2_iterator_3 rfl ?_
  refine z_aload_n C 0 rfl dJ2_iterator_4 rfl ?_
  refine z_callI C (rt := none) (As := [.ref al]) (mJ15_init g8 g9) q569 q77 q567 q568 rfl hd_J15_init rfl (Nat.le_of_ble_eq_true rfl) (by decide) (by decide) (by decide) (by decide) rfl dJ2_iterator_5 (fun _ _ h => h.elim) (fun r10 V11 hP12 => ?_)
  obtain ⟨hi1, hui⟩ := hP12
  refine z_st (st' := [.ref q2]) rfl ?_
  have hU13 := zUnc.tr (S := (fun _ => False)) hU6 hui (fun a h => Or.inr (by rw [show a = q2 from h]; exact hf7))
  have g14 := zUnc.get hui (fun e => (zne_cc g8 g9 (by decide)) e) g8
  exact z_aret C hQ q2 rfl (Or.inl ⟨_, rfl⟩) ⟨hi1, hf7, hU13⟩ (by decide) (by decide) dJ2_iterator_8
set_option maxHeartbeats 4000000 in
set_option maxRecDepth 100000 in
theorem mJ15_hasNext {l : Launch} {D : ZD} {V : ZV} {al d cap : Nat} {L : List Nat} {mc : Int32} {f : Nat → Option Nat} (h : hAL D V al L d cap f mc) {it c : Nat} {lr : Int32} (hi : V it = some (.inr (10, [.int (nI c), .int lr, .int mc, .ref al]))) (hc : c < 1000) : ZM l D yJ15_hasNext (ws_ yJ15_hasNext cJ15_hasNext 1 (some .boolean)) 1 0 0 eB V [.ref it] (fun r V' => V' = V ∧ r = !decide (c = L.length)) zno_x := by
  refine z_enter (by decide +kernel) [(0, .ref it)] rfl (Nat.le_of_ble_eq_true rfl) (zcat_cons rfl zcat_nil) (fun Γ C hQ => ?_)
  have hl33 : L.length ≤ 33 := by rcases h.2 with q | q; rw [q.2.2]; exact Nat.zero_le _; omega
  refine z_aload_n C 0 rfl dJ15_hasNext_0 rfl ?_
  refine z_get C k_It hi 0 (by decide) rfl q571 dJ15_hasNext_1 ?_
  refine z_aload_n C 0 rfl dJ15_hasNext_4 rfl ?_
  refine z_get C k_It hi 3 (by decide) rfl q574 dJ15_hasNext_5 ?_
  refine z_getN C k_AL h.1 2 (by decide) rfl q139 dJ15_hasNext_8 ?_
  refine z_icmp_eqN C 18 (by omega) (by omega) dJ15_hasNext_11 (by decide) (fun c11 => ?_) (fun c11 => ?_)
  · skip
    refine z_iconst C (v := (nI 0)) dJ15_hasNext_18 rfl ?_
    exact z_zret C hQ false rfl rfl ⟨rfl, by simp [c11]⟩ (by decide) (by decide) dJ15_hasNext_19
  · skip
    refine z_iconst C (v := (nI 1)) dJ15_hasNext_14 rfl ?_
    refine z_goto C 19 dJ15_hasNext_15 (by decide) ?_
    exact z_zret C hQ true rfl rfl ⟨rfl, by simp [c11]⟩ (by decide) (by decide) dJ15_hasNext_19
set_option maxHeartbeats 4000000 in
set_option maxRecDepth 100000 in
theorem mJ15_checkForComodification {l : Launch} {D : ZD} {V : ZV} {al d cap : Nat} {L : List Nat} {mc : Int32} {f : Nat → Option Nat} (h : hAL D V al L d cap f mc) {it c : Nat} {lr : Int32} (hi : V it = some (.inr (10, [.int (nI c), .int lr, .int mc, .ref al]))) (hc : c < 1000) : ZM l D yJ15_checkForComodification (ws_ yJ15_checkForComodification cJ15_checkForComodification 1 none) 1 0 0 eU V [.ref it] (fun r V' => V' = V) zno_x := by
  refine z_enter (by decide +kernel) [(0, .ref it)] rfl (Nat.le_of_ble_eq_true rfl) (zcat_cons rfl zcat_nil) (fun Γ C hQ => ?_)
  have hl33 : L.length ≤ 33 := by rcases h.2 with q | q; rw [q.2.2]; exact Nat.zero_le _; omega
  refine z_aload_n C 0 rfl dJ15_checkForComodification_0 rfl ?_
  refine z_get C k_It hi 3 (by decide) rfl q574 dJ15_checkForComodification_1 ?_
  refine z_getS C k_AL h.1 0 (by decide) rfl q142 q143 dJ15_checkForComodification_4 ?_
  refine z_aload_n C 0 rfl dJ15_checkForComodification_7 rfl ?_
  refine z_get C k_It hi 2 (by decide) rfl q573 dJ15_checkForComodification_8 ?_
  refine z_icmp_eq C 22 dJ15_checkForComodification_11 (by decide) (fun c11 => ?_) (fun c11 => ?_)
  · skip
    exact z_vret C hQ () rfl rfl (by decide) (by decide) dJ15_checkForComodification_22
  · skip
    exfalso; exact c11 rfl
set_option maxHeartbeats 4000000 in
set_option maxRecDepth 100000 in
theorem mJ15_next {l : Launch} {D : ZD} {V : ZV} {al d cap : Nat} {L : List Nat} {mc : Int32} {f : Nat → Option Nat} (h : hAL D V al L d cap f mc) {it c : Nat} {lr : Int32} (hi : V it = some (.inr (10, [.int (nI c), .int lr, .int mc, .ref al]))) (hc : c < 1000) {x : Nat} (hx : L[c]? = some x) : ZM l D yJ15_next (ws_ yJ15_next cJ15_next 3 (some (.object "java/lang/Object"))) 2 0 0 eR V [.ref it] (fun r V' => r = x ∧ V' it = some (.inr (10, [.int (nI (c + 1)), .int (nI c), .int mc, .ref al])) ∧ zUnc V V' (fun a => a = it)) zno_x := by
  refine z_enter (by decide +kernel) [(0, .ref it)] rfl (Nat.le_of_ble_eq_true rfl) (zcat_cons rfl zcat_nil) (fun Γ C hQ => ?_)
  have hl33 : L.length ≤ 33 := by rcases h.2 with q | q; rw [q.2.2]; exact Nat.zero_le _; omega
  have hil := (List.getElem?_eq_some_iff.mp hx).1
  obtain ⟨hcc, hd, hlc, hf⟩ := h.2.resolve_left (fun q => by rw [q.2.2] at hil; exact absurd hil (Nat.not_lt_zero _))
  have hU1 : zUnc V V (fun z_ => z_ = it) := zUnc.rf
  refine z_aload_n C 0 rfl dJ15_next_0 rfl ?_
  refine z_callV C k_It hi (As := []) (mJ15_checkForComodification h hi hc) (lw_V q603 q604 q605 q77 q606) rfl hd_J15_checkForComodification rfl (Nat.le_of_ble_eq_true rfl) (by decide) (by decide) (by decide) (by decide) rfl dJ15_next_1 (fun _ _ h => h.elim) (fun r2 V3 hP4 => ?_)
  rw [hP4]
  refine z_st (st' := []) rfl ?_
  refine z_aload_n C 0 rfl dJ15_next_4 rfl ?_
  refine z_get C k_It hi 0 (by decide) rfl q571 dJ15_next_5 ?_
  refine z_istore_n C [(1, .int (nI c)), (0, .ref it)] dJ15_next_8 rfl (by decide) rfl ?_
  refine z_iload_n C 0 rfl dJ15_next_9 rfl ?_
  refine z_aload_n C 1 rfl dJ15_next_10 rfl ?_
  refine z_get C k_It hi 3 (by decide) rfl q574 dJ15_next_11 ?_
  refine z_getN C k_AL h.1 2 (by decide) rfl q139 dJ15_next_14 ?_
  refine z_icmp_ltN C 28 (by omega) (by omega) dJ15_next_17 (by decide) (fun c17 => ?_) (fun c17 => ?_)
  · skip
    refine z_aload_n C 1 rfl dJ15_next_28 rfl ?_
    refine z_get C k_It hi 3 (by decide) rfl q574 dJ15_next_29 ?_
    refine z_get C k_AL h.1 1 (by decide) rfl q138 dJ15_next_32 ?_
    refine z_astore_n C [(2, .ref d), (1, .int (nI c)), (0, .ref it)] dJ15_next_35 rfl (by decide) rfl ?_
    refine z_iload_n C 1 rfl dJ15_next_36 rfl ?_
    refine z_aload_n C 0 rfl dJ15_next_37 rfl ?_
    refine z_alen C 2 rfl hd (n := cap) rfl dJ15_next_38 ?_
    refine z_icmp_ltN C 50 (by omega) (by omega) dJ15_next_39 (by decide) (fun c39 => ?_) (fun c39 => ?_)
    · skip
      refine z_aload_n C 2 rfl dJ15_next_50 rfl ?_
      refine z_iload_n C 1 rfl dJ15_next_51 rfl ?_
      refine z_iconst C (v := (nI 1)) dJ15_next_52 rfl ?_
      refine z_iaddN C dJ15_next_53 ?_
      refine z_put C k_It hi 0 (by decide) [.int (nI (c + 1)), .int lr, .int mc, .ref al] rfl (Nat.le_of_ble_eq_true rfl) rfl rfl rfl q571 dJ15_next_54 (z_nV (fun V5 hV6 => ?_))
      have hU7 := zUnc.up (S := (fun z_ => z_ = it)) hU1 hV6 rfl
      have g8 := zup hV6 (zne_cc h.1 hi (by decide)) h.1
      have g9 := zup hV6 (zne_ao hd hi) hd
      have g10 : V5 it = some (.inr (10, [.int (nI (c + 1)), .int lr, .int mc, .ref al])) := zself hV6
      refine z_aload_n C 0 rfl dJ15_next_57 rfl ?_
      refine z_aload_n C 2 rfl dJ15_next_58 rfl ?_
      refine z_iload_n C 1 rfl dJ15_next_59 rfl ?_
      refine z_dup_x1 C dJ15_next_60 rfl rfl ?_
      refine z_put C k_It g10 1 (by decide) [.int (nI (c + 1)), .int (nI c), .int mc, .ref al] rfl (Nat.le_of_ble_eq_true rfl) rfl rfl rfl q572 dJ15_next_61 (z_nV (fun V11 hV12 => ?_))
      have hU13 := zUnc.up (S := (fun z_ => z_ = it)) hU7 hV12 rfl
      have g14 := zup hV12 (zne_cc g8 g10 (by decide)) g8
      have g15 := zup hV12 (zne_ao g9 g10) g9
      have g16 : V11 it = some (.inr (10, [.int (nI (c + 1)), .int (nI c), .int mc, .ref al])) := zself hV12
      refine z_aaldR C 2 (by decide) g15 (by omega) (by omega) (hf c x hx) dJ15_next_64 ?_
      exact z_aret C hQ x rfl (Or.inl ⟨_, rfl⟩) ⟨rfl, g16, hU13⟩ (by decide) (by decide) dJ15_next_65
    · skip
      exfalso; omega
  · skip
    exfalso; omega
