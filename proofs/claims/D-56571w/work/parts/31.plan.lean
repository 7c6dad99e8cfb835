/-! COMPONENT: plans -/
set_option maxRecDepth 100000
theorem zCmp_q {r : Int32} {a b q1 q2 : Nat} (h : zCmp r [a] [b]) (h1 : a < b ↔ q1 < q2) (h2 : a = b ↔ q1 = q2) (hne : q1 ≠ q2) (x y : List Nat) : zCmp r (q1 :: x) (q2 :: y) := by
  refine ⟨h.1.trans ?_, h.2.trans ?_⟩
  · constructor
    · rintro (q | ⟨-, q⟩)
      · exact Or.inl (h1.mp q)
      · exact q.elim
    · rintro (q | ⟨q, -⟩)
      · exact Or.inl (h1.mpr q)
      · exact absurd q hne
  · constructor
    · intro q; cases q; exact absurd (h2.mp rfl) hne
    · intro q; cases q; exact absurd rfl hne
theorem zCmp_at {r : Int32} {x y : List Nat} {k a b : Nat} (ht : x.take k = y.take k) (h1 : x[k]? = some a) (h2 : y[k]? = some b) (h : ∀ u v, zCmp r (a :: u) (b :: v)) : zCmp r x y := by
  have e : ∀ (z : List Nat) (c : Nat), z[k]? = some c → z = z.take k ++ (c :: z.drop (k + 1)) := fun z c hz => by
    have h3 : z[k]'((List.getElem?_eq_some_iff.mp hz).1) = c := (List.getElem?_eq_some_iff.mp hz).2
    rw [← h3, List.getElem_cons_drop, List.take_append_drop]
  rw [e x a h1, e y b h2, ht]
  exact zCmp_pre _ (h _ _)
theorem zCmp_len {x y : List Nat} (b1 : x.length < 1000000) (b2 : y.length < 1000000) (h : x.take (min x.length y.length) = y.take (min x.length y.length)) : zCmp (nI x.length - nI y.length) x y := by
  rcases Nat.lt_trichotomy x.length y.length with q | q | q
  · rw [Nat.min_eq_left (by omega), List.take_length] at h
    have hy : y = x ++ y.drop x.length := by rw [h, List.length_take, Nat.min_eq_left (by omega), List.take_append_drop]
    have hd : y.drop x.length ≠ [] := by intro e; have := congrArg List.length e; simp at this; omega
    have h1 := sub_cmp b1 b2
    have hlt : nI x.length - nI y.length < 0 := h1.1.mpr (Or.inl q)
    have hl : lexL x y := by
      rw [hy]
      have : lexL (x ++ []) (x ++ y.drop x.length) := (lexL_app x).mpr (by cases hz : y.drop x.length with | nil => exact absurd hz hd | cons a b => exact trivial)
      rwa [List.append_nil] at this
    refine ⟨⟨fun _ => hl, fun _ => hlt⟩, ⟨fun e => ?_, fun e => ?_⟩⟩
    · rw [e] at hlt; exact absurd hlt (by decide)
    · exact absurd (congrArg List.length e) (by omega)
  · rw [q, Nat.min_self, List.take_length] at h
    have e : x = y := by rw [← h, ← q, List.take_length]
    subst e; rw [sub_self32]; exact zCmp_self _
  · rw [Nat.min_eq_right (by omega), List.take_length] at h
    have hx : x = y ++ x.drop y.length := by rw [← h, List.length_take, Nat.min_eq_left (by omega), List.take_append_drop]
    have hd : x.drop y.length ≠ [] := by intro e; have := congrArg List.length e; simp at this; omega
    have h1 := sub_cmp b1 b2
    have hl : lexL y x := by
      rw [hx]
      have : lexL (y ++ []) (y ++ x.drop y.length) := (lexL_app y).mpr (by cases hz : x.drop y.length with | nil => exact absurd hz hd | cons a b => exact trivial)
      rwa [List.append_nil] at this
    refine ⟨⟨fun e => ?_, fun e => absurd hl (lexL_as e)⟩, ⟨fun e => ?_, fun e => ?_⟩⟩
    · rcases h1.1.mp e with z | ⟨-, z⟩
      · omega
      · exact z.elim
    · have := h1.2.mp e; simp at this; omega
    · exact absurd (congrArg List.length e) (by omega)
theorem zcpyq {f g : Nat → Int32} {n i : Nat} (h : i < n) : va_cpy f g 0 0 n i = f i := by
  have h9 := zcpy_in (f := f) (g := g) (sp := 0) (dp := 0) h
  simpa using h9

set_option maxHeartbeats 4000000 in
set_option maxRecDepth 100000 in
theorem mX6_with_2 {l : Launch} {D : ZD} {V : ZV} {a n x : Nat} {f : Nat → Int32} (ha : V a = some (.inl (D.arr 0, n, .inl f))) (hn : n ≤ 6) : ZM l D yX6_with_2 (ws_ yX6_with_2 cX6_with_2 3 (some (.array .int))) 2 1 8 eR V [.ref a, .int (nI x)] (fun r V' => ∃ g, V' r = some (.inl (D.arr 0, n + 1, .inl g)) ∧ V r = none ∧ zUnc V V' (fun _ => False) ∧ (∀ i, i < n → g i = f i) ∧ g n = nI x) zno_x := by
  refine z_enter (by decide +kernel) [(0, .ref a), (1, .int (nI x))] rfl (Nat.le_of_ble_eq_true rfl) (zcat_cons rfl (zcat_cons rfl zcat_nil)) (fun Γ C hQ => ?_)
  have hU1 : zUnc V V (fun _ => False) := zUnc.rf
  refine z_aload_n C 0 rfl dX6_with_2_0 rfl ?_
  refine z_alen C 0 rfl ha (n := n) rfl dX6_with_2_1 ?_
  refine z_iconst C (v := (nI 1)) dX6_with_2_2 rfl ?_
  refine z_iaddN C dX6_with_2_3 ?_
  refine z_newa_i C q121 (by omega) (by simp only [zr]; omega) (by simp only [zr]; omega) dX6_with_2_4 (fun q2 hq3 => z_nV (fun V4 hV5 => ?_))
  have hf7 := zUnc.none hU1 (fun h => h) hq3
  have hU6 := zUnc.new hU1 hV5 hq3
  have nx8 : a ≠ q2 := (zne_new ha hq3)
  have g9 := zup hV5 (zne_new ha hq3) ha
  have g10 : V4 q2 = some (.inl (D.arr 0, n + 1, .inl (fun _ => 0))) := zself hV5
  refine z_astore_n C [(2, .ref q2), (0, .ref a), (1, .int (nI x))] dX6_with_2_6 rfl (by decide) rfl ?_
  refine z_aload_n C 1 rfl dX6_with_2_7 rfl ?_
  refine z_iconst C (v := (nI 0)) dX6_with_2_8 rfl ?_
  refine z_aload_n C 0 rfl dX6_with_2_9 rfl ?_
  refine z_iconst C (v := (nI 0)) dX6_with_2_10 rfl ?_
  refine z_aload_n C 1 rfl dX6_with_2_11 rfl ?_
  refine z_alen C 0 rfl g9 (n := n) rfl dX6_with_2_12 ?_
  refine z_copyi C q1090 q923 q922 q88 g9 g10 (by omega) (by omega) (by omega) (by omega) (Nat.le_of_ble_eq_true rfl) (Nat.le_of_ble_eq_true rfl) dX6_with_2_13 (z_nV (fun V11 hV12 => ?_))
  have hU13 := zUnc.upn hU6 hV12 hf7
  have g14 := zup hV12 nx8 g9
  have g15 : V11 q2 = some (.inl (D.arr 0, n + 1, .inl (va_cpy f (fun _ => 0) 0 0 n))) := zself hV12
  refine z_aload_n C 0 rfl dX6_with_2_16 rfl ?_
  refine z_aload_n C 1 rfl dX6_with_2_17 rfl ?_
  refine z_alen C 0 rfl g14 (n := n) rfl dX6_with_2_18 ?_
  refine z_iload_n C 2 rfl dX6_with_2_19 rfl ?_
  refine z_iast C g15 (by omega) (by omega) dX6_with_2_20 (z_nV (fun V16 hV17 => ?_))
  have hU18 := zUnc.upn hU13 hV17 hf7
  have g19 := zup hV17 nx8 g14
  have g20 : V16 q2 = some (.inl (D.arr 0, n + 1, .inl (va_up (va_cpy f (fun _ => 0) 0 0 n) n (nI x)))) := zself hV17
  refine z_aload_n C 0 rfl dX6_with_2_21 rfl ?_
  exact z_aret C hQ q2 rfl (Or.inr ⟨_, rfl⟩) ⟨_, g20, hf7, hU18, fun i hi => by rw [zvn (by omega), zcpyq hi], by rw [zvs]⟩ (by omega) (by omega) dX6_with_2_22
set_option maxHeartbeats 4000000 in
set_option maxRecDepth 100000 in
theorem mX6_init {l : Launch} {D : ZD} {V : ZV} {p y rb rs n k : Nat} {fb : Nat → Int32} (hp : V p = some (.inr (5, [.null, .null, .null, .int (nI 0)]))) (hb : V rb = some (.inl (D.arr 0, n, .inl fb))) : ZM l D yX6_init (ws_ yX6_init cX6_init 5 none) 2 0 0 eU V [.ref p, .ref y, .ref rb, .ref rs, .int (nI k)] (fun r V' => V' p = some (.inr (5, [.ref y, .ref rb, .ref rs, .int (nI (n + k))])) ∧ zUnc V V' (fun a => a = p)) zno_x := by
  refine z_enter (by decide +kernel) [(0, .ref p), (1, .ref y), (2, .ref rb), (3, .ref rs), (4, .int (nI k))] rfl (Nat.le_of_ble_eq_true rfl) (zcat_cons rfl (zcat_cons rfl (zcat_cons rfl (zcat_cons rfl (zcat_cons rfl zcat_nil))))) (fun Γ C hQ => ?_)
  have hU1 : zUnc V V (fun z_ => z_ = p) := zUnc.rf
  refine z_aload_n C 0 rfl dX6_init_0 rfl ?_
  refine z_objInit C q844 q103 q104 dX6_init_1 (by decide) (by decide) ?_
  refine z_aload_n C 0 rfl dX6_init_4 rfl ?_
  refine z_aload_n C 1 rfl dX6_init_5 rfl ?_
  refine z_putF C k_P hp 0 (by decide) [.ref y, .null, .null, .int (nI 0)] rfl (Nat.le_of_ble_eq_true rfl) rfl rfl rfl rfl rfl q845 dX6_init_6 (z_nV (fun V2 hV3 => ?_))
  have hU4 := zUnc.up (S := (fun z_ => z_ = p)) hU1 hV3 rfl
  have g5 := zup hV3 (zne_ao hb hp) hb
  have g6 : V2 p = some (.inr (5, [.ref y, .null, .null, .int (nI 0)])) := zself hV3
  refine z_aload_n C 0 rfl dX6_init_9 rfl ?_
  refine z_aload_n C 2 rfl dX6_init_10 rfl ?_
  refine z_putF C k_P g6 1 (by decide) [.ref y, .ref rb, .null, .int (nI 0)] rfl (Nat.le_of_ble_eq_true rfl) rfl rfl rfl rfl rfl q847 dX6_init_11 (z_nV (fun V7 hV8 => ?_))
  have hU9 := zUnc.up (S := (fun z_ => z_ = p)) hU4 hV8 rfl
  have g10 := zup hV8 (zne_ao g5 g6) g5
  have g11 : V7 p = some (.inr (5, [.ref y, .ref rb, .null, .int (nI 0)])) := zself hV8
  refine z_aload_n C 0 rfl dX6_init_14 rfl ?_
  refine z_aload_n C 3 rfl dX6_init_15 rfl ?_
  refine z_putF C k_P g11 2 (by decide) [.ref y, .ref rb, .ref rs, .int (nI 0)] rfl (Nat.le_of_ble_eq_true rfl) rfl rfl rfl rfl rfl q850 dX6_init_16 (z_nV (fun V12 hV13 => ?_))
  have hU14 := zUnc.up (S := (fun z_ => z_ = p)) hU9 hV13 rfl
  have g15 := zup hV13 (zne_ao g10 g11) g10
  have g16 : V12 p = some (.inr (5, [.ref y, .ref rb, .ref rs, .int (nI 0)])) := zself hV13
  refine z_aload_n C 0 rfl dX6_init_19 rfl ?_
  refine z_aload_n C 2 rfl dX6_init_20 rfl ?_
  refine z_alen C 0 rfl g15 (n := n) rfl dX6_init_21 ?_
  refine z_iload C 4 rfl dX6_init_22 ?_
  refine z_iaddN C dX6_init_24 ?_
  refine z_putF C k_P g16 3 (by decide) [.ref y, .ref rb, .ref rs, .int (nI (n + k))] rfl (Nat.le_of_ble_eq_true rfl) rfl rfl rfl rfl rfl q853 dX6_init_25 (z_nV (fun V17 hV18 => ?_))
  have hU19 := zUnc.up (S := (fun z_ => z_ = p)) hU14 hV18 rfl
  have g20 := zup hV18 (zne_ao g15 g16) g15
  have g21 : V17 p = some (.inr (5, [.ref y, .ref rb, .ref rs, .int (nI (n + k))])) := zself hV18
  exact z_vret C hQ () rfl ⟨g21, hU19⟩ (by decide) (by decide) dX6_init_28
set_option maxHeartbeats 4000000 in
set_option maxRecDepth 100000 in
theorem mX6_with {l : Launch} {D : ZD} {V : ZV} {p y rb rs al y2 b s k : Nat} {ms : List Nat} {fb fs : Nat → Int32} (hp : hPl D V p y rb rs al ms fb fs) (hn : ms.length ≤ 6) (hs : s < 4) : ZM l D yX6_with (ws_ yX6_with cX6_with 5 (some (.object "Quaylock$Plan"))) 3 3 20 eR V [.ref p, .ref y2, .int (nI b), .int (nI s), .int (nI k)] (fun r V' => ∃ rb2 rs2 fb2 fs2, hPl D V' r y2 rb2 rs2 (ms.length + 1 + k) (ms ++ [4 * b + s]) fb2 fs2 ∧ V r = none ∧ V rb2 = none ∧ V rs2 = none ∧ zUnc V V' (fun _ => False)) zno_x := by
  refine z_enter (by decide +kernel) [(0, .ref p), (1, .ref y2), (2, .int (nI b)), (3, .int (nI s)), (4, .int (nI k))] rfl (Nat.le_of_ble_eq_true rfl) (zcat_cons rfl (zcat_cons rfl (zcat_cons rfl (zcat_cons rfl (zcat_cons rfl zcat_nil))))) (fun Γ C hQ => ?_)
  have hU1 : zUnc V V (fun _ => False) := zUnc.rf
  refine z_new C k_P q1086 q840 q85 [.null, .null, .null, .int (nI 0)] k0_P (by simp only [zr]; omega) (by simp only [zr]; omega) dX6_with_0 (fun q2 hq3 => z_nV (fun V4 hV5 => ?_))
  have hf7 := zUnc.none hU1 (fun h => h) hq3
  have hU6 := zUnc.new hU1 hV5 hq3
  have nx8 : p ≠ q2 := (zne_new hp.1 hq3)
  have g9 := zup hV5 (zne_new hp.1 hq3) hp.1
  have g10 := zup hV5 (zne_new hp.2.1 hq3) hp.2.1
  have g11 := zup hV5 (zne_new hp.2.2.1 hq3) hp.2.2.1
  have g12 : V4 q2 = some (.inr (5, [.null, .null, .null, .int (nI 0)])) := zself hV5
  refine z_dup C dX6_with_3 rfl ?_
  refine z_aload_n C 1 rfl dX6_with_4 rfl ?_
  refine z_aload_n C 0 rfl dX6_with_5 rfl ?_
  refine z_get C k_P g9 1 (by decide) rfl q847 dX6_with_6 ?_
  refine z_iload_n C 2 rfl dX6_with_9 rfl ?_
  refine z_callS C (As := [.ref rb, .int (nI b)]) (mX6_with_2 g10 hn) (lw_S q1087 q1088 q85 q1089) hd_X6_with_2 rfl (Nat.le_of_ble_eq_true rfl) (by decide) (by decide) (by omega) (by omega) rfl dX6_with_10 (fun _ _ h => h.elim) (fun r13 V14 hP15 => ?_)
  obtain ⟨g0q, h1_0, h2_0, hu_0, h3_0, h4_0⟩ := hP15
  refine z_st (st' := [.ref r13, .ref y2, .ref q2, .ref q2]) rfl ?_
  have hU16 := zUnc.tr (S := (fun _ => False)) hU6 hu_0 (fun _ h => h.elim)
  have g17 := zUnc.get hu_0 (fun h => h) g9
  have g18 := zUnc.get hu_0 (fun h => h) g10
  have g19 := zUnc.get hu_0 (fun h => h) g11
  have g20 := zUnc.get hu_0 (fun h => h) g12
  have hn_0 := zUnc.none hU6 (fun h => h) h2_0
  have nx21 : p ≠ r13 := zne_new g9 h2_0
  have nx22 : rb ≠ r13 := zne_new g10 h2_0
  have nx23 : rs ≠ r13 := zne_new g11 h2_0
  have nx24 : q2 ≠ r13 := zne_new g12 h2_0
  refine z_aload_n C 0 rfl dX6_with_13 rfl ?_
  refine z_get C k_P g17 2 (by decide) rfl q850 dX6_with_14 ?_
  refine z_iload_n C 3 rfl dX6_with_17 rfl ?_
  refine z_callS C (As := [.ref rs, .int (nI s)]) (mX6_with_2 g19 hn) (lw_S q1087 q1088 q85 q1089) hd_X6_with_2 rfl (Nat.le_of_ble_eq_true rfl) (by decide) (by decide) (by omega) (by omega) rfl dX6_with_18 (fun _ _ h => h.elim) (fun r25 V26 hP27 => ?_)
  obtain ⟨g1q, h1_1, h2_1, hu_1, h3_1, h4_1⟩ := hP27
  refine z_st (st' := [.ref r25, .ref r13, .ref y2, .ref q2, .ref q2]) rfl ?_
  have hU28 := zUnc.tr (S := (fun _ => False)) hU16 hu_1 (fun _ h => h.elim)
  have g29 := zUnc.get hu_1 (fun h => h) g17
  have g30 := zUnc.get hu_1 (fun h => h) g18
  have g31 := zUnc.get hu_1 (fun h => h) g19
  have g32 := zUnc.get hu_1 (fun h => h) g20
  have g33 := zUnc.get hu_1 (fun h => h) h1_0
  have hn_1 := zUnc.none hU16 (fun h => h) h2_1
  have nx34 : p ≠ r25 := zne_new g17 h2_1
  have nx35 : rb ≠ r25 := zne_new g18 h2_1
  have nx36 : rs ≠ r25 := zne_new g19 h2_1
  have nx37 : q2 ≠ r25 := zne_new g20 h2_1
  have nx38 : r13 ≠ r25 := zne_new h1_0 h2_1
  refine z_iload C 4 rfl dX6_with_21 ?_
  refine z_callI C (rt := none) (As := [.ref y2, .ref r13, .ref r25, .int (nI k)]) (mX6_init g32 g33) q843 q85 q1091 q842 rfl hd_X6_init rfl (Nat.le_of_ble_eq_true rfl) (by decide) (by decide) (by omega) (by omega) rfl dX6_with_23 (fun _ _ h => h.elim) (fun r39 V40 hP41 => ?_)
  obtain ⟨hi1, hui⟩ := hP41
  refine z_st (st' := [.ref q2]) rfl ?_
  have hU42 := zUnc.tr (S := (fun _ => False)) hU28 hui (fun a h => Or.inr (by rw [show a = q2 from h]; exact hf7))
  have g43 := zUnc.get hui (fun e => nx8 e) g29
  have g44 := zUnc.get hui (fun e => (zne_ao g30 g32) e) g30
  have g45 := zUnc.get hui (fun e => (zne_ao g31 g32) e) g31
  have g46 := zUnc.get hui (fun e => (Ne.symm nx24) e) g33
  have g47 := zUnc.get hui (fun e => (Ne.symm nx37) e) h1_1
  have hcon : ∀ i q, (ms ++ [4 * b + s])[i]? = some q → g0q i = nI (q / 4) ∧ g1q i = nI (q % 4) := by
    intro i q hq
    rcases Nat.lt_trichotomy i ms.length with h | h | h
    · rw [List.getElem?_append_left h] at hq; rw [h3_0 i h, h3_1 i h]; exact hp.2.2.2 i q hq
    · subst h; rw [List.getElem?_append_right (Nat.le_refl _)] at hq; simp at hq; subst hq; rw [h4_0, h4_1]; exact ⟨by congr 1; omega, by congr 1; omega⟩
    · rw [List.getElem?_eq_none (by rw [List.length_append]; exact (by omega : ms.length + 1 ≤ i))] at hq; cases hq
  have hlen : (ms ++ [4 * b + s]).length = ms.length + 1 := by simp
  exact z_aret C hQ q2 rfl (Or.inl ⟨_, rfl⟩) ⟨r13, r25, g0q, g1q, ⟨hi1, by rw [hlen]; exact g46, by rw [hlen]; exact g47, hcon⟩, hf7, hn_0, hn_1, hU42⟩ (by omega) (by omega) dX6_with_26
set_option maxHeartbeats 4000000 in
set_option maxRecDepth 100000 in
theorem mX5_compare_2 {l : Launch} {D : ZD} {V : ZV} {p1 y1 b1 s1 a1 p2 y2 b2 s2 a2 : Nat} {ms1 ms2 : List Nat} {fb1 fs1 fb2 fs2 : Nat → Int32} (h1 : hPl D V p1 y1 b1 s1 a1 ms1 fb1 fs1) (h2 : hPl D V p2 y2 b2 s2 a2 ms2 fb2 fs2) (k1 : a1 < 1000) (k2 : a2 < 1000) (m1 : ∀ q ∈ ms1, q < 80) (m2 : ∀ q ∈ ms2, q < 80) (l1 : ms1.length ≤ 6) (l2 : ms2.length ≤ 6) {c : Nat} : ZM l D yX5_compare_2 (ws_ yX5_compare_2 cX5_compare_2 5 (some .int)) 2 0 0 eI V [.ref c, .ref p1, .ref p2] (fun r V' => V' = V ∧ zCmp r (a1 :: ms1) (a2 :: ms2)) zno_x := by
  refine z_enter (by decide +kernel) [(0, .ref c), (1, .ref p1), (2, .ref p2)] rfl (Nat.le_of_ble_eq_true rfl) (zcat_cons rfl (zcat_cons rfl (zcat_cons rfl zcat_nil))) (fun Γ C hQ => ?_)
  refine z_aload_n C 1 rfl dX5_compare_2_0 rfl ?_
  refine z_getN C k_P h1.1 3 (by decide) rfl q854 dX5_compare_2_1 ?_
  refine z_aload_n C 2 rfl dX5_compare_2_4 rfl ?_
  refine z_getN C k_P h2.1 3 (by decide) rfl q854 dX5_compare_2_5 ?_
  refine z_icmp_eqN C 21 (by omega) (by omega) dX5_compare_2_8 (by decide) (fun c8 => ?_) (fun c8 => ?_)
  · skip
    refine z_aload_n C 1 rfl dX5_compare_2_21 rfl ?_
    refine z_getN C k_P h1.1 1 (by decide) rfl q848 dX5_compare_2_22 ?_
    refine z_alen C 0 rfl h1.2.1 (n := ms1.length) rfl dX5_compare_2_25 ?_
    refine z_aload_n C 2 rfl dX5_compare_2_26 rfl ?_
    refine z_getN C k_P h2.1 1 (by decide) rfl q848 dX5_compare_2_27 ?_
    refine z_alen C 0 rfl h2.2.1 (n := ms2.length) rfl dX5_compare_2_30 ?_
    refine z_mmin C (by omega) (by omega) q645 (Nat.le_of_ble_eq_true rfl) (Nat.le_of_ble_eq_true rfl) (by decide) (by decide) dX5_compare_2_31 ?_
    refine z_istore_n C [(3, .int (nI (min ms1.length ms2.length))), (0, .ref c), (1, .ref p1), (2, .ref p2)] dX5_compare_2_34 rfl (by decide) rfl ?_
    refine z_iconst C (v := (nI 0)) dX5_compare_2_35 rfl ?_
    refine z_istore C [(4, .int (nI 0)), (3, .int (nI (min ms1.length ms2.length))), (0, .ref c), (1, .ref p1), (2, .ref p2)] dX5_compare_2_36 (by decide) rfl ?_
    have hal : a1 = a2 := c8
    subst hal
    have loop1 : ∀ (n_loop1 : Nat) (k : Nat), k ≤ min ms1.length ms2.length → ms1.take k = ms2.take k → min ms1.length ms2.length - k < n_loop1 → ZW l D Γ (zr 2 0 0) 38 [(4, .int (nI k)), (3, .int (nI (min ms1.length ms2.length))), (0, .ref c), (1, .ref p1), (2, .ref p2)] [] V 0 0 := by
      intro n_loop1
      induction n_loop1 with
      | zero => intro k _ _ hm; exact absurd hm (Nat.not_lt_zero _)
      | succ n_loop1 ih_loop1 =>
        intro k hloop1_0 hloop1_1 hm
        refine z_iload C 0 rfl dX5_compare_2_38 ?_
        refine z_iload_n C 1 rfl dX5_compare_2_40 rfl ?_
        refine z_icmp_geN C 116 (by omega) (by omega) dX5_compare_2_41 (by decide) (fun c41 => ?_) (fun c41 => ?_)
        · skip
          obtain rfl : k = min ms1.length ms2.length := by omega
          refine z_aload_n C 3 rfl dX5_compare_2_116 rfl ?_
          refine z_getN C k_P h1.1 1 (by decide) rfl q848 dX5_compare_2_117 ?_
          refine z_alen C 0 rfl h1.2.1 (n := ms1.length) rfl dX5_compare_2_120 ?_
          refine z_aload_n C 4 rfl dX5_compare_2_121 rfl ?_
          refine z_getN C k_P h2.1 1 (by decide) rfl q848 dX5_compare_2_122 ?_
          refine z_alen C 0 rfl h2.2.1 (n := ms2.length) rfl dX5_compare_2_125 ?_
          refine z_isub C dX5_compare_2_126 ?_
          exact z_iret C hQ ((nI ms1.length) - (nI ms2.length)) rfl ⟨rfl, zCmp_pre [a1] (zCmp_len (by omega) (by omega) hloop1_1)⟩ (by decide) (by decide) dX5_compare_2_127
        · skip
          obtain ⟨q1, hq1⟩ : ∃ q, ms1[k]? = some q := ⟨_, List.getElem?_eq_getElem (by omega)⟩
          have hc1 := h1.2.2.2 k q1 hq1
          have hb1 := m1 q1 (List.mem_of_getElem? hq1)
          obtain ⟨q2, hq2⟩ : ∃ q, ms2[k]? = some q := ⟨_, List.getElem?_eq_getElem (by omega)⟩
          have hc2 := h2.2.2.2 k q2 hq2
          have hb2 := m2 q2 (List.mem_of_getElem? hq2)
          refine z_aload_n C 3 rfl dX5_compare_2_44 rfl ?_
          refine z_getN C k_P h1.1 1 (by decide) rfl q848 dX5_compare_2_45 ?_
          refine z_iload C 0 rfl dX5_compare_2_48 ?_
          refine z_iald C h1.2.1 (by omega) (by omega) (v := (nI (q1 / 4))) hc1.1 dX5_compare_2_50 ?_
          refine z_aload_n C 4 rfl dX5_compare_2_51 rfl ?_
          refine z_getN C k_P h2.1 1 (by decide) rfl q848 dX5_compare_2_52 ?_
          refine z_iload C 0 rfl dX5_compare_2_55 ?_
          refine z_iald C h2.2.1 (by omega) (by omega) (v := (nI (q2 / 4))) hc2.1 dX5_compare_2_57 ?_
          refine z_icmp_eqN C 77 (by omega) (by omega) dX5_compare_2_58 (by decide) (fun c58 => ?_) (fun c58 => ?_)
          · skip
            refine z_aload_n C 3 rfl dX5_compare_2_77 rfl ?_
            refine z_getN C k_P h1.1 2 (by decide) rfl q851 dX5_compare_2_78 ?_
            refine z_iload C 0 rfl dX5_compare_2_81 ?_
            refine z_iald C h1.2.2.1 (by omega) (by omega) (v := (nI (q1 % 4))) hc1.2 dX5_compare_2_83 ?_
            refine z_aload_n C 4 rfl dX5_compare_2_84 rfl ?_
            refine z_getN C k_P h2.1 2 (by decide) rfl q851 dX5_compare_2_85 ?_
            refine z_iload C 0 rfl dX5_compare_2_88 ?_
            refine z_iald C h2.2.2.1 (by omega) (by omega) (v := (nI (q2 % 4))) hc2.2 dX5_compare_2_90 ?_
            refine z_icmp_eqN C 110 (by omega) (by omega) dX5_compare_2_91 (by decide) (fun c91 => ?_) (fun c91 => ?_)
            · skip
              refine z_iincN C 0 1 [(4, .int (nI (k + 1))), (3, .int (nI (min ms1.length ms2.length))), (0, .ref c), (1, .ref p1), (2, .ref p2)] rfl dX5_compare_2_110 rfl (by decide) rfl ?_
              refine z_goto C 38 dX5_compare_2_113 (by decide) ?_
              obtain rfl : q1 = q2 := by omega
              exact ih_loop1 (k + 1) (by omega) (take_ext hloop1_1 hq1 hq2) (by omega)
            · skip
              refine z_aload_n C 3 rfl dX5_compare_2_94 rfl ?_
              refine z_getN C k_P h1.1 2 (by decide) rfl q851 dX5_compare_2_95 ?_
              refine z_iload C 0 rfl dX5_compare_2_98 ?_
              refine z_iald C h1.2.2.1 (by omega) (by omega) (v := (nI (q1 % 4))) hc1.2 dX5_compare_2_100 ?_
              refine z_aload_n C 4 rfl dX5_compare_2_101 rfl ?_
              refine z_getN C k_P h2.1 2 (by decide) rfl q851 dX5_compare_2_102 ?_
              refine z_iload C 0 rfl dX5_compare_2_105 ?_
              refine z_iald C h2.2.2.1 (by omega) (by omega) (v := (nI (q2 % 4))) hc2.2 dX5_compare_2_107 ?_
              refine z_isub C dX5_compare_2_108 ?_
              exact z_iret C hQ ((nI (q1 % 4)) - (nI (q2 % 4))) rfl ⟨rfl, zCmp_pre [a1] (zCmp_at hloop1_1 hq1 hq2 (fun u v => zCmp_q (sub_cmp (by omega) (by omega)) (by omega) (by omega) (by omega) u v))⟩ (by decide) (by decide) dX5_compare_2_109
          · skip
            refine z_aload_n C 3 rfl dX5_compare_2_61 rfl ?_
            refine z_getN C k_P h1.1 1 (by decide) rfl q848 dX5_compare_2_62 ?_
            refine z_iload C 0 rfl dX5_compare_2_65 ?_
            refine z_iald C h1.2.1 (by omega) (by omega) (v := (nI (q1 / 4))) hc1.1 dX5_compare_2_67 ?_
            refine z_aload_n C 4 rfl dX5_compare_2_68 rfl ?_
            refine z_getN C k_P h2.1 1 (by decide) rfl q848 dX5_compare_2_69 ?_
            refine z_iload C 0 rfl dX5_compare_2_72 ?_
            refine z_iald C h2.2.1 (by omega) (by omega) (v := (nI (q2 / 4))) hc2.1 dX5_compare_2_74 ?_
            refine z_isub C dX5_compare_2_75 ?_
            exact z_iret C hQ ((nI (q1 / 4)) - (nI (q2 / 4))) rfl ⟨rfl, zCmp_pre [a1] (zCmp_at hloop1_1 hq1 hq2 (fun u v => zCmp_q (sub_cmp (by omega) (by omega)) (by omega) (by omega) (by omega) u v))⟩ (by decide) (by decide) dX5_compare_2_76
    exact loop1 _ 0 (Nat.zero_le _) rfl (Nat.lt_succ_self _)
  · skip
    refine z_aload_n C 1 rfl dX5_compare_2_11 rfl ?_
    refine z_getN C k_P h1.1 3 (by decide) rfl q854 dX5_compare_2_12 ?_
    refine z_aload_n C 2 rfl dX5_compare_2_15 rfl ?_
    refine z_getN C k_P h2.1 3 (by decide) rfl q854 dX5_compare_2_16 ?_
    refine z_isub C dX5_compare_2_19 ?_
    exact z_iret C hQ ((nI a1) - (nI a2)) rfl ⟨rfl, sub_cons (by omega) (by omega) c8 _ _⟩ (by decide) (by decide) dX5_compare_2_20
set_option maxHeartbeats 4000000 in
set_option maxRecDepth 100000 in
theorem mX5_compare {l : Launch} {D : ZD} {V : ZV} {p1 y1 b1 s1 a1 p2 y2 b2 s2 a2 : Nat} {ms1 ms2 : List Nat} {fb1 fs1 fb2 fs2 : Nat → Int32} (h1 : hPl D V p1 y1 b1 s1 a1 ms1 fb1 fs1) (h2 : hPl D V p2 y2 b2 s2 a2 ms2 fb2 fs2) (k1 : a1 < 1000) (k2 : a2 < 1000) (m1 : ∀ q ∈ ms1, q < 80) (m2 : ∀ q ∈ ms2, q < 80) (l1 : ms1.length ≤ 6) (l2 : ms2.length ≤ 6) {c : Nat} (hc : V c = some (.inr (4, []))) : ZM l D yX5_compare (ws_ yX5_compare cX5_compare 3 (some .int)) 3 0 0 eI V [.ref c, .ref p1, .ref p2] (fun r V' => V' = V ∧ zCmp r (a1 :: ms1) (a2 :: ms2)) zno_x := by
  refine z_enter (by decide +kernel) [(0, .ref c), (1, .ref p1), (2, .ref p2)] rfl (Nat.le_of_ble_eq_true rfl) (zcat_cons rfl (zcat_cons rfl (zcat_cons rfl zcat_nil))) (fun Γ C hQ => ?_)
  refine z_aload_n C 0 rfl dX5_compare_0 rfl ?_
  refine z_aload_n C 1 rfl dX5_compare_1 rfl ?_
  refine z_ccast C k_P h1.1 q640 (Or.inl rfl) dX5_compare_2 ?_
  refine z_aload_n C 2 rfl dX5_compare_5 rfl ?_
  refine z_ccast C k_P h2.1 q640 (Or.inl rfl) dX5_compare_6 ?_
  refine z_callV C k_MP hc (As := [.ref p1, .ref p2]) (mX5_compare_2 h1 h2 k1 k2 m1 m2 l1 l2) (lw_V q641 q642 q643 q84 q644) rfl hd_X5_compare_2 rfl (Nat.le_of_ble_eq_true rfl) (by decide) (by decide) (by decide) (by decide) rfl dX5_compare_9 (fun _ _ h => h.elim) (fun r1 V2 hP3 => ?_)
  obtain ⟨rfl, hz⟩ := hP3
  refine z_st (st' := [.int r1]) rfl ?_
  exact z_iret C hQ r1 rfl ⟨rfl, hz⟩ (by decide) (by decide) dX5_compare_12
