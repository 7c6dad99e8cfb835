/-! COMPONENT: small classes -/
set_option maxRecDepth 100000
def hSl (V : ZV) (a h k : Nat) : Prop := V a = some (.inr (6, [.int (nI h), .int (nI k)]))
theorem slot_h {h1 h2 k1 k2 : Nat} (b1 : h1 < 1000000) (b2 : h2 < 1000000) (hne : h1 ≠ h2) : zCmp (nI h1 - nI h2) [h1, k1] [h2, k2] := by
  have e : (nI h1 - nI h2).toInt = (h1 : Int) - h2 := by
    unfold nI
    rw [Int32.toInt_sub, Int32.toInt_ofNat_of_lt (by omega), Int32.toInt_ofNat_of_lt (by omega), Int.bmod_eq_of_le (by omega) (by omega)]
  refine ⟨?_, ?_⟩
  · rw [i32_lt0, e]
    constructor
    · intro q; exact Or.inl (by omega)
    · rintro (q | ⟨q, -⟩)
      · omega
      · exact absurd q hne
  · constructor
    · intro q; rw [q, Int32.toInt_zero] at e; omega
    · intro q; cases q; exact absurd rfl hne
theorem sub_cmp {a b : Nat} (b1 : a < 1000000) (b2 : b < 1000000) : zCmp (nI a - nI b) [a] [b] := by
  by_cases h : a = b
  · subst h; rw [sub_self32]; exact zCmp_self _
  · have e : (nI a - nI b).toInt = (a : Int) - b := by
      unfold nI
      rw [Int32.toInt_sub, Int32.toInt_ofNat_of_lt (by omega), Int32.toInt_ofNat_of_lt (by omega), Int.bmod_eq_of_le (by omega) (by omega)]
    refine ⟨?_, ?_⟩
    · rw [i32_lt0, e]
      constructor
      · intro q; exact Or.inl (by omega)
      · rintro (q | ⟨q, -⟩)
        · omega
        · exact absurd q h
    · constructor
      · intro q; rw [q, Int32.toInt_zero] at e; omega
      · intro q; cases q; exact absurd rfl h
theorem sub_cons {a b : Nat} (b1 : a < 1000000) (b2 : b < 1000000) (h : a ≠ b) (x y : List Nat) : zCmp (nI a - nI b) (a :: x) (b :: y) := by
  have h1 := sub_cmp b1 b2
  refine ⟨h1.1.trans ?_, h1.2.trans ?_⟩
  · constructor
    · rintro (q | ⟨q, -⟩)
      · exact Or.inl q
      · exact absurd q h
    · rintro (q | ⟨q, -⟩)
      · exact Or.inl q
      · exact absurd q h
  · constructor
    · intro q; cases q; exact absurd rfl h
    · intro q; cases q; exact absurd rfl h
/-- a plan as a list of numbers: least number of moves, then the moves -/
def pEnc (al : Nat) (ms : List Nat) : List Nat := al :: ms
/-- the plan p: its yard y, its moves in two rows, its least number of moves -/
def hPl (D : ZD) (V : ZV) (p y rb rs : Nat) (al : Nat) (ms : List Nat) (fb fs : Nat → Int32) : Prop :=
  V p = some (.inr (5, [.ref y, .ref rb, .ref rs, .int (nI al)])) ∧ V rb = some (.inl (D.arr 0, ms.length, .inl fb)) ∧ V rs = some (.inl (D.arr 0, ms.length, .inl fs)) ∧ ∀ i q, ms[i]? = some q → fb i = nI (q / 4) ∧ fs i = nI (q % 4)

set_option maxHeartbeats 4000000 in
set_option maxRecDepth 100000 in
theorem mX1_checkIndex {l : Launch} {D : ZD} {V : ZV} {b : Bool} : ZM l D yX1_checkIndex (ws_ yX1_checkIndex cX1_checkIndex 1 none) 6 1 6 eU V [.int (zb b)] (fun r V' => V' = V ∧ b = true) (fun E V' => E = "java/lang/IndexOutOfBoundsException" ∧ V' = V ∧ b = false) := by
  refine z_enter (by decide +kernel) [(0, .int (zb b))] rfl (Nat.le_of_ble_eq_true rfl) (zcat_cons rfl zcat_nil) (fun Γ C hQ => ?_)
  refine z_iload_n C 0 rfl dX1_checkIndex_0 rfl ?_
  refine z_if_neB C 12 dX1_checkIndex_1 (by decide) (fun c1 => ?_) (fun c1 => ?_)
  · skip
    exact z_vret C hQ () rfl ⟨rfl, by simpa using c1⟩ (by decide) (by decide) dX1_checkIndex_12
  · skip
    exact z_throw C hQ (by decide +kernel) zfit2 q391 q71 th_IOB tk_IOB tg_IOB dX1_checkIndex_4 dX1_checkIndex_7 dX1_checkIndex_8 dX1_checkIndex_11 (fun _ h => nomatch h) (by decide) (by decide) (by decide) (by decide) (by decide) (by decide) ⟨rfl, rfl, by simpa using c1⟩
set_option maxHeartbeats 4000000 in
set_option maxRecDepth 100000 in
theorem mX1_checkArgument {l : Launch} {D : ZD} {V : ZV} {b : Bool} : ZM l D yX1_checkArgument (ws_ yX1_checkArgument cX1_checkArgument 1 none) 6 1 6 eU V [.int (zb b)] (fun r V' => V' = V ∧ b = true) (fun E V' => E = "java/lang/IllegalArgumentException" ∧ V' = V ∧ b = false) := by
  refine z_enter (by decide +kernel) [(0, .int (zb b))] rfl (Nat.le_of_ble_eq_true rfl) (zcat_cons rfl zcat_nil) (fun Γ C hQ => ?_)
  refine z_iload_n C 0 rfl dX1_checkArgument_0 rfl ?_
  refine z_if_neB C 12 dX1_checkArgument_1 (by decide) (fun c1 => ?_) (fun c1 => ?_)
  · skip
    exact z_vret C hQ () rfl ⟨rfl, by simpa using c1⟩ (by decide) (by decide) dX1_checkArgument_12
  · skip
    exact z_throw C hQ (by decide +kernel) zfit2 q258 q69 th_IAE tk_IAE tg_IAE dX1_checkArgument_4 dX1_checkArgument_7 dX1_checkArgument_8 dX1_checkArgument_11 (fun _ h => nomatch h) (by decide) (by decide) (by decide) (by decide) (by decide) (by decide) ⟨rfl, rfl, by simpa using c1⟩
set_option maxHeartbeats 4000000 in
set_option maxRecDepth 100000 in
theorem mX1_checkState {l : Launch} {D : ZD} {V : ZV} {b : Bool} : ZM l D yX1_checkState (ws_ yX1_checkState cX1_checkState 1 none) 6 1 6 eU V [.int (zb b)] (fun r V' => V' = V ∧ b = true) (fun E V' => E = "java/lang/IllegalStateException" ∧ V' = V ∧ b = false) := by
  refine z_enter (by decide +kernel) [(0, .int (zb b))] rfl (Nat.le_of_ble_eq_true rfl) (zcat_cons rfl zcat_nil) (fun Γ C hQ => ?_)
  refine z_iload_n C 0 rfl dX1_checkState_0 rfl ?_
  refine z_if_neB C 12 dX1_checkState_1 (by decide) (fun c1 => ?_) (fun c1 => ?_)
  · skip
    exact z_vret C hQ () rfl ⟨rfl, by simpa using c1⟩ (by decide) (by decide) dX1_checkState_12
  · skip
    exact z_throw C hQ (by decide +kernel) zfit2 q328 q70 th_ISE tk_ISE tg_ISE dX1_checkState_4 dX1_checkState_7 dX1_checkState_8 dX1_checkState_11 (fun _ h => nomatch h) (by decide) (by decide) (by decide) (by decide) (by decide) (by decide) ⟨rfl, rfl, by simpa using c1⟩
set_option maxHeartbeats 4000000 in
set_option maxRecDepth 100000 in
theorem mX1_checkElement {l : Launch} {D : ZD} {V : ZV} {b : Bool} : ZM l D yX1_checkElement (ws_ yX1_checkElement cX1_checkElement 1 none) 6 1 6 eU V [.int (zb b)] (fun r V' => V' = V ∧ b = true) (fun E V' => E = "java/util/NoSuchElementException" ∧ V' = V ∧ b = false) := by
  refine z_enter (by decide +kernel) [(0, .int (zb b))] rfl (Nat.le_of_ble_eq_true rfl) (zcat_cons rfl zcat_nil) (fun Γ C hQ => ?_)
  refine z_iload_n C 0 rfl dX1_checkElement_0 rfl ?_
  refine z_if_neB C 12 dX1_checkElement_1 (by decide) (fun c1 => ?_) (fun c1 => ?_)
  · skip
    exact z_vret C hQ () rfl ⟨rfl, by simpa using c1⟩ (by decide) (by decide) dX1_checkElement_12
  · skip
    exact z_throw C hQ (by decide +kernel) zfit2 q528 q76 th_NSE tk_NSE tg_NSE dX1_checkElement_4 dX1_checkElement_7 dX1_checkElement_8 dX1_checkElement_11 (fun _ h => nomatch h) (by decide) (by decide) (by decide) (by decide) (by decide) (by decide) ⟨rfl, rfl, by simpa using c1⟩
set_option maxHeartbeats 4000000 in
set_option maxRecDepth 100000 in
theorem mX1_checkPossible {l : Launch} {D : ZD} {V : ZV} {b : Bool} : ZM l D yX1_checkPossible (ws_ yX1_checkPossible cX1_checkPossible 1 none) 6 1 6 eU V [.int (zb b)] (fun r V' => V' = V ∧ b = true) (fun E V' => E = "java/lang/UnsupportedOperationException" ∧ V' = V ∧ b = false) := by
  refine z_enter (by decide +kernel) [(0, .int (zb b))] rfl (Nat.le_of_ble_eq_true rfl) (zcat_cons rfl zcat_nil) (fun Γ C hQ => ?_)
  refine z_iload_n C 0 rfl dX1_checkPossible_0 rfl ?_
  refine z_if_neB C 12 dX1_checkPossible_1 (by decide) (fun c1 => ?_) (fun c1 => ?_)
  · skip
    exact z_vret C hQ () rfl ⟨rfl, by simpa using c1⟩ (by decide) (by decide) dX1_checkPossible_12
  · skip
    exact z_throw C hQ (by decide +kernel) zfit2 q445 q75 th_UOE tk_UOE tg_UOE dX1_checkPossible_4 dX1_checkPossible_7 dX1_checkPossible_8 dX1_checkPossible_11 (fun _ h => nomatch h) (by decide) (by decide) (by decide) (by decide) (by decide) (by decide) ⟨rfl, rfl, by simpa using c1⟩
set_option maxHeartbeats 4000000 in
set_option maxRecDepth 100000 in
theorem mX1_isBetween {l : Launch} {D : ZD} {V : ZV} {v lo hi : Int32} : ZM l D yX1_isBetween (ws_ yX1_isBetween cX1_isBetween 3 (some .boolean)) 1 0 0 eB V [.int v, .int lo, .int hi] (fun r V' => V' = V ∧ r = decide (lo ≤ v ∧ v ≤ hi)) zno_x := by
  refine z_enter (by decide +kernel) [(0, .int v), (1, .int lo), (2, .int hi)] rfl (Nat.le_of_ble_eq_true rfl) (zcat_cons rfl (zcat_cons rfl (zcat_cons rfl zcat_nil))) (fun Γ C hQ => ?_)
  refine z_iload_n C 0 rfl dX1_isBetween_0 rfl ?_
  refine z_iload_n C 1 rfl dX1_isBetween_1 rfl ?_
  refine z_icmp_lt C 14 dX1_isBetween_2 (by decide) (fun c2 => ?_) (fun c2 => ?_)
  · skip
    refine z_iconst C (v := (nI 0)) dX1_isBetween_14 rfl ?_
    exact z_zret C hQ false rfl rfl ⟨rfl, in_bool1 _ _ _ (Or.inl c2)⟩ (by decide) (by decide) dX1_isBetween_15
  · skip
    refine z_iload_n C 0 rfl dX1_isBetween_5 rfl ?_
    refine z_iload_n C 2 rfl dX1_isBetween_6 rfl ?_
    refine z_icmp_gt C 14 dX1_isBetween_7 (by decide) (fun c7 => ?_) (fun c7 => ?_)
    · skip
      refine z_iconst C (v := (nI 0)) dX1_isBetween_14 rfl ?_
      exact z_zret C hQ false rfl rfl ⟨rfl, in_bool1 _ _ _ (Or.inr c7)⟩ (by decide) (by decide) dX1_isBetween_15
    · skip
      refine z_iconst C (v := (nI 1)) dX1_isBetween_10 rfl ?_
      refine z_goto C 15 dX1_isBetween_11 (by decide) ?_
      exact z_zret C hQ true rfl rfl ⟨rfl, in_bool _ _ _ c2 c7⟩ (by decide) (by decide) dX1_isBetween_15
set_option maxHeartbeats 4000000 in
set_option maxRecDepth 100000 in
theorem mX4_isHeldAt {l : Launch} {D : ZD} {V : ZV} {b : Nat} {n w u : Nat} {h : Int32} (hb : V b = some (.inr (3, [.int (nI n), .int (nI w), .int h, .int (nI u)]))) {t : Nat} (ht : t < 2000) (hu : u < 2000) : ZM l D yX4_isHeldAt (ws_ yX4_isHeldAt cX4_isHeldAt 2 (some .boolean)) 1 0 0 eB V [.ref b, .int (nI t)] (fun r V' => V' = V ∧ r = (!decide (h = nI 45) && decide (t < u))) zno_x := by
  refine z_enter (by decide +kernel) [(0, .ref b), (1, .int (nI t))] rfl (Nat.le_of_ble_eq_true rfl) (zcat_cons rfl (zcat_cons rfl zcat_nil)) (fun Γ C hQ => ?_)
  refine z_aload_n C 0 rfl dX4_isHeldAt_0 rfl ?_
  refine z_get C k_B hb 2 (by decide) rfl q417 dX4_isHeldAt_1 ?_
  refine z_bipush C (v := (nI 45)) dX4_isHeldAt_4 rfl ?_
  refine z_icmp_eq C 21 dX4_isHeldAt_6 (by decide) (fun c6 => ?_) (fun c6 => ?_)
  · skip
    refine z_iconst C (v := (nI 0)) dX4_isHeldAt_21 rfl ?_
    exact z_zret C hQ false rfl rfl ⟨rfl, by simp [c6]⟩ (by decide) (by decide) dX4_isHeldAt_22
  · skip
    refine z_iload_n C 1 rfl dX4_isHeldAt_9 rfl ?_
    refine z_aload_n C 0 rfl dX4_isHeldAt_10 rfl ?_
    refine z_get C k_B hb 3 (by decide) rfl q419 dX4_isHeldAt_11 ?_
    refine z_icmp_geN C 21 (by omega) (by omega) dX4_isHeldAt_14 (by decide) (fun c14 => ?_) (fun c14 => ?_)
    · skip
      refine z_iconst C (v := (nI 0)) dX4_isHeldAt_21 rfl ?_
      exact z_zret C hQ false rfl rfl ⟨rfl, by simp [c6, c14]⟩ (by decide) (by decide) dX4_isHeldAt_22
    · skip
      refine z_iconst C (v := (nI 1)) dX4_isHeldAt_17 rfl ?_
      refine z_goto C 22 dX4_isHeldAt_18 (by decide) ?_
      exact z_zret C hQ true rfl rfl ⟨rfl, by simp [c6, c14]⟩ (by decide) (by decide) dX4_isHeldAt_22
set_option maxHeartbeats 4000000 in
set_option maxRecDepth 100000 in
theorem mX4_isPinned {l : Launch} {D : ZD} {V : ZV} {b : Nat} {n w u : Nat} {h : Int32} (hb : V b = some (.inr (3, [.int (nI n), .int (nI w), .int h, .int (nI u)]))) : ZM l D yX4_isPinned (ws_ yX4_isPinned cX4_isPinned 1 (some .boolean)) 1 0 0 eB V [.ref b] (fun r V' => V' = V ∧ r = decide (h = nI 112)) zno_x := by
  refine z_enter (by decide +kernel) [(0, .ref b)] rfl (Nat.le_of_ble_eq_true rfl) (zcat_cons rfl zcat_nil) (fun Γ C hQ => ?_)
  refine z_aload_n C 0 rfl dX4_isPinned_0 rfl ?_
  refine z_get C k_B hb 2 (by decide) rfl q417 dX4_isPinned_1 ?_
  refine z_bipush C (v := (nI 112)) dX4_isPinned_4 rfl ?_
  refine z_icmp_ne C 13 dX4_isPinned_6 (by decide) (fun c6 => ?_) (fun c6 => ?_)
  · skip
    refine z_iconst C (v := (nI 0)) dX4_isPinned_13 rfl ?_
    exact z_zret C hQ false rfl rfl ⟨rfl, by simp [c6]⟩ (by decide) (by decide) dX4_isPinned_14
  · skip
    refine z_iconst C (v := (nI 1)) dX4_isPinned_9 rfl ?_
    refine z_goto C 14 dX4_isPinned_10 (by decide) ?_
    exact z_zret C hQ true rfl rfl ⟨rfl, by simp [c6]⟩ (by decide) (by decide) dX4_isPinned_14
set_option maxHeartbeats 4000000 in
set_option maxRecDepth 100000 in
theorem mX4_init {l : Launch} {D : ZD} {V : ZV} {b n w : Nat} (hb : V b = some (.inr (3, [.int (nI 0), .int (nI 0), .int (nI 0), .int (nI 0)]))) : ZM l D yX4_init (ws_ yX4_init cX4_init 3 none) 2 0 0 eU V [.ref b, .int (nI n), .int (nI w)] (fun r V' => V' b = some (.inr (3, [.int (nI n), .int (nI w), .int (nI 45), .int (nI 0)])) ∧ zUnc V V' (fun a => a = b)) zno_x := by
  refine z_enter (by decide +kernel) [(0, .ref b), (1, .int (nI n)), (2, .int (nI w))] rfl (Nat.le_of_ble_eq_true rfl) (zcat_cons rfl (zcat_cons rfl (zcat_cons rfl zcat_nil))) (fun Γ C hQ => ?_)
  have hU1 : zUnc V V (fun z_ => z_ = b) := zUnc.rf
  refine z_aload_n C 0 rfl dX4_init_0 rfl ?_
  refine z_objInit C q410 q103 q104 dX4_init_1 (by decide) (by decide) ?_
  refine z_aload_n C 0 rfl dX4_init_4 rfl ?_
  refine z_bipush C (v := (nI 45)) dX4_init_5 rfl ?_
  refine z_put C k_B hb 2 (by decide) [.int (nI 0), .int (nI 0), .int (nI 45), .int (nI 0)] rfl (Nat.le_of_ble_eq_true rfl) (by decide) (by decide) rfl q417 dX4_init_7 (z_nV (fun V2 hV3 => ?_))
  have hU4 := zUnc.up (S := (fun z_ => z_ = b)) hU1 hV3 rfl
  have g5 : V2 b = some (.inr (3, [.int (nI 0), .int (nI 0), .int (nI 45), .int (nI 0)])) := zself hV3
  refine z_aload_n C 0 rfl dX4_init_10 rfl ?_
  refine z_iload_n C 1 rfl dX4_init_11 rfl ?_
  refine z_putF C k_B g5 0 (by decide) [.int (nI n), .int (nI 0), .int (nI 45), .int (nI 0)] rfl (Nat.le_of_ble_eq_true rfl) rfl rfl rfl rfl rfl q411 dX4_init_12 (z_nV (fun V6 hV7 => ?_))
  have hU8 := zUnc.up (S := (fun z_ => z_ = b)) hU4 hV7 rfl
  have g9 : V6 b = some (.inr (3, [.int (nI n), .int (nI 0), .int (nI 45), .int (nI 0)])) := zself hV7
  refine z_aload_n C 0 rfl dX4_init_15 rfl ?_
  refine z_iload_n C 2 rfl dX4_init_16 rfl ?_
  refine z_putF C k_B g9 1 (by decide) [.int (nI n), .int (nI w), .int (nI 45), .int (nI 0)] rfl (Nat.le_of_ble_eq_true rfl) rfl rfl rfl rfl rfl q414 dX4_init_17 (z_nV (fun V10 hV11 => ?_))
  have hU12 := zUnc.up (S := (fun z_ => z_ = b)) hU8 hV11 rfl
  have g13 : V10 b = some (.inr (3, [.int (nI n), .int (nI w), .int (nI 45), .int (nI 0)])) := zself hV11
  exact z_vret C hQ () rfl ⟨g13, hU12⟩ (by decide) (by decide) dX4_init_20
set_option maxHeartbeats 4000000 in
set_option maxRecDepth 100000 in
theorem mX7_init {l : Launch} {D : ZD} {V : ZV} {b n w : Nat} (hb : V b = some (.inr (6, [.int (nI 0), .int (nI 0)]))) : ZM l D yX7_init (ws_ yX7_init cX7_init 3 none) 2 0 0 eU V [.ref b, .int (nI n), .int (nI w)] (fun r V' => hSl V' b n w ∧ zUnc V V' (fun a => a = b)) zno_x := by
  refine z_enter (by decide +kernel) [(0, .ref b), (1, .int (nI n)), (2, .int (nI w))] rfl (Nat.le_of_ble_eq_true rfl) (zcat_cons rfl (zcat_cons rfl (zcat_cons rfl zcat_nil))) (fun Γ C hQ => ?_)
  have hU1 : zUnc V V (fun z_ => z_ = b) := zUnc.rf
  refine z_aload_n C 0 rfl dX7_init_0 rfl ?_
  refine z_objInit C q1146 q103 q104 dX7_init_1 (by decide) (by decide) ?_
  refine z_aload_n C 0 rfl dX7_init_4 rfl ?_
  refine z_iload_n C 1 rfl dX7_init_5 rfl ?_
  refine z_putF C k_S hb 0 (by decide) [.int (nI n), .int (nI 0)] rfl (Nat.le_of_ble_eq_true rfl) rfl rfl rfl rfl rfl q1147 dX7_init_6 (z_nV (fun V2 hV3 => ?_))
  have hU4 := zUnc.up (S := (fun z_ => z_ = b)) hU1 hV3 rfl
  have g5 : V2 b = some (.inr (6, [.int (nI n), .int (nI 0)])) := zself hV3
  refine z_aload_n C 0 rfl dX7_init_9 rfl ?_
  refine z_iload_n C 2 rfl dX7_init_10 rfl ?_
  refine z_putF C k_S g5 1 (by decide) [.int (nI n), .int (nI w)] rfl (Nat.le_of_ble_eq_true rfl) rfl rfl rfl rfl rfl q1149 dX7_init_11 (z_nV (fun V6 hV7 => ?_))
  have hU8 := zUnc.up (S := (fun z_ => z_ = b)) hU4 hV7 rfl
  have g9 : V6 b = some (.inr (6, [.int (nI n), .int (nI w)])) := zself hV7
  exact z_vret C hQ () rfl ⟨g9, hU8⟩ (by decide) (by decide) dX7_init_14
set_option maxHeartbeats 4000000 in
set_option maxRecDepth 100000 in
theorem mX7_compareTo_2 {l : Launch} {D : ZD} {V : ZV} {a b h1 k1 h2 k2 : Nat} (ha : hSl V a h1 k1) (hb : hSl V b h2 k2) (b1 : h1 < 1000000) (b2 : h2 < 1000000) (b3 : k1 < 1000000) (b4 : k2 < 1000000) : ZM l D yX7_compareTo_2 (ws_ yX7_compareTo_2 cX7_compareTo_2 2 (some .int)) 1 0 0 eI V [.ref a, .ref b] (fun r V' => V' = V ∧ zCmp r [h1, k1] [h2, k2]) zno_x := by
  refine z_enter (by decide +kernel) [(0, .ref a), (1, .ref b)] rfl (Nat.le_of_ble_eq_true rfl) (zcat_cons rfl (zcat_cons rfl zcat_nil)) (fun Γ C hQ => ?_)
  refine z_aload_n C 0 rfl dX7_compareTo_2_0 rfl ?_
  refine z_get C k_S ha 0 (by decide) rfl q1147 dX7_compareTo_2_1 ?_
  refine z_aload_n C 1 rfl dX7_compareTo_2_4 rfl ?_
  refine z_get C k_S hb 0 (by decide) rfl q1147 dX7_compareTo_2_5 ?_
  refine z_icmp_eqN C 23 (by omega) (by omega) dX7_compareTo_2_8 (by decide) (fun c8 => ?_) (fun c8 => ?_)
  · skip
    refine z_aload_n C 0 rfl dX7_compareTo_2_23 rfl ?_
    refine z_get C k_S ha 1 (by decide) rfl q1149 dX7_compareTo_2_24 ?_
    refine z_aload_n C 1 rfl dX7_compareTo_2_27 rfl ?_
    refine z_get C k_S hb 1 (by decide) rfl q1149 dX7_compareTo_2_28 ?_
    refine z_isub C dX7_compareTo_2_31 ?_
    exact z_iret C hQ ((nI k1) - (nI k2)) rfl ⟨rfl, by rw [c8]; exact zCmp_pre [h2] (sub_cmp b3 b4)⟩ (by decide) (by decide) dX7_compareTo_2_32
  · skip
    refine z_aload_n C 0 rfl dX7_compareTo_2_11 rfl ?_
    refine z_get C k_S ha 0 (by decide) rfl q1147 dX7_compareTo_2_12 ?_
    refine z_aload_n C 1 rfl dX7_compareTo_2_15 rfl ?_
    refine z_get C k_S hb 0 (by decide) rfl q1147 dX7_compareTo_2_16 ?_
    refine z_isub C dX7_compareTo_2_19 ?_
    refine z_goto C 32 dX7_compareTo_2_20 (by decide) ?_
    exact z_iret C hQ ((nI h1) - (nI h2)) rfl ⟨rfl, slot_h b1 b2 c8⟩ (by decide) (by decide) dX7_compareTo_2_32
set_option maxHeartbeats 4000000 in
set_option maxRecDepth 100000 in
theorem mX7_compareTo {l : Launch} {D : ZD} {V : ZV} {a b h1 k1 h2 k2 : Nat} (ha : hSl V a h1 k1) (hb : hSl V b h2 k2) (b1 : h1 < 1000000) (b2 : h2 < 1000000) (b3 : k1 < 1000000) (b4 : k2 < 1000000) : ZM l D yX7_compareTo (ws_ yX7_compareTo cX7_compareTo 2 (some .int)) 2 0 0 eI V [.ref a, .ref b] (fun r V' => V' = V ∧ zCmp r [h1, k1] [h2, k2]) zno_x := by
  refine z_enter (by decide +kernel) [(0, .ref a), (1, .ref b)] rfl (Nat.le_of_ble_eq_true rfl) (zcat_cons rfl (zcat_cons rfl zcat_nil)) (fun Γ C hQ => ?_)
  refine z_aload_n C 0 rfl dX7_compareTo_0 rfl ?_
  refine z_aload_n C 1 rfl dX7_compareTo_1 rfl ?_
  refine z_ccast C k_S hb q662 (Or.inl rfl) dX7_compareTo_2 ?_
  refine z_callV C k_S ha (As := [.ref b]) (mX7_compareTo_2 ha hb b1 b2 b3 b4) (lw_V q663 q664 q665 q91 q666) rfl hd_X7_compareTo_2 rfl (Nat.le_of_ble_eq_true rfl) (by decide) (by decide) (by decide) (by decide) rfl dX7_compareTo_5 (fun _ _ h => h.elim) (fun r1 V2 hP3 => ?_)
  obtain ⟨rfl, hz⟩ := hP3
  refine z_st (st' := [.int r1]) rfl ?_
  exact z_iret C hQ r1 rfl ⟨rfl, hz⟩ (by decide) (by decide) dX7_compareTo_8
set_option maxHeartbeats 4000000 in
set_option maxRecDepth 100000 in
theorem mX8_init {l : Launch} {D : ZD} {V : ZV} {pa n x w : Nat} (ha : V pa = some (.inr (7, [.int (nI 0), .null, .null, .int (nI 0)]))) : ZM l D yX8_init (ws_ yX8_init cX8_init 4 none) 2 0 0 eU V [.ref pa, .int (nI n), .ref x, .ref w] (fun r V' => V' pa = some (.inr (7, [.int (nI n), .ref x, .ref w, .int (nI 98)])) ∧ zUnc V V' (fun a => a = pa)) zno_x := by
  refine z_enter (by decide +kernel) [(0, .ref pa), (1, .int (nI n)), (2, .ref x), (3, .ref w)] rfl (Nat.le_of_ble_eq_true rfl) (zcat_cons rfl (zcat_cons rfl (zcat_cons rfl (zcat_cons rfl zcat_nil)))) (fun Γ C hQ => ?_)
  have hU1 : zUnc V V (fun z_ => z_ = pa) := zUnc.rf
  refine z_aload_n C 0 rfl dX8_init_0 rfl ?_
  refine z_objInit C q1170 q103 q104 dX8_init_1 (by decide) (by decide) ?_
  refine z_aload_n C 0 rfl dX8_init_4 rfl ?_
  refine z_bipush C (v := (nI 98)) dX8_init_5 rfl ?_
  refine z_put C k_A ha 3 (by decide) [.int (nI 0), .null, .null, .int (nI 98)] rfl (Nat.le_of_ble_eq_true rfl) (by decide) (by decide) rfl q1177 dX8_init_7 (z_nV (fun V2 hV3 => ?_))
  have hU4 := zUnc.up (S := (fun z_ => z_ = pa)) hU1 hV3 rfl
  have g5 : V2 pa = some (.inr (7, [.int (nI 0), .null, .null, .int (nI 98)])) := zself hV3
  refine z_aload_n C 0 rfl dX8_init_10 rfl ?_
  refine z_iload_n C 1 rfl dX8_init_11 rfl ?_
  refine z_putF C k_A g5 0 (by decide) [.int (nI n), .null, .null, .int (nI 98)] rfl (Nat.le_of_ble_eq_true rfl) rfl rfl rfl rfl rfl q1171 dX8_init_12 (z_nV (fun V6 hV7 => ?_))
  have hU8 := zUnc.up (S := (fun z_ => z_ = pa)) hU4 hV7 rfl
  have g9 : V6 pa = some (.inr (7, [.int (nI n), .null, .null, .int (nI 98)])) := zself hV7
  refine z_aload_n C 0 rfl dX8_init_15 rfl ?_
  refine z_aload_n C 2 rfl dX8_init_16 rfl ?_
  refine z_putF C k_A g9 1 (by decide) [.int (nI n), .ref x, .null, .int (nI 98)] rfl (Nat.le_of_ble_eq_true rfl) rfl rfl rfl rfl rfl q1173 dX8_init_17 (z_nV (fun V10 hV11 => ?_))
  have hU12 := zUnc.up (S := (fun z_ => z_ = pa)) hU8 hV11 rfl
  have g13 : V10 pa = some (.inr (7, [.int (nI n), .ref x, .null, .int (nI 98)])) := zself hV11
  refine z_aload_n C 0 rfl dX8_init_20 rfl ?_
  refine z_aload_n C 3 rfl dX8_init_21 rfl ?_
  refine z_putF C k_A g13 2 (by decide) [.int (nI n), .ref x, .ref w, .int (nI 98)] rfl (Nat.le_of_ble_eq_true rfl) rfl rfl rfl rfl rfl q1175 dX8_init_22 (z_nV (fun V14 hV15 => ?_))
  have hU16 := zUnc.up (S := (fun z_ => z_ = pa)) hU12 hV15 rfl
  have g17 : V14 pa = some (.inr (7, [.int (nI n), .ref x, .ref w, .int (nI 98)])) := zself hV15
  exact z_vret C hQ () rfl ⟨g17, hU16⟩ (by decide) (by decide) dX8_init_25
set_option maxHeartbeats 4000000 in
set_option maxRecDepth 100000 in
theorem mX5_init {l : Launch} {D : ZD} {V : ZV} {a : Nat} : ZM l D yX5_init (ws_ yX5_init cX5_init 1 none) 2 0 0 eU V [.ref a] (fun r V' => V' = V) zno_x := by
  refine z_enter (by decide +kernel) [(0, .ref a)] rfl (Nat.le_of_ble_eq_true rfl) (zcat_cons rfl zcat_nil) (fun Γ C hQ => ?_)
  refine z_aload_n C 0 rfl dX5_init_0 rfl ?_
  refine z_objInit C q810 q103 q104 dX5_init_1 (by decide) (by decide) ?_
  exact z_vret C hQ () rfl rfl (by decide) (by decide) dX5_init_4
