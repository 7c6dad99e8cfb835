/-! JDK: small Integers -/
set_option maxRecDepth 100000
theorem lt_m128 {n : Nat} (h : n < 128) : ¬ nI n < (-128) := by
  rw [Int32.lt_iff_toInt_lt]; unfold nI; rw [Int32.toInt_ofNat_of_lt (by omega)]; simp
set_option maxHeartbeats 4000000 in
set_option maxRecDepth 100000 in
theorem mJ19_valueOf {l : Launch} {D : ZD} {V : ZV} {n : Nat} (hn : n < 128) : ZM l D yJ19_valueOf (ws_ yJ19_valueOf cJ19_valueOf 1 (some (.object "java/lang/Integer"))) 1 0 0 eR V [.int (nI n)] (fun r V' => V' = V ∧ r = D.box (128 + n)) zno_x := by
  refine z_enter (by decide +kernel) [(0, .int (nI n))] rfl (Nat.le_of_ble_eq_true rfl) (zcat_cons rfl zcat_nil) (fun Γ C hQ => ?_)
  refine z_iload_n C 0 rfl dJ19_valueOf_0 rfl ?_
  refine z_bipush C (v := (-128)) dJ19_valueOf_1 rfl ?_
  refine z_icmp_lt C 23 dJ19_valueOf_3 (by decide) (fun c3 => ?_) (fun c3 => ?_)
  · skip
    exfalso; exact absurd c3 (lt_m128 hn)
  · skip
    refine z_iload_n C 0 rfl dJ19_valueOf_6 rfl ?_
    refine z_getsH C q989 dJ19_valueOf_7 ?_
    refine z_icmp_gtN C 23 (by omega) (by omega) dJ19_valueOf_10 (by decide) (fun c10 => ?_) (fun c10 => ?_)
    · skip
      exfalso; omega
    · skip
      refine z_getsC C q991 dJ19_valueOf_13 ?_
      refine z_iload_n C 0 rfl dJ19_valueOf_16 rfl ?_
      refine z_sipush C (v := (nI 128)) dJ19_valueOf_17 rfl ?_
      refine z_iaddN C dJ19_valueOf_20 ?_
      refine z_top (v := .int (nI (128 + n))) (by rw [Nat.add_comm]) ?_
      refine z_aaldC C (j := 128 + n) (by omega) dJ19_valueOf_21 ?_
      exact z_aret C hQ (D.box (128 + n)) rfl (Or.inl ⟨_, rfl⟩) ⟨rfl, rfl⟩ (by decide) (by decide) dJ19_valueOf_22
set_option maxHeartbeats 4000000 in
set_option maxRecDepth 100000 in
theorem mJ19_intValue {l : Launch} {D : ZD} {V : ZV} {n : Nat} (hn : n < 128) : ZM l D yJ19_intValue (ws_ yJ19_intValue cJ19_intValue 1 (some .int)) 1 0 0 eN V [.ref (D.box (128 + n))] (fun r V' => V' = V ∧ r = n) zno_x := by
  refine z_enter (by decide +kernel) [(0, .ref (D.box (128 + n)))] rfl (Nat.le_of_ble_eq_true rfl) (zcat_cons rfl zcat_nil) (fun Γ C hQ => ?_)
  refine z_aload_n C 0 rfl dJ19_intValue_0 rfl ?_
  refine z_getI C hn q1001 dJ19_intValue_1 ?_
  exact z_iret C hQ n rfl ⟨rfl, rfl⟩ (by decide) (by decide) dJ19_intValue_4
