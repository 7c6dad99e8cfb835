/-! MODEL: holds, appointments looked for, moves -/
set_option maxRecDepth 100000
theorem nI_nem1 {k : Nat} (h : k < 2147483648) : nI k ≠ -1 := by
  intro e
  have h1 := congrArg Int32.toInt e
  unfold nI at h1
  rw [Int32.toInt_ofNat_of_lt h] at h1
  have h2 : ((-1 : Int32)).toInt = -1 := by decide
  omega
theorem mE_hld {F F2 : Nat → Nat → Int32} {st bx b : Nat} {rch wt : Nat → Nat} {ins : Nat → Bool} {hld : Nat → Int32} {v : Int32} (h : mE F st bx rch wt ins hld) (h0 : F2 0 = F 0) (h1 : F2 1 = F 1) (h2 : F2 2 = F 2) (h3 : F2 3 = va_up (F 3) b v) : mE F2 st bx rch wt ins (va_up hld b v) := by
  refine ⟨by rw [h0]; exact h.1, by rw [h1]; exact h.2.1, by rw [h2]; exact h.2.2.1, fun c hc => ?_⟩
  rw [h3]
  by_cases e : c = b
  · subst e; rw [zvs, zvs]
  · rw [zvn e, zvn e]; exact h.2.2.2 c hc
theorem mU_up {f : Nat → Int32} {unt : Nat → Nat} (h : ∀ b, b < 20 → f b = nI (unt b)) (x u : Nat) : ∀ b, b < 20 → va_up f x (nI u) b = nI (va_up unt x u b) := fun b hb => by
  by_cases e : b = x
  · subst e; rw [zvs, zvs]
  · rw [zvn e, zvn e]; exact h b hb
theorem fA_pin {st bx : Nat} {ins : Nat → Bool} {Y : YD} (h : yGood st bx ins Y) {p k : Nat} (hk : k < (Y p).length) : ∃ u, (Y p)[k]? = some u ∧ u < bx := by
  have e : (Y p)[k]? = some (Y p)[k] := List.getElem?_eq_getElem hk
  exact ⟨_, e, (h.2.2 p _ (List.mem_of_getElem? e)).1⟩
set_option maxHeartbeats 4000000 in
set_option maxRecDepth 100000 in
theorem mX3_appointmentIn {l : Launch} {D : ZD} {V : ZV} {kk m : Nat} {A : Nat → Nat} {F : Nat → Nat → Int32} {cd : Int32} {st : Nat} {rch : Nat → Nat} {bx : Nat} {wt : Nat → Nat} {ins : Nat → Bool} {hld : Nat → Int32} {unt : Nat → Nat} {Y : YD} {ap : Nat} {ab hr ln : Nat → Nat} {sa : Nat → Int32} {mv : Int32} {nw : Nat} {lf : Int64} (hR : mR D V m A F cd (qS st rch bx wt ins hld unt Y ap ab hr ln sa mv nw lf)) (hI : qI kk (qS st rch bx wt ins hld unt Y ap ab hr ln sa mv nw lf)) {b : Nat} (hb : b < 1000) : ZM l D yX3_appointmentIn (ws_ yX3_appointmentIn cX3_appointmentIn 3 (some .int)) 1 0 0 eI V [.ref m, .int (nI b)] (fun r V' => V' = V ∧ r = oInt (fF (fun a => (decide (ab a = b) && decide (sa a = nI 98))) ap)) zno_x := by
  refine z_enter (by decide +kernel) [(0, .ref m), (1, .int (nI b))] rfl (Nat.le_of_ble_eq_true rfl) (zcat_cons rfl (zcat_cons rfl zcat_nil)) (fun Γ C hQ => ?_)
  have hM : MX D V m A F cd nw st bx mv ap lf := hR.1
  have hE : mE F st bx rch wt ins hld := hR.2.1
  have hU : ∀ b, b < 20 → F 4 b = nI (unt b) := hR.2.2.1
  have hy : mY F 0 Y := hR.2.2.2.1
  have hA : ∀ a, a < ap → F 8 a = nI (ab a) ∧ F 9 a = nI (hr a) ∧ F 10 a = nI (ln a) ∧ F 11 a = sa a := hR.2.2.2.2
  have hst : st ≤ 4 := hI.1.1
  have hbx : bx ≤ 20 := hI.1.2.1
  have hrc : ∀ s, s < st → rch s ≤ 4 := fun s hs => (hI.1.2.2.1 s hs).2
  have hwt : ∀ b, b < bx → wt b < 1000 := fun b hb => by have h9 : wt b ≤ 30 := (hI.1.2.2.2 b hb).2; omega
  have hg : yGood st bx ins Y := hI.2.1.1
  have hht : ∀ s, s < st → (Y s).length ≤ rch s := hI.2.1.2.1
  have hu1 : ∀ b, unt b ≤ 1000 := hI.2.2.1.2.1
  have hhl : ∀ b, b < bx → hld b = nI 45 ∨ hld b = nI 112 ∨ hld b = nI 108 := hI.2.2.1.2.2
  have hap : ap ≤ 30 := hI.2.2.2.1.1
  have haa : ∀ a, a < ap → ab a < bx ∧ hr a ≤ 999 ∧ ln a < 3 ∧ (sa a = nI 98 ∨ sa a = nI 99 ∨ sa a = nI 103 ∨ sa a = nI 100 ∨ sa a = nI 109) := hI.2.2.2.1.2.1
  have hnw : nw ≤ 999 := hI.2.2.2.2
  have hY4 : ∀ s, (Y s).length ≤ 4 := hg.1.1
  have hmm : ∀ s, ∀ c ∈ Y s, c < bx := fun s c hc => (hg.2.2 s c hc).1
  refine z_iconst C (v := (nI 0)) dX3_appointmentIn_0 rfl ?_
  refine z_istore_n C [(2, .int (nI 0)), (0, .ref m), (1, .int (nI b))] dX3_appointmentIn_1 rfl (by decide) rfl ?_
  have loop1 : ∀ (n_loop1 : Nat) (k : Nat), k ≤ ap → (∀ j, j < k → (decide (ab j = b) && decide (sa j = nI 98)) = false) → ap - k < n_loop1 → ZW l D Γ (zr 1 0 0) 2 [(2, .int (nI k)), (0, .ref m), (1, .int (nI b))] [] V 0 0 := by
    intro n_loop1
    induction n_loop1 with
    | zero => intro k _ _ hm; exact absurd hm (Nat.not_lt_zero _)
    | succ n_loop1 ih_loop1 =>
      intro k hloop1_0 hloop1_1 hm
      refine z_iload_n C 0 rfl dX3_appointmentIn_2 rfl ?_
      refine z_aload_n C 1 rfl dX3_appointmentIn_3 rfl ?_
      refine z_get C k_M hM.1 13 (by decide) rfl q1400 dX3_appointmentIn_4 ?_
      refine z_icmp_geN C 39 (by omega) (by omega) dX3_appointmentIn_7 (by decide) (fun c7 => ?_) (fun c7 => ?_)
      · skip
        obtain rfl : k = ap := by omega
        refine z_iconst C (v := (-1)) dX3_appointmentIn_39 rfl ?_
        exact z_iret C hQ (-1) rfl ⟨rfl, by rw [fF_no hloop1_1]; rfl⟩ (by decide) (by decide) dX3_appointmentIn_40
      · skip
        obtain ⟨w1, w2, w3, w4⟩ := haa k (by omega)
        refine z_aload_n C 1 rfl dX3_appointmentIn_10 rfl ?_
        refine z_get C k_M hM.1 14 (by decide) rfl q1401 dX3_appointmentIn_11 ?_
        refine z_iload_n C 0 rfl dX3_appointmentIn_14 rfl ?_
        have ga2 : V (A 8) = some (.inl (D.arr 0, 30, .inl (F 8))) := hM.2.1 8 (by decide)
        refine z_iald C ga2 (by omega) (by omega) (v := (nI (ab k))) (hA k (by omega)).1 dX3_appointmentIn_15 ?_
        refine z_iload_n C 2 rfl dX3_appointmentIn_16 rfl ?_
        refine z_icmp_neN C 33 (by omega) (by omega) dX3_appointmentIn_17 (by decide) (fun c17 => ?_) (fun c17 => ?_)
        · skip
          have hno : (decide (ab k = b) && decide (sa k = nI 98)) = false := by simp [c17]
          refine z_iincN C 0 1 [(2, .int (nI (k + 1))), (0, .ref m), (1, .int (nI b))] rfl dX3_appointmentIn_33 rfl (by decide) rfl ?_
          refine z_goto C 2 dX3_appointmentIn_36 (by decide) ?_
          have hnext : ∀ j, j < k + 1 → (decide (ab j = b) && decide (sa j = nI 98)) = false := by
            intro j hj
            rcases Nat.lt_or_ge j k with q | q
            · exact hloop1_1 j q
            · obtain rfl : j = k := by omega
              exact hno
          exact ih_loop1 (k + 1) (by omega) hnext (by omega)
        · skip
          refine z_aload_n C 1 rfl dX3_appointmentIn_20 rfl ?_
          refine z_get C k_M hM.1 17 (by decide) rfl q1404 dX3_appointmentIn_21 ?_
          refine z_iload_n C 0 rfl dX3_appointmentIn_24 rfl ?_
          have ga3 : V (A 11) = some (.inl (D.arr 4, 30, .inl (F 11))) := hM.2.1 11 (by decide)
          refine z_cald C ga3 (by omega) (by omega) (v := (sa k)) (hA k (by omega)).2.2.2 dX3_appointmentIn_25 ?_
          refine z_bipush C (v := (nI 98)) dX3_appointmentIn_26 rfl ?_
          refine z_icmp_ne C 33 dX3_appointmentIn_28 (by decide) (fun c28 => ?_) (fun c28 => ?_)
          · skip
            have hno : (decide (ab k = b) && decide (sa k = nI 98)) = false := by simp [c28]
            refine z_iincN C 0 1 [(2, .int (nI (k + 1))), (0, .ref m), (1, .int (nI b))] rfl dX3_appointmentIn_33 rfl (by decide) rfl ?_
            refine z_goto C 2 dX3_appointmentIn_36 (by decide) ?_
            have hnext : ∀ j, j < k + 1 → (decide (ab j = b) && decide (sa j = nI 98)) = false := by
              intro j hj
              rcases Nat.lt_or_ge j k with q | q
              · exact hloop1_1 j q
              · obtain rfl : j = k := by omega
                exact hno
            exact ih_loop1 (k + 1) (by omega) hnext (by omega)
          · skip
            refine z_iload_n C 0 rfl dX3_appointmentIn_31 rfl ?_
            exact z_iret C hQ (nI k) rfl ⟨rfl, by rw [fF_at (a := k) (by simp [c17, c28]) hloop1_1 (by omega)]; rfl⟩ (by decide) (by decide) dX3_appointmentIn_32
  exact loop1 _ 0 (Nat.zero_le _) (fun j h => absurd h (Nat.not_lt_zero _)) (Nat.lt_succ_self _)
set_option maxHeartbeats 4000000 in
set_option maxRecDepth 100000 in
theorem mX3_bookedIn {l : Launch} {D : ZD} {V : ZV} {kk m : Nat} {A : Nat → Nat} {F : Nat → Nat → Int32} {cd : Int32} {st : Nat} {rch : Nat → Nat} {bx : Nat} {wt : Nat → Nat} {ins : Nat → Bool} {hld : Nat → Int32} {unt : Nat → Nat} {Y : YD} {ap : Nat} {ab hr ln : Nat → Nat} {sa : Nat → Int32} {mv : Int32} {nw : Nat} {lf : Int64} (hR : mR D V m A F cd (qS st rch bx wt ins hld unt Y ap ab hr ln sa mv nw lf)) (hI : qI kk (qS st rch bx wt ins hld unt Y ap ab hr ln sa mv nw lf)) {x y : Nat} (hx : x < 1000) (hy2 : y < 2000) : ZM l D yX3_bookedIn (ws_ yX3_bookedIn cX3_bookedIn 4 (some .int)) 1 0 0 eI V [.ref m, .int (nI x), .int (nI y)] (fun r V' => V' = V ∧ r = oInt (fF (fun a => (decide (ln a = x) && (decide (hr a = y) && decide (sa a = nI 98)))) ap)) zno_x := by
  refine z_enter (by decide +kernel) [(0, .ref m), (1, .int (nI x)), (2, .int (nI y))] rfl (Nat.le_of_ble_eq_true rfl) (zcat_cons rfl (zcat_cons rfl (zcat_cons rfl zcat_nil))) (fun Γ C hQ => ?_)
  have hM : MX D V m A F cd nw st bx mv ap lf := hR.1
  have hE : mE F st bx rch wt ins hld := hR.2.1
  have hU : ∀ b, b < 20 → F 4 b = nI (unt b) := hR.2.2.1
  have hy : mY F 0 Y := hR.2.2.2.1
  have hA : ∀ a, a < ap → F 8 a = nI (ab a) ∧ F 9 a = nI (hr a) ∧ F 10 a = nI (ln a) ∧ F 11 a = sa a := hR.2.2.2.2
  have hst : st ≤ 4 := hI.1.1
  have hbx : bx ≤ 20 := hI.1.2.1
  have hrc : ∀ s, s < st → rch s ≤ 4 := fun s hs => (hI.1.2.2.1 s hs).2
  have hwt : ∀ b, b < bx → wt b < 1000 := fun b hb => by have h9 : wt b ≤ 30 := (hI.1.2.2.2 b hb).2; omega
  have hg : yGood st bx ins Y := hI.2.1.1
  have hht : ∀ s, s < st → (Y s).length ≤ rch s := hI.2.1.2.1
  have hu1 : ∀ b, unt b ≤ 1000 := hI.2.2.1.2.1
  have hhl : ∀ b, b < bx → hld b = nI 45 ∨ hld b = nI 112 ∨ hld b = nI 108 := hI.2.2.1.2.2
  have hap : ap ≤ 30 := hI.2.2.2.1.1
  have haa : ∀ a, a < ap → ab a < bx ∧ hr a ≤ 999 ∧ ln a < 3 ∧ (sa a = nI 98 ∨ sa a = nI 99 ∨ sa a = nI 103 ∨ sa a = nI 100 ∨ sa a = nI 109) := hI.2.2.2.1.2.1
  have hnw : nw ≤ 999 := hI.2.2.2.2
  have hY4 : ∀ s, (Y s).length ≤ 4 := hg.1.1
  have hmm : ∀ s, ∀ c ∈ Y s, c < bx := fun s c hc => (hg.2.2 s c hc).1
  refine z_iconst C (v := (nI 0)) dX3_bookedIn_0 rfl ?_
  refine z_istore_n C [(3, .int (nI 0)), (0, .ref m), (1, .int (nI x)), (2, .int (nI y))] dX3_bookedIn_1 rfl (by decide) rfl ?_
  have loop1 : ∀ (n_loop1 : Nat) (k : Nat), k ≤ ap → (∀ j, j < k → (decide (ln j = x) && (decide (hr j = y) && decide (sa j = nI 98))) = false) → ap - k < n_loop1 → ZW l D Γ (zr 1 0 0) 2 [(3, .int (nI k)), (0, .ref m), (1, .int (nI x)), (2, .int (nI y))] [] V 0 0 := by
    intro n_loop1
    induction n_loop1 with
    | zero => intro k _ _ hm; exact absurd hm (Nat.not_lt_zero _)
    | succ n_loop1 ih_loop1 =>
      intro k hloop1_0 hloop1_1 hm
      refine z_iload_n C 0 rfl dX3_bookedIn_2 rfl ?_
      refine z_aload_n C 1 rfl dX3_bookedIn_3 rfl ?_
      refine z_get C k_M hM.1 13 (by decide) rfl q1400 dX3_bookedIn_4 ?_
      refine z_icmp_geN C 49 (by omega) (by omega) dX3_bookedIn_7 (by decide) (fun c7 => ?_) (fun c7 => ?_)
      · skip
        obtain rfl : k = ap := by omega
        refine z_iconst C (v := (-1)) dX3_bookedIn_49 rfl ?_
        exact z_iret C hQ (-1) rfl ⟨rfl, by rw [fF_no hloop1_1]; rfl⟩ (by decide) (by decide) dX3_bookedIn_50
      · skip
        obtain ⟨w1, w2, w3, w4⟩ := haa k (by omega)
        refine z_aload_n C 1 rfl dX3_bookedIn_10 rfl ?_
        refine z_get C k_M hM.1 16 (by decide) rfl q1403 dX3_bookedIn_11 ?_
        refine z_iload_n C 0 rfl dX3_bookedIn_14 rfl ?_
        have ga2 : V (A 10) = some (.inl (D.arr 0, 30, .inl (F 10))) := hM.2.1 10 (by decide)
        refine z_iald C ga2 (by omega) (by omega) (v := (nI (ln k))) (hA k (by omega)).2.2.1 dX3_bookedIn_15 ?_
        refine z_iload_n C 2 rfl dX3_bookedIn_16 rfl ?_
        refine z_icmp_neN C 43 (by omega) (by omega) dX3_bookedIn_17 (by decide) (fun c17 => ?_) (fun c17 => ?_)
        · skip
          have hno : (decide (ln k = x) && (decide (hr k = y) && decide (sa k = nI 98))) = false := by simp [c17]
          refine z_iincN C 0 1 [(3, .int (nI (k + 1))), (0, .ref m), (1, .int (nI x)), (2, .int (nI y))] rfl dX3_bookedIn_43 rfl (by decide) rfl ?_
          refine z_goto C 2 dX3_bookedIn_46 (by decide) ?_
          have hnext : ∀ j, j < k + 1 → (decide (ln j = x) && (decide (hr j = y) && decide (sa j = nI 98))) = false := by
            intro j hj
            rcases Nat.lt_or_ge j k with q | q
            · exact hloop1_1 j q
            · obtain rfl : j = k := by omega
              exact hno
          exact ih_loop1 (k + 1) (by omega) hnext (by omega)
        · skip
          refine z_aload_n C 1 rfl dX3_bookedIn_20 rfl ?_
          refine z_get C k_M hM.1 15 (by decide) rfl q1402 dX3_bookedIn_21 ?_
          refine z_iload_n C 0 rfl dX3_bookedIn_24 rfl ?_
          have ga3 : V (A 9) = some (.inl (D.arr 0, 30, .inl (F 9))) := hM.2.1 9 (by decide)
          refine z_iald C ga3 (by omega) (by omega) (v := (nI (hr k))) (hA k (by omega)).2.1 dX3_bookedIn_25 ?_
          refine z_iload_n C 3 rfl dX3_bookedIn_26 rfl ?_
          refine z_icmp_neN C 43 (by omega) (by omega) dX3_bookedIn_27 (by decide) (fun c27 => ?_) (fun c27 => ?_)
          · skip
            have hno : (decide (ln k = x) && (decide (hr k = y) && decide (sa k = nI 98))) = false := by simp [c27]
            refine z_iincN C 0 1 [(3, .int (nI (k + 1))), (0, .ref m), (1, .int (nI x)), (2, .int (nI y))] rfl dX3_bookedIn_43 rfl (by decide) rfl ?_
            refine z_goto C 2 dX3_bookedIn_46 (by decide) ?_
            have hnext : ∀ j, j < k + 1 → (decide (ln j = x) && (decide (hr j = y) && decide (sa j = nI 98))) = false := by
              intro j hj
              rcases Nat.lt_or_ge j k with q | q
              · exact hloop1_1 j q
              · obtain rfl : j = k := by omega
                exact hno
            exact ih_loop1 (k + 1) (by omega) hnext (by omega)
          · skip
            refine z_aload_n C 1 rfl dX3_bookedIn_30 rfl ?_
            refine z_get C k_M hM.1 17 (by decide) rfl q1404 dX3_bookedIn_31 ?_
            refine z_iload_n C 0 rfl dX3_bookedIn_34 rfl ?_
            have ga4 : V (A 11) = some (.inl (D.arr 4, 30, .inl (F 11))) := hM.2.1 11 (by decide)
            refine z_cald C ga4 (by omega) (by omega) (v := (sa k)) (hA k (by omega)).2.2.2 dX3_bookedIn_35 ?_
            refine z_bipush C (v := (nI 98)) dX3_bookedIn_36 rfl ?_
            refine z_icmp_ne C 43 dX3_bookedIn_38 (by decide) (fun c38 => ?_) (fun c38 => ?_)
            · skip
              have hno : (decide (ln k = x) && (decide (hr k = y) && decide (sa k = nI 98))) = false := by simp [c38]
              refine z_iincN C 0 1 [(3, .int (nI (k + 1))), (0, .ref m), (1, .int (nI x)), (2, .int (nI y))] rfl dX3_bookedIn_43 rfl (by decide) rfl ?_
              refine z_goto C 2 dX3_bookedIn_46 (by decide) ?_
              have hnext : ∀ j, j < k + 1 → (decide (ln j = x) && (decide (hr j = y) && decide (sa j = nI 98))) = false := by
                intro j hj
                rcases Nat.lt_or_ge j k with q | q
                · exact hloop1_1 j q
                · obtain rfl : j = k := by omega
                  exact hno
              exact ih_loop1 (k + 1) (by omega) hnext (by omega)
            · skip
              refine z_iload_n C 0 rfl dX3_bookedIn_41 rfl ?_
              exact z_iret C hQ (nI k) rfl ⟨rfl, by rw [fF_at (a := k) (by simp [c17, c27, c38]) hloop1_1 (by omega)]; rfl⟩ (by decide) (by decide) dX3_bookedIn_42
  exact loop1 _ 0 (Nat.zero_le _) (fun j h => absurd h (Nat.not_lt_zero _)) (Nat.lt_succ_self _)
set_option maxHeartbeats 4000000 in
set_option maxRecDepth 100000 in
theorem mX3_isHeldIn {l : Launch} {D : ZD} {V : ZV} {kk m : Nat} {A : Nat → Nat} {F : Nat → Nat → Int32} {cd : Int32} {st : Nat} {rch : Nat → Nat} {bx : Nat} {wt : Nat → Nat} {ins : Nat → Bool} {hld : Nat → Int32} {unt : Nat → Nat} {Y : YD} {ap : Nat} {ab hr ln : Nat → Nat} {sa : Nat → Int32} {mv : Int32} {nw : Nat} {lf : Int64} (hR : mR D V m A F cd (qS st rch bx wt ins hld unt Y ap ab hr ln sa mv nw lf)) (hI : qI kk (qS st rch bx wt ins hld unt Y ap ab hr ln sa mv nw lf)) {x y : Nat} (hx : x < bx) (hy2 : y < 2000) : ZM l D yX3_isHeldIn (ws_ yX3_isHeldIn cX3_isHeldIn 3 (some .boolean)) 1 0 0 eB V [.ref m, .int (nI x), .int (nI y)] (fun r V' => V' = V ∧ r = qHeld (qS st rch bx wt ins hld unt Y ap ab hr ln sa mv nw lf) x y) zno_x := by
  refine z_enter (by decide +kernel) [(0, .ref m), (1, .int (nI x)), (2, .int (nI y))] rfl (Nat.le_of_ble_eq_true rfl) (zcat_cons rfl (zcat_cons rfl (zcat_cons rfl zcat_nil))) (fun Γ C hQ => ?_)
  have hM : MX D V m A F cd nw st bx mv ap lf := hR.1
  have hE : mE F st bx rch wt ins hld := hR.2.1
  have hU : ∀ b, b < 20 → F 4 b = nI (unt b) := hR.2.2.1
  have hy : mY F 0 Y := hR.2.2.2.1
  have hA : ∀ a, a < ap → F 8 a = nI (ab a) ∧ F 9 a = nI (hr a) ∧ F 10 a = nI (ln a) ∧ F 11 a = sa a := hR.2.2.2.2
  have hst : st ≤ 4 := hI.1.1
  have hbx : bx ≤ 20 := hI.1.2.1
  have hrc : ∀ s, s < st → rch s ≤ 4 := fun s hs => (hI.1.2.2.1 s hs).2
  have hwt : ∀ b, b < bx → wt b < 1000 := fun b hb => by have h9 : wt b ≤ 30 := (hI.1.2.2.2 b hb).2; omega
  have hg : yGood st bx ins Y := hI.2.1.1
  have hht : ∀ s, s < st → (Y s).length ≤ rch s := hI.2.1.2.1
  have hu1 : ∀ b, unt b ≤ 1000 := hI.2.2.1.2.1
  have hhl : ∀ b, b < bx → hld b = nI 45 ∨ hld b = nI 112 ∨ hld b = nI 108 := hI.2.2.1.2.2
  have hap : ap ≤ 30 := hI.2.2.2.1.1
  have haa : ∀ a, a < ap → ab a < bx ∧ hr a ≤ 999 ∧ ln a < 3 ∧ (sa a = nI 98 ∨ sa a = nI 99 ∨ sa a = nI 103 ∨ sa a = nI 100 ∨ sa a = nI 109) := hI.2.2.2.1.2.1
  have hnw : nw ≤ 999 := hI.2.2.2.2
  have hY4 : ∀ s, (Y s).length ≤ 4 := hg.1.1
  have hmm : ∀ s, ∀ c ∈ Y s, c < bx := fun s c hc => (hg.2.2 s c hc).1
  have hu9 := hu1 x
  refine z_aload_n C 0 rfl dX3_isHeldIn_0 rfl ?_
  refine z_get C k_M hM.1 7 (by decide) rfl q1394 dX3_isHeldIn_1 ?_
  refine z_iload_n C 1 rfl dX3_isHeldIn_4 rfl ?_
  have ga1 : V (A 3) = some (.inl (D.arr 4, 20, .inl (F 3))) := hM.2.1 3 (by decide)
  refine z_cald C ga1 (by omega) (by omega) (v := (hld x)) (hE.2.2.2 x (by omega)) dX3_isHeldIn_5 ?_
  refine z_bipush C (v := (nI 45)) dX3_isHeldIn_6 rfl ?_
  refine z_icmp_eq C 25 dX3_isHeldIn_8 (by decide) (fun c8 => ?_) (fun c8 => ?_)
  · skip
    refine z_iconst C (v := (nI 0)) dX3_isHeldIn_25 rfl ?_
    exact z_zret C hQ false rfl rfl ⟨rfl, by show false = (!decide (hld x = nI 45) && decide (y < unt x)); simp [c8]⟩ (by decide) (by decide) dX3_isHeldIn_26
  · skip
    refine z_iload_n C 2 rfl dX3_isHeldIn_11 rfl ?_
    refine z_aload_n C 0 rfl dX3_isHeldIn_12 rfl ?_
    refine z_get C k_M hM.1 8 (by decide) rfl q1395 dX3_isHeldIn_13 ?_
    refine z_iload_n C 1 rfl dX3_isHeldIn_16 rfl ?_
    have ga2 : V (A 4) = some (.inl (D.arr 0, 20, .inl (F 4))) := hM.2.1 4 (by decide)
    refine z_iald C ga2 (by omega) (by omega) (v := (nI (unt x))) (hU x (by omega)) dX3_isHeldIn_17 ?_
    refine z_icmp_geN C 25 (by omega) (by omega) dX3_isHeldIn_18 (by decide) (fun c18 => ?_) (fun c18 => ?_)
    · skip
      refine z_iconst C (v := (nI 0)) dX3_isHeldIn_25 rfl ?_
      exact z_zret C hQ false rfl rfl ⟨rfl, by show false = (!decide (hld x = nI 45) && decide (y < unt x)); simp [c8, c18]⟩ (by decide) (by decide) dX3_isHeldIn_26
    · skip
      refine z_iconst C (v := (nI 1)) dX3_isHeldIn_21 rfl ?_
      refine z_goto C 26 dX3_isHeldIn_22 (by decide) ?_
      exact z_zret C hQ true rfl rfl ⟨rfl, by show true = (!decide (hld x = nI 45) && decide (y < unt x)); simp [c8, c18]⟩ (by decide) (by decide) dX3_isHeldIn_26
set_option maxHeartbeats 4000000 in
set_option maxRecDepth 100000 in
theorem mX3_counted {l : Launch} {D : ZD} {V : ZV} {kk m : Nat} {A : Nat → Nat} {F : Nat → Nat → Int32} {cd : Int32} {st : Nat} {rch : Nat → Nat} {bx : Nat} {wt : Nat → Nat} {ins : Nat → Bool} {hld : Nat → Int32} {unt : Nat → Nat} {Y : YD} {ap : Nat} {ab hr ln : Nat → Nat} {sa : Nat → Int32} {mv : Int32} {nw : Nat} {lf : Int64} (hR : mR D V m A F cd (qS st rch bx wt ins hld unt Y ap ab hr ln sa mv nw lf)) (hI : qI kk (qS st rch bx wt ins hld unt Y ap ab hr ln sa mv nw lf)) {c : Int32} : ZM l D yX3_counted (ws_ yX3_counted cX3_counted 4 (some .int)) 1 0 0 eN V [.ref m, .int c] (fun r V' => V' = V ∧ r = qCnt (qS st rch bx wt ins hld unt Y ap ab hr ln sa mv nw lf) c) zno_x := by
  refine z_enter (by decide +kernel) [(0, .ref m), (1, .int c)] rfl (Nat.le_of_ble_eq_true rfl) (zcat_cons rfl (zcat_cons rfl zcat_nil)) (fun Γ C hQ => ?_)
  have hM : MX D V m A F cd nw st bx mv ap lf := hR.1
  have hE : mE F st bx rch wt ins hld := hR.2.1
  have hU : ∀ b, b < 20 → F 4 b = nI (unt b) := hR.2.2.1
  have hy : mY F 0 Y := hR.2.2.2.1
  have hA : ∀ a, a < ap → F 8 a = nI (ab a) ∧ F 9 a = nI (hr a) ∧ F 10 a = nI (ln a) ∧ F 11 a = sa a := hR.2.2.2.2
  have hst : st ≤ 4 := hI.1.1
  have hbx : bx ≤ 20 := hI.1.2.1
  have hrc : ∀ s, s < st → rch s ≤ 4 := fun s hs => (hI.1.2.2.1 s hs).2
  have hwt : ∀ b, b < bx → wt b < 1000 := fun b hb => by have h9 : wt b ≤ 30 := (hI.1.2.2.2 b hb).2; omega
  have hg : yGood st bx ins Y := hI.2.1.1
  have hht : ∀ s, s < st → (Y s).length ≤ rch s := hI.2.1.2.1
  have hu1 : ∀ b, unt b ≤ 1000 := hI.2.2.1.2.1
  have hhl : ∀ b, b < bx → hld b = nI 45 ∨ hld b = nI 112 ∨ hld b = nI 108 := hI.2.2.1.2.2
  have hap : ap ≤ 30 := hI.2.2.2.1.1
  have haa : ∀ a, a < ap → ab a < bx ∧ hr a ≤ 999 ∧ ln a < 3 ∧ (sa a = nI 98 ∨ sa a = nI 99 ∨ sa a = nI 103 ∨ sa a = nI 100 ∨ sa a = nI 109) := hI.2.2.2.1.2.1
  have hnw : nw ≤ 999 := hI.2.2.2.2
  have hY4 : ∀ s, (Y s).length ≤ 4 := hg.1.1
  have hmm : ∀ s, ∀ c ∈ Y s, c < bx := fun s c hc => (hg.2.2 s c hc).1
  refine z_iconst C (v := (nI 0)) dX3_counted_0 rfl ?_
  refine z_istore_n C [(2, .int (nI 0)), (0, .ref m), (1, .int c)] dX3_counted_1 rfl (by decide) rfl ?_
  refine z_iconst C (v := (nI 0)) dX3_counted_2 rfl ?_
  refine z_istore_n C [(3, .int (nI 0)), (2, .int (nI 0)), (0, .ref m), (1, .int c)] dX3_counted_3 rfl (by decide) rfl ?_
  refine z_pick [(2, .int (nI 0)), (3, .int (nI 0)), (0, .ref m), (1, .int c)] [1, 0, 2, 3] rfl ?_
  have e1 : (.int (nI 0) : Value) = .int (nI (fC (fun a => decide (sa a = c)) 0)) := rfl
  refine z_lv (lv' := [(2, .int (nI (fC (fun a => decide (sa a = c)) 0))), (3, .int (nI 0)), (0, .ref m), (1, .int c)]) (by rw [e1]) ?_
  have loop2 : ∀ (n_loop2 : Nat) (k : Nat), k ≤ ap → ap - k < n_loop2 → ZW l D Γ (zr 1 0 0) 4 [(2, .int (nI (fC (fun a => decide (sa a = c)) k))), (3, .int (nI k)), (0, .ref m), (1, .int c)] [] V 0 0 := by
    intro n_loop2
    induction n_loop2 with
    | zero => intro k _ hm; exact absurd hm (Nat.not_lt_zero _)
    | succ n_loop2 ih_loop2 =>
      intro k hloop2_0 hm
      have hck := fC_le (fun a => decide (sa a = c)) k
      refine z_iload_n C 1 rfl dX3_counted_4 rfl ?_
      refine z_aload_n C 2 rfl dX3_counted_5 rfl ?_
      refine z_get C k_M hM.1 13 (by decide) rfl q1400 dX3_counted_6 ?_
      refine z_icmp_geN C 36 (by omega) (by omega) dX3_counted_9 (by decide) (fun c9 => ?_) (fun c9 => ?_)
      · skip
        obtain rfl : k = ap := by omega
        refine z_iload_n C 0 rfl dX3_counted_36 rfl ?_
        exact z_iret C hQ (fC (fun a => decide (sa a = c)) k) rfl ⟨rfl, rfl⟩ (by decide) (by decide) dX3_counted_37
      · skip
        refine z_iload_n C 0 rfl dX3_counted_12 rfl ?_
        refine z_aload_n C 2 rfl dX3_counted_13 rfl ?_
        refine z_get C k_M hM.1 17 (by decide) rfl q1404 dX3_counted_14 ?_
        refine z_iload_n C 1 rfl dX3_counted_17 rfl ?_
        have ga3 : V (A 11) = some (.inl (D.arr 4, 30, .inl (F 11))) := hM.2.1 11 (by decide)
        refine z_cald C ga3 (by omega) (by omega) (v := (sa k)) (hA k (by omega)).2.2.2 dX3_counted_18 ?_
        refine z_iload_n C 3 rfl dX3_counted_19 rfl ?_
        refine z_icmp_ne C 27 dX3_counted_20 (by decide) (fun c20 => ?_) (fun c20 => ?_)
        · skip
          refine z_iconst C (v := (nI 0)) dX3_counted_27 rfl ?_
          refine z_iaddN C dX3_counted_28 ?_
          refine z_istore_n C [(2, .int (nI ((fC (fun a => decide (sa a = c)) k) + 0))), (3, .int (nI k)), (0, .ref m), (1, .int c)] dX3_counted_29 rfl (by decide) rfl ?_
          refine z_iincN C 1 1 [(3, .int (nI (k + 1))), (2, .int (nI ((fC (fun a => decide (sa a = c)) k) + 0))), (0, .ref m), (1, .int c)] rfl dX3_counted_30 rfl (by decide) rfl ?_
          refine z_goto C 4 dX3_counted_33 (by decide) ?_
          refine z_pick [(2, .int (nI ((fC (fun a => decide (sa a = c)) k) + 0))), (3, .int (nI (k + 1))), (0, .ref m), (1, .int c)] [1, 0, 2, 3] rfl ?_
          have e4 : (.int (nI ((fC (fun a => decide (sa a = c)) k) + 0)) : Value) = .int (nI (fC (fun a => decide (sa a = c)) (k + 1))) := (by rw [fC_f (by simp [c20])])
          refine z_lv (lv' := [(2, .int (nI (fC (fun a => decide (sa a = c)) (k + 1)))), (3, .int (nI (k + 1))), (0, .ref m), (1, .int c)]) (by rw [e4]) ?_
          exact ih_loop2 (k + 1) (by omega) (by omega)
        · skip
          refine z_iconst C (v := (nI 1)) dX3_counted_23 rfl ?_
          refine z_goto C 28 dX3_counted_24 (by decide) ?_
          refine z_iaddN C dX3_counted_28 ?_
          refine z_istore_n C [(2, .int (nI ((fC (fun a => decide (sa a = c)) k) + 1))), (3, .int (nI k)), (0, .ref m), (1, .int c)] dX3_counted_29 rfl (by decide) rfl ?_
          refine z_iincN C 1 1 [(3, .int (nI (k + 1))), (2, .int (nI ((fC (fun a => decide (sa a = c)) k) + 1))), (0, .ref m), (1, .int c)] rfl dX3_counted_30 rfl (by decide) rfl ?_
          refine z_goto C 4 dX3_counted_33 (by decide) ?_
          refine z_pick [(2, .int (nI ((fC (fun a => decide (sa a = c)) k) + 1))), (3, .int (nI (k + 1))), (0, .ref m), (1, .int c)] [1, 0, 2, 3] rfl ?_
          have e5 : (.int (nI ((fC (fun a => decide (sa a = c)) k) + 1)) : Value) = .int (nI (fC (fun a => decide (sa a = c)) (k + 1))) := (by rw [fC_t (by simp [c20])])
          refine z_lv (lv' := [(2, .int (nI (fC (fun a => decide (sa a = c)) (k + 1)))), (3, .int (nI (k + 1))), (0, .ref m), (1, .int c)]) (by rw [e5]) ?_
          exact ih_loop2 (k + 1) (by omega) (by omega)
  exact loop2 _ 0 (Nat.zero_le _) (Nat.lt_succ_self _)
set_option maxHeartbeats 4000000 in
set_option maxRecDepth 100000 in
theorem mX3_hold {l : Launch} {D : ZD} {V : ZV} {kk m : Nat} {A : Nat → Nat} {F : Nat → Nat → Int32} {cd : Int32} {st : Nat} {rch : Nat → Nat} {bx : Nat} {wt : Nat → Nat} {ins : Nat → Bool} {hld : Nat → Int32} {unt : Nat → Nat} {Y : YD} {ap : Nat} {ab hr ln : Nat → Nat} {sa : Nat → Int32} {mv : Int32} {nw : Nat} {lf : Int64} (hR : mR D V m A F cd (qS st rch bx wt ins hld unt Y ap ab hr ln sa mv nw lf)) (hI : qI kk (qS st rch bx wt ins hld unt Y ap ab hr ln sa mv nw lf)) {v1 v2 v3 : Int32} : ZM l D yX3_hold (ws_ yX3_hold cX3_hold 5 (some .int)) 3 0 0 eI V [.ref m, .int v1, .int v2, .int v3] (fun r V' => ∃ F2, mR D V' m A F2 (nI (oHold (qS st rch bx wt ins hld unt Y ap ab hr ln sa mv nw lf) (vN v1) v2 (vN v3)).1) (oHold (qS st rch bx wt ins hld unt Y ap ab hr ln sa mv nw lf) (vN v1) v2 (vN v3)).2.2 ∧ ((oHold (qS st rch bx wt ins hld unt Y ap ab hr ln sa mv nw lf) (vN v1) v2 (vN v3)).1 = 0 → r = (oHold (qS st rch bx wt ins hld unt Y ap ab hr ln sa mv nw lf) (vN v1) v2 (vN v3)).2.1)) zno_x := by
  refine z_enter (by decide +kernel) [(0, .ref m), (1, .int v1), (2, .int v2), (3, .int v3)] rfl (Nat.le_of_ble_eq_true rfl) (zcat_cons rfl (zcat_cons rfl (zcat_cons rfl (zcat_cons rfl zcat_nil)))) (fun Γ C hQ => ?_)
  have hM : MX D V m A F cd nw st bx mv ap lf := hR.1
  have hE : mE F st bx rch wt ins hld := hR.2.1
  have hU : ∀ b, b < 20 → F 4 b = nI (unt b) := hR.2.2.1
  have hy : mY F 0 Y := hR.2.2.2.1
  have hA : ∀ a, a < ap → F 8 a = nI (ab a) ∧ F 9 a = nI (hr a) ∧ F 10 a = nI (ln a) ∧ F 11 a = sa a := hR.2.2.2.2
  have hst : st ≤ 4 := hI.1.1
  have hbx : bx ≤ 20 := hI.1.2.1
  have hrc : ∀ s, s < st → rch s ≤ 4 := fun s hs => (hI.1.2.2.1 s hs).2
  have hwt : ∀ b, b < bx → wt b < 1000 := fun b hb => by have h9 : wt b ≤ 30 := (hI.1.2.2.2 b hb).2; omega
  have hg : yGood st bx ins Y := hI.2.1.1
  have hht : ∀ s, s < st → (Y s).length ≤ rch s := hI.2.1.2.1
  have hu1 : ∀ b, unt b ≤ 1000 := hI.2.2.1.2.1
  have hhl : ∀ b, b < bx → hld b = nI 45 ∨ hld b = nI 112 ∨ hld b = nI 108 := hI.2.2.1.2.2
  have hap : ap ≤ 30 := hI.2.2.2.1.1
  have haa : ∀ a, a < ap → ab a < bx ∧ hr a ≤ 999 ∧ ln a < 3 ∧ (sa a = nI 98 ∨ sa a = nI 99 ∨ sa a = nI 103 ∨ sa a = nI 100 ∨ sa a = nI 109) := hI.2.2.2.1.2.1
  have hnw : nw ≤ 999 := hI.2.2.2.2
  have hY4 : ∀ s, (Y s).length ≤ 4 := hg.1.1
  have hmm : ∀ s, ∀ c ∈ Y s, c < bx := fun s c hc => (hg.2.2 s c hc).1
  refine z_aload_n C 0 rfl dX3_hold_0 rfl ?_
  refine z_iconst C (v := (nI 0)) dX3_hold_1 rfl ?_
  refine z_put C k_M hM.1 0 (by decide) [.int (nI 0), .int (nI nw), .int (nI st), .ref (A 0), .int (nI bx), .ref (A 1), .ref (A 2), .ref (A 3), .ref (A 4), .ref (A 5), .ref (A 6), .ref (A 7), .int mv, .int (nI ap), .ref (A 8), .ref (A 9), .ref (A 10), .ref (A 11), .long lf] rfl (Nat.le_of_ble_eq_true rfl) rfl rfl rfl q1387 dX3_hold_2 (z_nV (fun V1 hV2 => ?_))
  have hM3 := MX.ob (cd2 := (nI 0)) (nw2 := nw) (st2 := st) (bx2 := bx) (mv2 := mv) (ap2 := ap) (lf2 := lf) hM hV2
  refine z_aload_n C 0 rfl dX3_hold_5 rfl ?_
  refine z_iload_n C 1 rfl dX3_hold_6 rfl ?_
  refine z_callV C k_M hM3.1 (As := [.int v1]) (mX3_isBox (show mR D _ m A _ _ (qS st rch bx wt ins hld unt Y ap ab hr ln sa mv nw lf) from ⟨hM3, hE, hU, hy, hA⟩) hI) (lw_V q1494 q1496 qs37 q65 q1497) rfl hd_X3_isBox rfl (Nat.le_of_ble_eq_true rfl) (by decide) (by decide) (by decide) (by decide) rfl dX3_hold_7 (fun _ _ h => h.elim) (fun r4 V5 hP6 => ?_)
  rw [hP6.1, hP6.2]
  refine z_st (st' := [.int (zb (qIs (qS st rch bx wt ins hld unt Y ap ab hr ln sa mv nw lf) (vN v1)))]) rfl ?_
  refine z_if_neB C 19 dX3_hold_10 (by decide) (fun c10 => ?_) (fun c10 => ?_)
  · skip
    have hq : qIs (qS st rch bx wt ins hld unt Y ap ab hr ln sa mv nw lf) (vN v1) = true := by simpa using c10
    obtain ⟨hbb, hbi⟩ := qIs_t (S := (qS st rch bx wt ins hld unt Y ap ab hr ln sa mv nw lf)) (by simpa using c10)
    have hbb : vN v1 < bx := hbb
    have hbi : ins (vN v1) = true := hbi
    have hv7 := vN_of (v := v1) hbb (by omega)
    have e8 : (.int v1 : Value) = .int (nI (vN v1)) := (congrArg Value.int hv7)
    refine z_lv (lv' := [(0, .ref m), (1, .int (nI (vN v1))), (2, .int v2), (3, .int v3)]) (by rw [e8]) ?_
    obtain ⟨p0, hb0⟩ := hg.2.1 _ hbb hbi
    have hb : vN v1 ∈ Y (yPl Y (vN v1)) := by rw [yPl_eq hg.1 hst hb0]; exact hb0
    have hpst := hg.1.lt hb
    have hq0 : ¬ qIs (qS st rch bx wt ins hld unt Y ap ab hr ln sa mv nw lf) (vN v1) = false := by rw [hq]; decide
    refine z_iload_n C 2 rfl dX3_hold_19 rfl ?_
    refine z_bipush C (v := (nI 112)) dX3_hold_20 rfl ?_
    refine z_icmp_eq C 31 dX3_hold_22 (by decide) (fun c22 => ?_) (fun c22 => ?_)
    · skip
      have e9 : (.int v2 : Value) = .int (nI 112) := (congrArg Value.int c22)
      refine z_lv (lv' := [(0, .ref m), (1, .int (nI (vN v1))), (2, .int (nI 112)), (3, .int v3)]) (by rw [e9]) ?_
      have hkd : ¬(v2 ≠ nI 112 ∧ v2 ≠ nI 108) := fun h => h.1 c22
      refine z_iload_n C 3 rfl dX3_hold_31 rfl ?_
      refine z_aload_n C 0 rfl dX3_hold_32 rfl ?_
      refine z_get C k_M hM3.1 1 (by decide) rfl q1388 dX3_hold_33 ?_
      refine z_iconst C (v := (nI 1)) dX3_hold_36 rfl ?_
      refine z_iaddN C dX3_hold_37 ?_
      refine z_sipush C (v := (nI 1000)) dX3_hold_38 rfl ?_
      refine z_callS C (As := [.int v3, .int (nI (nw + 1)), .int (nI 1000)]) (mX3_in) (lw_S q1455 q1456 q65 q1457) hd_X3_in rfl (Nat.le_of_ble_eq_true rfl) (by decide) (by decide) (by decide) (by decide) rfl dX3_hold_41 (fun _ _ h => h.elim) (fun r10 V11 hP12 => ?_)
      have hq13 : r10 = decide (nw + 1 ≤ vN v3 ∧ vN v3 ≤ 1000) := hP12.2.trans (in_le (by omega) (by omega))
      rw [hP12.1, hq13]
      refine z_st (st' := [.int (zb (decide (nw + 1 ≤ vN v3 ∧ vN v3 ≤ 1000)))]) rfl ?_
      refine z_if_neB C 53 dX3_hold_44 (by decide) (fun c44 => ?_) (fun c44 => ?_)
      · skip
        have hu : nw + 1 ≤ vN v3 ∧ vN v3 ≤ 1000 := by have := c44; simpa using this
        have hv14 := vN_of (v := v3) (show vN v3 < 1001 by omega) (by omega)
        have e15 : (.int v3 : Value) = .int (nI (vN v3)) := (congrArg Value.int hv14)
        refine z_lv (lv' := [(0, .ref m), (1, .int (nI (vN v1))), (2, .int (nI 112)), (3, .int (nI (vN v3)))]) (by rw [e15]) ?_
        have e0 : oHold (qS st rch bx wt ins hld unt Y ap ab hr ln sa mv nw lf) (vN v1) v2 (vN v3) = _ := (if_neg hq0).trans (if_neg (fun h => h.elim hkd (fun q => q hu)))
        have hv2 : v2 = nI 112 := c22
        refine z_aload_n C 0 rfl dX3_hold_53 rfl ?_
        refine z_get C k_M hM3.1 7 (by decide) rfl q1394 dX3_hold_54 ?_
        refine z_iload_n C 1 rfl dX3_hold_57 rfl ?_
        refine z_iload_n C 2 rfl dX3_hold_58 rfl ?_
        have ga16 : V1 (A 3) = some (.inl (D.arr 4, 20, .inl (F 3))) := hM3.2.1 3 (by decide)
        refine z_cast C ga16 (by omega) (by omega) (by decide) dX3_hold_59 (z_nV (fun V17 hV18 => ?_))
        have hM19 := MX.st hM3 3 (by decide) (f := va_up (F 3) (vN v1) (nI 112)) hV18
        refine z_aload_n C 0 rfl dX3_hold_60 rfl ?_
        refine z_get C k_M hM19.1 8 (by decide) rfl q1395 dX3_hold_61 ?_
        refine z_iload_n C 1 rfl dX3_hold_64 rfl ?_
        refine z_iload_n C 3 rfl dX3_hold_65 rfl ?_
        have ga20 : V17 (A 4) = some (.inl (D.arr 0, 20, .inl (F 4))) := hM19.2.1 4 (by decide)
        refine z_iast C ga20 (by omega) (by omega) dX3_hold_66 (z_nV (fun V21 hV22 => ?_))
        have hM23 := MX.st hM19 4 (by decide) (f := va_up (F 4) (vN v1) (nI (vN v3))) hV22
        refine z_aload_n C 0 rfl dX3_hold_67 rfl ?_
        refine z_iload_n C 1 rfl dX3_hold_68 rfl ?_
        have hE2 := mE_hld (b := vN v1) (v := nI 112) (F2 := (va_up (va_up F 3 (va_up (F 3) (vN v1) (nI 112))) 4 (va_up (F 4) (vN v1) (nI (vN v3))))) hE rfl rfl rfl rfl
        have hU2 := mU_up hU (vN v1) (vN v3)
        have hR2 : mR D V21 m A (va_up (va_up F 3 (va_up (F 3) (vN v1) (nI 112))) 4 (va_up (F 4) (vN v1) (nI (vN v3)))) (nI 0) (qS st rch bx wt ins (va_up hld (vN v1) (nI 112)) (va_up unt (vN v1) (vN v3)) Y ap ab hr ln sa mv nw lf) := ⟨hM23, hE2, hU2, hy, hA⟩
        have hI2 : qI kk (qS st rch bx wt ins (va_up hld (vN v1) (nI 112)) (va_up unt (vN v1) (vN v3)) Y ap ab hr ln sa mv nw lf) := qI_hld hI hbb (by exact Or.inl rfl) hu.2
        refine z_callV C k_M hM23.1 (As := [.int (nI (vN v1))]) (mX3_appointmentIn hR2 hI2 (b := vN v1) (by omega)) (lw_V q1538 q1540 qs41 q65 q1541) rfl hd_X3_appointmentIn rfl (Nat.le_of_ble_eq_true rfl) (by decide) (by decide) (by decide) (by decide) rfl dX3_hold_69 (fun _ _ h => h.elim) (fun r24 V25 hP26 => ?_)
        rw [hP26.1, hP26.2]
        refine z_st (st' := [.int (oInt (qAin (qS st rch bx wt ins hld unt Y ap ab hr ln sa mv nw lf) (vN v1)))]) rfl ?_
        rcases ho : qAin (qS st rch bx wt ins hld unt Y ap ab hr ln sa mv nw lf) (vN v1) with _ | a0
        · skip
          have e27 : (.int (oInt none) : Value) = .int (-1) := rfl
          refine z_st (st' := [.int (-1)]) (by rw [e27]) ?_
          have e1 : oHold (qS st rch bx wt ins hld unt Y ap ab hr ln sa mv nw lf) (vN v1) v2 (vN v3) = (0, 0, (qS st rch bx wt ins (va_up hld (vN v1) (nI 112)) (va_up unt (vN v1) (vN v3)) Y ap ab hr ln sa mv nw lf)) := e0.trans (by rw [show qAin (qS st rch bx wt ins hld unt Y ap ab hr ln sa mv nw lf) (vN v1) = none from ho, hv2]; rfl)
          refine z_istore C [(4, .int (-1)), (0, .ref m), (1, .int (nI (vN v1))), (2, .int (nI 112)), (3, .int (nI (vN v3)))] dX3_hold_72 (by decide) rfl ?_
          refine z_iload C 0 rfl dX3_hold_74 ?_
          refine z_iconst C (v := (-1)) dX3_hold_76 rfl ?_
          refine z_icmp_eq C 91 dX3_hold_77 (by decide) (fun c77 => ?_) (fun c77 => ?_)
          · skip
            refine z_iconst C (v := (nI 0)) dX3_hold_91 rfl ?_
            exact z_iret C hQ (nI 0) rfl ⟨_, by rw [e1]; exact hR2, fun _ => oRes e1⟩ (by decide) (by decide) dX3_hold_92
          · skip
            exfalso; exact absurd rfl c77
        · skip
          have e28 : (.int (oInt (some a0)) : Value) = .int (nI a0) := rfl
          refine z_st (st' := [.int (nI a0)]) (by rw [e28]) ?_
          have ha0 : a0 < ap := (fF_some ho).1
          obtain ⟨w1, w2, w3, w4⟩ := haa a0 ha0
          refine z_istore C [(4, .int (nI a0)), (0, .ref m), (1, .int (nI (vN v1))), (2, .int (nI 112)), (3, .int (nI (vN v3)))] dX3_hold_72 (by decide) rfl ?_
          refine z_iload C 0 rfl dX3_hold_74 ?_
          refine z_iconst C (v := (-1)) dX3_hold_76 rfl ?_
          refine z_icmp_eq C 91 dX3_hold_77 (by decide) (fun c77 => ?_) (fun c77 => ?_)
          · skip
            exfalso; exact absurd c77 (nI_nem1 (by omega))
          · skip
            refine z_aload_n C 1 rfl dX3_hold_80 rfl ?_
            refine z_get C k_M hM23.1 15 (by decide) rfl q1402 dX3_hold_81 ?_
            refine z_iload C 0 rfl dX3_hold_84 ?_
            have ga29 : V21 (A 9) = some (.inl (D.arr 0, 30, .inl (F 9))) := hM23.2.1 9 (by decide)
            refine z_iald C ga29 (by omega) (by omega) (v := (nI (hr a0))) (hA a0 (by omega)).2.1 dX3_hold_86 ?_
            refine z_iload_n C 4 rfl dX3_hold_87 rfl ?_
            refine z_icmp_ltN C 93 (by omega) (by omega) dX3_hold_88 (by decide) (fun c88 => ?_) (fun c88 => ?_)
            · skip
              have e1 : oHold (qS st rch bx wt ins hld unt Y ap ab hr ln sa mv nw lf) (vN v1) v2 (vN v3) = (0, nI 1, (qS st rch bx wt ins (va_up hld (vN v1) (nI 112)) (va_up unt (vN v1) (vN v3)) Y ap ab hr ln (va_up sa a0 (nI 103)) mv nw lf)) := e0.trans (by rw [show qAin (qS st rch bx wt ins hld unt Y ap ab hr ln sa mv nw lf) (vN v1) = some a0 from ho, hv2]; exact if_neg (show ¬ vN v3 ≤ hr a0 by omega))
              refine z_aload_n C 1 rfl dX3_hold_93 rfl ?_
              refine z_get C k_M hM23.1 17 (by decide) rfl q1404 dX3_hold_94 ?_
              refine z_iload C 0 rfl dX3_hold_97 ?_
              refine z_bipush C (v := (nI 103)) dX3_hold_99 rfl ?_
              have ga30 : V21 (A 11) = some (.inl (D.arr 4, 30, .inl (F 11))) := hM23.2.1 11 (by decide)
              refine z_cast C ga30 (by omega) (by omega) (by decide) dX3_hold_101 (z_nV (fun V31 hV32 => ?_))
              have hM33 := MX.st hM23 11 (by decide) (f := va_up (F 11) a0 (nI 103)) hV32
              refine z_iconst C (v := (nI 1)) dX3_hold_102 rfl ?_
              exact z_iret C hQ (nI 1) rfl ⟨_, by rw [e1]; exact ⟨hM33, hE2, hU2, hy, mA_sa hA a0 (nI 103) rfl rfl rfl rfl⟩, fun _ => oRes e1⟩ (by decide) (by decide) dX3_hold_103
            · skip
              have e1 : oHold (qS st rch bx wt ins hld unt Y ap ab hr ln sa mv nw lf) (vN v1) v2 (vN v3) = (0, 0, (qS st rch bx wt ins (va_up hld (vN v1) (nI 112)) (va_up unt (vN v1) (vN v3)) Y ap ab hr ln sa mv nw lf)) := e0.trans (by rw [show qAin (qS st rch bx wt ins hld unt Y ap ab hr ln sa mv nw lf) (vN v1) = some a0 from ho, hv2]; exact if_pos (show vN v3 ≤ hr a0 by omega))
              refine z_iconst C (v := (nI 0)) dX3_hold_91 rfl ?_
              exact z_iret C hQ (nI 0) rfl ⟨_, by rw [e1]; exact hR2, fun _ => oRes e1⟩ (by decide) (by decide) dX3_hold_92
      · skip
        have e1 : oHold (qS st rch bx wt ins hld unt Y ap ab hr ln sa mv nw lf) (vN v1) v2 (vN v3) = (2, 0, (qS st rch bx wt ins hld unt Y ap ab hr ln sa mv nw lf)) := (if_neg hq0).trans (if_pos (Or.inr (by have := c44; show ¬(nw + 1 ≤ vN v3 ∧ vN v3 ≤ 1000); simpa using this)))
        refine z_aload_n C 0 rfl dX3_hold_47 rfl ?_
        refine z_iconst C (v := (nI 2)) dX3_hold_48 rfl ?_
        refine z_callV C k_M hM3.1 (As := [.int (nI 2)]) (mX3_fails hM3 hst hbx) (lw_V q1458 q1460 qs31 q65 q1461) rfl hd_X3_fails rfl (Nat.le_of_ble_eq_true rfl) (by decide) (by decide) (by decide) (by decide) rfl dX3_hold_49 (fun _ _ h => h.elim) (fun r34 V35 hP36 => ?_)
        obtain ⟨hM37, rfl⟩ := hP36
        refine z_st (st' := [.int 0]) rfl ?_
        exact z_iret C hQ 0 rfl ⟨F, by rw [e1]; exact (show mR D _ m A _ _ (qS st rch bx wt ins hld unt Y ap ab hr ln sa mv nw lf) from ⟨hM37, hE, hU, hy, hA⟩), fun _ => oRes e1⟩ (by decide) (by decide) dX3_hold_52
    · skip
      refine z_iload_n C 2 rfl dX3_hold_25 rfl ?_
      refine z_bipush C (v := (nI 108)) dX3_hold_26 rfl ?_
      refine z_icmp_ne C 47 dX3_hold_28 (by decide) (fun c28 => ?_) (fun c28 => ?_)
      · skip
        have e1 : oHold (qS st rch bx wt ins hld unt Y ap ab hr ln sa mv nw lf) (vN v1) v2 (vN v3) = (2, 0, (qS st rch bx wt ins hld unt Y ap ab hr ln sa mv nw lf)) := (if_neg hq0).trans (if_pos (Or.inl ⟨c22, c28⟩))
        refine z_aload_n C 0 rfl dX3_hold_47 rfl ?_
        refine z_iconst C (v := (nI 2)) dX3_hold_48 rfl ?_
        refine z_callV C k_M hM3.1 (As := [.int (nI 2)]) (mX3_fails hM3 hst hbx) (lw_V q1458 q1460 qs31 q65 q1461) rfl hd_X3_fails rfl (Nat.le_of_ble_eq_true rfl) (by decide) (by decide) (by decide) (by decide) rfl dX3_hold_49 (fun _ _ h => h.elim) (fun r38 V39 hP40 => ?_)
        obtain ⟨hM41, rfl⟩ := hP40
        refine z_st (st' := [.int 0]) rfl ?_
        exact z_iret C hQ 0 rfl ⟨F, by rw [e1]; exact (show mR D _ m A _ _ (qS st rch bx wt ins hld unt Y ap ab hr ln sa mv nw lf) from ⟨hM41, hE, hU, hy, hA⟩), fun _ => oRes e1⟩ (by decide) (by decide) dX3_hold_52
      · skip
        have e42 : (.int v2 : Value) = .int (nI 108) := (congrArg Value.int c28)
        refine z_lv (lv' := [(0, .ref m), (1, .int (nI (vN v1))), (2, .int (nI 108)), (3, .int v3)]) (by rw [e42]) ?_
        have hkd : ¬(v2 ≠ nI 112 ∧ v2 ≠ nI 108) := fun h => h.2 c28
        refine z_iload_n C 3 rfl dX3_hold_31 rfl ?_
        refine z_aload_n C 0 rfl dX3_hold_32 rfl ?_
        refine z_get C k_M hM3.1 1 (by decide) rfl q1388 dX3_hold_33 ?_
        refine z_iconst C (v := (nI 1)) dX3_hold_36 rfl ?_
        refine z_iaddN C dX3_hold_37 ?_
        refine z_sipush C (v := (nI 1000)) dX3_hold_38 rfl ?_
        refine z_callS C (As := [.int v3, .int (nI (nw + 1)), .int (nI 1000)]) (mX3_in) (lw_S q1455 q1456 q65 q1457) hd_X3_in rfl (Nat.le_of_ble_eq_true rfl) (by decide) (by decide) (by decide) (by decide) rfl dX3_hold_41 (fun _ _ h => h.elim) (fun r43 V44 hP45 => ?_)
        have hq46 : r43 = decide (nw + 1 ≤ vN v3 ∧ vN v3 ≤ 1000) := hP45.2.trans (in_le (by omega) (by omega))
        rw [hP45.1, hq46]
        refine z_st (st' := [.int (zb (decide (nw + 1 ≤ vN v3 ∧ vN v3 ≤ 1000)))]) rfl ?_
        refine z_if_neB C 53 dX3_hold_44 (by decide) (fun c44 => ?_) (fun c44 => ?_)
        · skip
          have hu : nw + 1 ≤ vN v3 ∧ vN v3 ≤ 1000 := by have := c44; simpa using this
          have hv47 := vN_of (v := v3) (show vN v3 < 1001 by omega) (by omega)
          have e48 : (.int v3 : Value) = .int (nI (vN v3)) := (congrArg Value.int hv47)
          refine z_lv (lv' := [(0, .ref m), (1, .int (nI (vN v1))), (2, .int (nI 108)), (3, .int (nI (vN v3)))]) (by rw [e48]) ?_
          have e0 : oHold (qS st rch bx wt ins hld unt Y ap ab hr ln sa mv nw lf) (vN v1) v2 (vN v3) = _ := (if_neg hq0).trans (if_neg (fun h => h.elim hkd (fun q => q hu)))
          have hv2 : v2 = nI 108 := c28
          refine z_aload_n C 0 rfl dX3_hold_53 rfl ?_
          refine z_get C k_M hM3.1 7 (by decide) rfl q1394 dX3_hold_54 ?_
          refine z_iload_n C 1 rfl dX3_hold_57 rfl ?_
          refine z_iload_n C 2 rfl dX3_hold_58 rfl ?_
          have ga49 : V1 (A 3) = some (.inl (D.arr 4, 20, .inl (F 3))) := hM3.2.1 3 (by decide)
          refine z_cast C ga49 (by omega) (by omega) (by decide) dX3_hold_59 (z_nV (fun V50 hV51 => ?_))
          have hM52 := MX.st hM3 3 (by decide) (f := va_up (F 3) (vN v1) (nI 108)) hV51
          refine z_aload_n C 0 rfl dX3_hold_60 rfl ?_
          refine z_get C k_M hM52.1 8 (by decide) rfl q1395 dX3_hold_61 ?_
          refine z_iload_n C 1 rfl dX3_hold_64 rfl ?_
          refine z_iload_n C 3 rfl dX3_hold_65 rfl ?_
          have ga53 : V50 (A 4) = some (.inl (D.arr 0, 20, .inl (F 4))) := hM52.2.1 4 (by decide)
          refine z_iast C ga53 (by omega) (by omega) dX3_hold_66 (z_nV (fun V54 hV55 => ?_))
          have hM56 := MX.st hM52 4 (by decide) (f := va_up (F 4) (vN v1) (nI (vN v3))) hV55
          refine z_aload_n C 0 rfl dX3_hold_67 rfl ?_
          refine z_iload_n C 1 rfl dX3_hold_68 rfl ?_
          have hE2 := mE_hld (b := vN v1) (v := nI 108) (F2 := (va_up (va_up F 3 (va_up (F 3) (vN v1) (nI 108))) 4 (va_up (F 4) (vN v1) (nI (vN v3))))) hE rfl rfl rfl rfl
          have hU2 := mU_up hU (vN v1) (vN v3)
          have hR2 : mR D V54 m A (va_up (va_up F 3 (va_up (F 3) (vN v1) (nI 108))) 4 (va_up (F 4) (vN v1) (nI (vN v3)))) (nI 0) (qS st rch bx wt ins (va_up hld (vN v1) (nI 108)) (va_up unt (vN v1) (vN v3)) Y ap ab hr ln sa mv nw lf) := ⟨hM56, hE2, hU2, hy, hA⟩
          have hI2 : qI kk (qS st rch bx wt ins (va_up hld (vN v1) (nI 108)) (va_up unt (vN v1) (vN v3)) Y ap ab hr ln sa mv nw lf) := qI_hld hI hbb (by exact Or.inr rfl) hu.2
          refine z_callV C k_M hM56.1 (As := [.int (nI (vN v1))]) (mX3_appointmentIn hR2 hI2 (b := vN v1) (by omega)) (lw_V q1538 q1540 qs41 q65 q1541) rfl hd_X3_appointmentIn rfl (Nat.le_of_ble_eq_true rfl) (by decide) (by decide) (by decide) (by decide) rfl dX3_hold_69 (fun _ _ h => h.elim) (fun r57 V58 hP59 => ?_)
          rw [hP59.1, hP59.2]
          refine z_st (st' := [.int (oInt (qAin (qS st rch bx wt ins hld unt Y ap ab hr ln sa mv nw lf) (vN v1)))]) rfl ?_
          rcases ho : qAin (qS st rch bx wt ins hld unt Y ap ab hr ln sa mv nw lf) (vN v1) with _ | a0
          · skip
            have e60 : (.int (oInt none) : Value) = .int (-1) := rfl
            refine z_st (st' := [.int (-1)]) (by rw [e60]) ?_
            have e1 : oHold (qS st rch bx wt ins hld unt Y ap ab hr ln sa mv nw lf) (vN v1) v2 (vN v3) = (0, 0, (qS st rch bx wt ins (va_up hld (vN v1) (nI 108)) (va_up unt (vN v1) (vN v3)) Y ap ab hr ln sa mv nw lf)) := e0.trans (by rw [show qAin (qS st rch bx wt ins hld unt Y ap ab hr ln sa mv nw lf) (vN v1) = none from ho, hv2]; rfl)
            refine z_istore C [(4, .int (-1)), (0, .ref m), (1, .int (nI (vN v1))), (2, .int (nI 108)), (3, .int (nI (vN v3)))] dX3_hold_72 (by decide) rfl ?_
            refine z_iload C 0 rfl dX3_hold_74 ?_
            refine z_iconst C (v := (-1)) dX3_hold_76 rfl ?_
            refine z_icmp_eq C 91 dX3_hold_77 (by decide) (fun c77 => ?_) (fun c77 => ?_)
            · skip
              refine z_iconst C (v := (nI 0)) dX3_hold_91 rfl ?_
              exact z_iret C hQ (nI 0) rfl ⟨_, by rw [e1]; exact hR2, fun _ => oRes e1⟩ (by decide) (by decide) dX3_hold_92
            · skip
              exfalso; exact absurd rfl c77
          · skip
            have e61 : (.int (oInt (some a0)) : Value) = .int (nI a0) := rfl
            refine z_st (st' := [.int (nI a0)]) (by rw [e61]) ?_
            have ha0 : a0 < ap := (fF_some ho).1
            obtain ⟨w1, w2, w3, w4⟩ := haa a0 ha0
            refine z_istore C [(4, .int (nI a0)), (0, .ref m), (1, .int (nI (vN v1))), (2, .int (nI 108)), (3, .int (nI (vN v3)))] dX3_hold_72 (by decide) rfl ?_
            refine z_iload C 0 rfl dX3_hold_74 ?_
            refine z_iconst C (v := (-1)) dX3_hold_76 rfl ?_
            refine z_icmp_eq C 91 dX3_hold_77 (by decide) (fun c77 => ?_) (fun c77 => ?_)
            · skip
              exfalso; exact absurd c77 (nI_nem1 (by omega))
            · skip
              refine z_aload_n C 1 rfl dX3_hold_80 rfl ?_
              refine z_get C k_M hM56.1 15 (by decide) rfl q1402 dX3_hold_81 ?_
              refine z_iload C 0 rfl dX3_hold_84 ?_
              have ga62 : V54 (A 9) = some (.inl (D.arr 0, 30, .inl (F 9))) := hM56.2.1 9 (by decide)
              refine z_iald C ga62 (by omega) (by omega) (v := (nI (hr a0))) (hA a0 (by omega)).2.1 dX3_hold_86 ?_
              refine z_iload_n C 4 rfl dX3_hold_87 rfl ?_
              refine z_icmp_ltN C 93 (by omega) (by omega) dX3_hold_88 (by decide) (fun c88 => ?_) (fun c88 => ?_)
              · skip
                have e1 : oHold (qS st rch bx wt ins hld unt Y ap ab hr ln sa mv nw lf) (vN v1) v2 (vN v3) = (0, nI 1, (qS st rch bx wt ins (va_up hld (vN v1) (nI 108)) (va_up unt (vN v1) (vN v3)) Y ap ab hr ln (va_up sa a0 (nI 103)) mv nw lf)) := e0.trans (by rw [show qAin (qS st rch bx wt ins hld unt Y ap ab hr ln sa mv nw lf) (vN v1) = some a0 from ho, hv2]; exact if_neg (show ¬ vN v3 ≤ hr a0 by omega))
                refine z_aload_n C 1 rfl dX3_hold_93 rfl ?_
                refine z_get C k_M hM56.1 17 (by decide) rfl q1404 dX3_hold_94 ?_
                refine z_iload C 0 rfl dX3_hold_97 ?_
                refine z_bipush C (v := (nI 103)) dX3_hold_99 rfl ?_
                have ga63 : V54 (A 11) = some (.inl (D.arr 4, 30, .inl (F 11))) := hM56.2.1 11 (by decide)
                refine z_cast C ga63 (by omega) (by omega) (by decide) dX3_hold_101 (z_nV (fun V64 hV65 => ?_))
                have hM66 := MX.st hM56 11 (by decide) (f := va_up (F 11) a0 (nI 103)) hV65
                refine z_iconst C (v := (nI 1)) dX3_hold_102 rfl ?_
                exact z_iret C hQ (nI 1) rfl ⟨_, by rw [e1]; exact ⟨hM66, hE2, hU2, hy, mA_sa hA a0 (nI 103) rfl rfl rfl rfl⟩, fun _ => oRes e1⟩ (by decide) (by decide) dX3_hold_103
              · skip
                have e1 : oHold (qS st rch bx wt ins hld unt Y ap ab hr ln sa mv nw lf) (vN v1) v2 (vN v3) = (0, 0, (qS st rch bx wt ins (va_up hld (vN v1) (nI 108)) (va_up unt (vN v1) (vN v3)) Y ap ab hr ln sa mv nw lf)) := e0.trans (by rw [show qAin (qS st rch bx wt ins hld unt Y ap ab hr ln sa mv nw lf) (vN v1) = some a0 from ho, hv2]; exact if_pos (show vN v3 ≤ hr a0 by omega))
                refine z_iconst C (v := (nI 0)) dX3_hold_91 rfl ?_
                exact z_iret C hQ (nI 0) rfl ⟨_, by rw [e1]; exact hR2, fun _ => oRes e1⟩ (by decide) (by decide) dX3_hold_92
        · skip
          have e1 : oHold (qS st rch bx wt ins hld unt Y ap ab hr ln sa mv nw lf) (vN v1) v2 (vN v3) = (2, 0, (qS st rch bx wt ins hld unt Y ap ab hr ln sa mv nw lf)) := (if_neg hq0).trans (if_pos (Or.inr (by have := c44; show ¬(nw + 1 ≤ vN v3 ∧ vN v3 ≤ 1000); simpa using this)))
          refine z_aload_n C 0 rfl dX3_hold_47 rfl ?_
          refine z_iconst C (v := (nI 2)) dX3_hold_48 rfl ?_
          refine z_callV C k_M hM3.1 (As := [.int (nI 2)]) (mX3_fails hM3 hst hbx) (lw_V q1458 q1460 qs31 q65 q1461) rfl hd_X3_fails rfl (Nat.le_of_ble_eq_true rfl) (by decide) (by decide) (by decide) (by decide) rfl dX3_hold_49 (fun _ _ h => h.elim) (fun r67 V68 hP69 => ?_)
          obtain ⟨hM70, rfl⟩ := hP69
          refine z_st (st' := [.int 0]) rfl ?_
          exact z_iret C hQ 0 rfl ⟨F, by rw [e1]; exact (show mR D _ m A _ _ (qS st rch bx wt ins hld unt Y ap ab hr ln sa mv nw lf) from ⟨hM70, hE, hU, hy, hA⟩), fun _ => oRes e1⟩ (by decide) (by decide) dX3_hold_52
  · skip
    have hq : qIs (qS st rch bx wt ins hld unt Y ap ab hr ln sa mv nw lf) (vN v1) = false := by simpa using c10
    have e1 : oHold (qS st rch bx wt ins hld unt Y ap ab hr ln sa mv nw lf) (vN v1) v2 (vN v3) = (1, 0, (qS st rch bx wt ins hld unt Y ap ab hr ln sa mv nw lf)) := if_pos hq
    refine z_aload_n C 0 rfl dX3_hold_13 rfl ?_
    refine z_iconst C (v := (nI 1)) dX3_hold_14 rfl ?_
    refine z_callV C k_M hM3.1 (As := [.int (nI 1)]) (mX3_fails hM3 hst hbx) (lw_V q1458 q1460 qs31 q65 q1461) rfl hd_X3_fails rfl (Nat.le_of_ble_eq_true rfl) (by decide) (by decide) (by decide) (by decide) rfl dX3_hold_15 (fun _ _ h => h.elim) (fun r71 V72 hP73 => ?_)
    obtain ⟨hM74, rfl⟩ := hP73
    refine z_st (st' := [.int 0]) rfl ?_
    exact z_iret C hQ 0 rfl ⟨F, by rw [e1]; exact (show mR D _ m A _ _ (qS st rch bx wt ins hld unt Y ap ab hr ln sa mv nw lf) from ⟨hM74, hE, hU, hy, hA⟩), fun _ => oRes e1⟩ (by decide) (by decide) dX3_hold_18
