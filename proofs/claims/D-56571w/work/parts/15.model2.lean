/-! MODEL, the search: nextMove, finds, aboveOf, plans, makes -/
set_option maxRecDepth 100000
theorem nI_dec (k : Nat) : nI (k + 1) + Int32.ofInt (-1) = nI k := by
  have h : nI (k + 1) = nI k + 1 := by unfold nI; rw [Int32.ofNat_add]; rfl
  rw [h, Int32.add_assoc]
  have h2 : (1 : Int32) + Int32.ofInt (-1) = 0 := by decide
  rw [h2, Int32.add_zero]
def sNext (L : YD → Nat → Bool) (Y : YD) (bx f r : Nat) : Prop := (∀ q, f ≤ q → q < r → q < 4 * bx → L Y q = false) ∧ ((f ≤ r ∧ r < 4 * bx ∧ L Y r = true) ∨ r = 80)
theorem sNext.no {L : YD → Nat → Bool} {Y : YD} {bx f r : Nat} (h : sNext L Y bx f r) (hL : ∀ q, L Y q = true → q < 4 * bx) (q : Nat) (hf : f ≤ q) (hr : q < r) : L Y q = false := by
  cases e : L Y q with
  | false => rfl
  | true => rw [← e]; exact h.1 q hf hr (hL q e)
theorem sNext.no80 {L : YD → Nat → Bool} {Y : YD} {bx f r : Nat} (h : sNext L Y bx f r) (hbx : bx ≤ 20) (hL : ∀ q, L Y q = true → q < 4 * bx) (hr : 80 ≤ r) (q : Nat) (hf : f ≤ q) : L Y q = false := by
  cases e : L Y q with
  | false => rfl
  | true => have := hL q e; rw [← e]; exact h.1 q hf (by omega) this
theorem yLeg_lt {st bx : Nat} {rch wt : Nat → Nat} {ins pin : Nat → Bool} {t : Nat} {Y : YD} (h : yGood st bx ins Y) (q : Nat) (hl : yLeg st rch wt ins pin t Y q = true) : q < 4 * bx := by
  obtain ⟨-, h2, h3, h4⟩ := yLeg_spec hl
  obtain ⟨c1, -, c3, c4⟩ := yCan_spec h4
  have := (h.2.2 _ _ (List.mem_of_getLast? c1)).1
  omega
def sAll (L : YD → Nat → Bool) (t : Nat) (Y : YD) (n : Nat) (P : List Nat) (f : Nat) : Prop := ∀ ms, ms.length = n → yPlan L t Y ms → geP ms P f
def sEnd (L : YD → Nat → Bool) (t : Nat) (Z : YD) (n d f : Nat) : Prop := (d = n ∧ yTop t Z = false) ∨ (d < n ∧ ∀ q, f ≤ q → L Z q = false)
theorem sAll_0 {L : YD → Nat → Bool} {t : Nat} {Y : YD} {n : Nat} : sAll L t Y n [] 0 := fun _ _ _ => geP_nil
theorem sAll_none {L : YD → Nat → Bool} {t : Nat} {Y : YD} {n f : Nat} (h : sAll L t Y n [] f) (hd : sEnd L t Y n 0 f) : sFirst L t Y n none := by
  intro ms hl hp
  have h1 := h ms hl hp
  rcases hd with ⟨rfl, ht⟩ | ⟨hn, hq⟩
  · have : ms = [] := List.length_eq_zero_iff.mp hl
    subst this
    obtain ⟨Z, hz, hz2⟩ := hp
    cases hz
    rw [ht] at hz2; cases hz2
  · cases ms with
    | nil => simp at hl; omega
    | cons q ms =>
      obtain ⟨Z, hz, -⟩ := hp
      rw [yRun, hq q h1] at hz
      cases hz
theorem sAll_pop {L : YD → Nat → Bool} {t : Nat} {Y Z : YD} {n p f : Nat} {P : List Nat} (h : sAll L t Y n (P ++ [p]) f) (hZ : yRun L Y (P ++ [p]) = some Z) (hd : sEnd L t Z n (P.length + 1) f) : sAll L t Y n P (p + 1) := by
  intro ms hl hp
  have h1 := h ms hl hp
  rcases hd with ⟨hn, ht⟩ | ⟨hn, hq⟩
  · refine geP_pop1 (by omega) (fun e => ?_) h1
    obtain ⟨W, hw, hw2⟩ := hp
    rw [e, hZ] at hw
    cases hw
    rw [ht] at hw2; cases hw2
  · refine geP_pop2 (by omega) (fun q rest e hq2 => ?_) h1
    obtain ⟨W, hw, hw2⟩ := hp
    rw [e] at hw
    obtain ⟨X, hx1, hx2, -⟩ := yRun_mid hw
    rw [hZ] at hx1
    cases hx1
    rw [hq q hq2] at hx2; cases hx2
theorem sAll_push {L : YD → Nat → Bool} {t : Nat} {Y Z : YD} {n r f : Nat} {P : List Nat} (h : sAll L t Y n P f) (hn : P.length < n) (hZ : yRun L Y P = some Z) (hr : ∀ q, f ≤ q → q < r → L Z q = false) : sAll L t Y n (P ++ [r]) 0 := by
  intro ms hl hp
  refine geP_push (by omega) (fun q rest e hq2 => ?_) (h ms hl hp)
  obtain ⟨W, hw, hw2⟩ := hp
  rw [e] at hw
  obtain ⟨X, hx1, hx2, -⟩ := yRun_mid hw
  rw [hZ] at hx1
  cases hx1
  rcases Nat.lt_or_ge q r with k | k
  · rw [hr q hq2 k] at hx2; cases hx2
  · exact k
theorem sAll_hit {L : YD → Nat → Bool} {t : Nat} {Y Z : YD} {n f : Nat} {P : List Nat} (h : sAll L t Y n P f) (hn : P.length = n) (hZ : yRun L Y P = some Z) (ht : yTop t Z = true) : sFirst L t Y n (some P) :=
  ⟨hn, ⟨Z, hZ, ht⟩, fun ms hl hp => geP_lex (by omega) (h ms hl hp)⟩
/-- only heights, piles and plan differ -/
def mOff (F F2 : Nat → Nat → Int32) : Prop := ∀ i, i ≠ 5 → i ≠ 6 → i ≠ 7 → F2 i = F i
theorem mOff.e {F F2 : Nat → Nat → Int32} (h : mOff F F2) {st bx : Nat} {rch wt : Nat → Nat} {ins : Nat → Bool} {hld : Nat → Int32} (hE : mE F st bx rch wt ins hld) : mE F2 st bx rch wt ins hld := by
  unfold mE
  rw [h 0 (by decide) (by decide) (by decide), h 1 (by decide) (by decide) (by decide), h 2 (by decide) (by decide) (by decide), h 3 (by decide) (by decide) (by decide)]
  exact hE
/-- the yards 0 .. |P| hold what P leads to, step by step; the plan holds P -/
def sInv (L : YD → Nat → Bool) (Y : YD) (F : Nat → Nat → Int32) (P : List Nat) : Prop :=
  (∀ i, i ≤ P.length → ∃ Z, yRun L Y (P.take i) = some Z ∧ mY F i Z) ∧ (∀ (i q : Nat), P[i]? = some q → F 7 i = nI q) ∧ ∀ q, q ∈ P → q < 80
theorem sInv_0 {L : YD → Nat → Bool} {Y : YD} {F : Nat → Nat → Int32} (hy : mY F 0 Y) : sInv L Y F [] := by
  refine ⟨fun i hi => ⟨Y, ?_, ?_⟩, fun i q h => by simp at h, fun q h => by simp at h⟩
  · have : i = 0 := by simpa using hi
    subst this; rfl
  · have : i = 0 := by simpa using hi
    subst this; exact hy
theorem sInv.top {L : YD → Nat → Bool} {Y : YD} {F : Nat → Nat → Int32} {P : List Nat} (h : sInv L Y F P) : ∃ Z, yRun L Y P = some Z ∧ mY F P.length Z := by
  obtain ⟨Z, h1, h2⟩ := h.1 P.length (Nat.le_refl _)
  rw [List.take_length] at h1
  exact ⟨Z, h1, h2⟩
theorem sInv.pop {L : YD → Nat → Bool} {Y : YD} {F : Nat → Nat → Int32} {P : List Nat} {p : Nat} (h : sInv L Y F (P ++ [p])) : sInv L Y F P ∧ F 7 P.length = nI p ∧ p < 80 := by
  refine ⟨⟨fun i hi => ?_, fun i q hq => ?_, fun q hq => h.2.2 q (List.mem_append_left _ hq)⟩, h.2.1 _ _ (by simp), h.2.2 p (by simp)⟩
  · obtain ⟨Z, h1, h2⟩ := h.1 i (by simp; omega)
    rw [List.take_append_of_le_length hi] at h1
    exact ⟨Z, h1, h2⟩
  · have := (List.getElem?_eq_some_iff.mp hq).1
    exact h.2.1 i q (by rw [List.getElem?_append_left this]; exact hq)
theorem sInv.push {st : Nat} {L : YD → Nat → Bool} {Y Z Z2 : YD} {F F1 F2 : Nat → Nat → Int32} {P : List Nat} {q : Nat} (h : sInv L Y F P) (hok : ∀ (a : List Nat) (W : YD), yRun L Y a = some W → yOK st W)
    (hZ : yRun L Y P = some Z) (hq : q < 80) (hL : L Z q = true) (h5 : F1 5 = F 5) (h6 : F1 6 = F 6) (h7 : F1 7 = va_up (F 7) P.length (nI q)) (hon : mOn F1 F2 (P.length + 1)) (h2 : mY F2 (P.length + 1) Z2) (hgo : Z2 = yGo Z q) : sInv L Y F2 (P ++ [q]) := by
  subst hgo
  refine ⟨fun i hi => ?_, fun i x hx => ?_, fun x hx => ?_⟩
  · rw [List.length_append] at hi
    have hi : i ≤ P.length + 1 := hi
    by_cases e : i = P.length + 1
    · subst e
      refine ⟨_, ?_, h2⟩
      have : (P ++ [q]).take (P.length + 1) = P ++ [q] := List.take_of_length_le (by simp)
      rw [this]
      exact yRun_snoc hZ hL
    · obtain ⟨W, k1, k2⟩ := h.1 i (by omega)
      refine ⟨W, by rw [List.take_append_of_le_length (by omega)]; exact k1, ?_⟩
      have k3 : mY F1 i W := ⟨fun s hs => by rw [h5]; exact k2.1 s hs, fun s k b hs hk => by rw [h6]; exact k2.2 s k b hs hk⟩
      exact hon.mY e (hok _ _ k1).1 k3
  · rw [hon.1 7 (by decide) (by decide), h7]
    by_cases e : i = P.length
    · subst e
      rw [zvs]
      have : (P ++ [q])[P.length]? = some q := by simp
      rw [this] at hx
      cases hx; rfl
    · rw [zvn e]
      have hlt := (List.getElem?_eq_some_iff.mp hx).1
      rw [List.length_append] at hlt
      have hlt : i < P.length + 1 := hlt
      rw [List.getElem?_append_left (by omega)] at hx
      exact h.2.1 i x hx
  · rcases List.mem_append.mp hx with k | k
    · exact h.2.2 x k
    · rw [List.mem_singleton] at k; rw [k]; exact hq
theorem mY.cong {F F2 : Nat → Nat → Int32} {y : Nat} {Y : YD} (h : mY F y Y) (h5 : F2 5 = F 5) (h6 : F2 6 = F 6) : mY F2 y Y :=
  ⟨fun s hs => by rw [h5]; exact h.1 s hs, fun s k b hs hk => by rw [h6]; exact h.2 s k b hs hk⟩
theorem snoc_or (P : List Nat) : P = [] ∨ ∃ Q p, P = Q ++ [p] := by
  rcases List.eq_nil_or_concat P with h | ⟨Q, p, h⟩
  · exact Or.inl h
  · exact Or.inr ⟨Q, p, by rw [h]; simp⟩

set_option maxHeartbeats 4000000 in
set_option maxRecDepth 100000 in
theorem mX3_nextMove {l : Launch} {D : ZD} {V : ZV} {m : Nat} {A : Nat → Nat} {F : Nat → Nat → Int32} {cd : Int32} {nw st bx : Nat} {mv : Int32} {ap : Nat} {lf : Int64} (hM : MX D V m A F cd nw st bx mv ap lf) (hst : st ≤ 4) (hbx : bx ≤ 20) {y : Nat} {Y : YD} (hy : mY F y Y) (hyl : y < 6) {rch wt : Nat → Nat} {ins : Nat → Bool} {hld : Nat → Int32} (hE : mE F st bx rch wt ins hld) (hrc : ∀ s, s < st → rch s ≤ 4) (hwt : ∀ b, b < bx → wt b < 1000) (hg : yGood st bx ins Y) {f t : Nat} (hf : f ≤ 80) (ht : t < 20) : ZM l D yX3_nextMove (ws_ yX3_nextMove cX3_nextMove 5 (some .int)) 4 0 0 eN V [.ref m, .int (nI y), .int (nI f), .int (nI t)] (fun r V' => V' = V ∧ sNext (yLeg st rch wt ins (pin' hld) t) Y bx f r) zno_x := by
  refine z_enter (by decide +kernel) [(0, .ref m), (1, .int (nI y)), (2, .int (nI f)), (3, .int (nI t))] rfl (Nat.le_of_ble_eq_true rfl) (zcat_cons rfl (zcat_cons rfl (zcat_cons rfl (zcat_cons rfl zcat_nil)))) (fun Γ C hQ => ?_)
  have hmm : ∀ s, ∀ c ∈ Y s, c < bx := fun s c hc => (hg.2.2 s c hc).1
  refine z_iload_n C 2 rfl dX3_nextMove_0 rfl ?_
  refine z_istore C [(4, .int (nI f)), (0, .ref m), (1, .int (nI y)), (2, .int (nI f)), (3, .int (nI t))] dX3_nextMove_1 (by decide) rfl ?_
  have loop1 : ∀ (n_loop1 : Nat) (s : Nat), f ≤ s → s ≤ 80 → (∀ q, f ≤ q → q < s → yLeg st rch wt ins (pin' hld) t Y q = false) → 80 - s < n_loop1 → ZW l D Γ (zr 4 0 0) 3 [(4, .int (nI s)), (0, .ref m), (1, .int (nI y)), (2, .int (nI f)), (3, .int (nI t))] [] V 0 0 := by
    intro n_loop1
    induction n_loop1 with
    | zero => intro s _ _ _ hm; exact absurd hm (Nat.not_lt_zero _)
    | succ n_loop1 ih_loop1 =>
      intro s hloop1_0 hloop1_1 hloop1_2 hm
      refine z_iload C 0 rfl dX3_nextMove_3 ?_
      refine z_iconst C (v := (nI 4)) dX3_nextMove_5 rfl ?_
      refine z_aload_n C 1 rfl dX3_nextMove_6 rfl ?_
      refine z_get C k_M hM.1 4 (by decide) rfl q1391 dX3_nextMove_7 ?_
      refine z_imulN C dX3_nextMove_10 ?_
      refine z_icmp_geN C 70 (by omega) (by omega) dX3_nextMove_11 (by decide) (fun c11 => ?_) (fun c11 => ?_)
      · skip
        refine z_bipush C (v := (nI 80)) dX3_nextMove_70 rfl ?_
        exact z_iret C hQ 80 rfl ⟨rfl, fun q h1 h2 h3 => hloop1_2 q h1 (by omega), Or.inr rfl⟩ (by decide) (by decide) dX3_nextMove_72
      · skip
        refine z_iload C 0 rfl dX3_nextMove_14 ?_
        refine z_iconst C (v := (nI 4)) dX3_nextMove_16 rfl ?_
        refine z_idivN C (by omega) (by omega) (by omega) dX3_nextMove_17 ?_
        refine z_iload_n C 4 rfl dX3_nextMove_18 rfl ?_
        refine z_icmp_eqN C 64 (by omega) (by omega) dX3_nextMove_19 (by decide) (fun c19 => ?_) (fun c19 => ?_)
        · skip
          have hL : yLeg st rch wt ins (pin' hld) t Y s = false := by unfold yLeg; simp [c19]
          refine z_iincN C 0 1 [(4, .int (nI (s + 1))), (0, .ref m), (1, .int (nI y)), (2, .int (nI f)), (3, .int (nI t))] rfl dX3_nextMove_64 rfl (by decide) rfl ?_
          refine z_goto C 3 dX3_nextMove_67 (by decide) ?_
          have hnext : ∀ q, f ≤ q → q < s + 1 → yLeg st rch wt ins (pin' hld) t Y q = false := by
            intro q h1 h2
            rcases Nat.lt_or_ge q s with k | k
            · exact hloop1_2 q h1 k
            · obtain rfl : q = s := by omega
              exact hL
          exact ih_loop1 (s + 1) (by omega) (by omega) hnext (by omega)
        · skip
          refine z_iload C 0 rfl dX3_nextMove_22 ?_
          refine z_iconst C (v := (nI 4)) dX3_nextMove_24 rfl ?_
          refine z_iremN C (by omega) (by omega) (by omega) dX3_nextMove_25 ?_
          refine z_aload_n C 1 rfl dX3_nextMove_26 rfl ?_
          refine z_get C k_M hM.1 2 (by decide) rfl q1389 dX3_nextMove_27 ?_
          refine z_icmp_geN C 64 (by omega) (by omega) dX3_nextMove_30 (by decide) (fun c30 => ?_) (fun c30 => ?_)
          · skip
            have hL : yLeg st rch wt ins (pin' hld) t Y s = false := by unfold yLeg; have := c30; simp; omega
            refine z_iincN C 0 1 [(4, .int (nI (s + 1))), (0, .ref m), (1, .int (nI y)), (2, .int (nI f)), (3, .int (nI t))] rfl dX3_nextMove_64 rfl (by decide) rfl ?_
            refine z_goto C 3 dX3_nextMove_67 (by decide) ?_
            have hnext : ∀ q, f ≤ q → q < s + 1 → yLeg st rch wt ins (pin' hld) t Y q = false := by
              intro q h1 h2
              rcases Nat.lt_or_ge q s with k | k
              · exact hloop1_2 q h1 k
              · obtain rfl : q = s := by omega
                exact hL
            exact ih_loop1 (s + 1) (by omega) (by omega) hnext (by omega)
          · skip
            refine z_aload_n C 1 rfl dX3_nextMove_33 rfl ?_
            refine z_get C k_M hM.1 6 (by decide) rfl q1393 dX3_nextMove_34 ?_
            refine z_iload C 0 rfl dX3_nextMove_37 ?_
            refine z_iconst C (v := (nI 4)) dX3_nextMove_39 rfl ?_
            refine z_idivN C (by omega) (by omega) (by omega) dX3_nextMove_40 ?_
            have ga2 : V (A 2) = some (.inl (D.arr 3, 20, .inl (F 2))) := hM.2.1 2 (by decide)
            refine z_zald C ga2 (by omega) (by omega) (v := (zb (ins (s / 4)))) (hE.2.2.1 (s / 4) (by omega)) dX3_nextMove_41 ?_
            refine z_if_eqB C 64 dX3_nextMove_42 (by decide) (fun c42 => ?_) (fun c42 => ?_)
            · skip
              have hL : yLeg st rch wt ins (pin' hld) t Y s = false := by unfold yLeg; simp [show ins (s / 4) = false by simpa using c42]
              refine z_iincN C 0 1 [(4, .int (nI (s + 1))), (0, .ref m), (1, .int (nI y)), (2, .int (nI f)), (3, .int (nI t))] rfl dX3_nextMove_64 rfl (by decide) rfl ?_
              refine z_goto C 3 dX3_nextMove_67 (by decide) ?_
              have hnext : ∀ q, f ≤ q → q < s + 1 → yLeg st rch wt ins (pin' hld) t Y q = false := by
                intro q h1 h2
                rcases Nat.lt_or_ge q s with k | k
                · exact hloop1_2 q h1 k
                · obtain rfl : q = s := by omega
                  exact hL
              exact ih_loop1 (s + 1) (by omega) (by omega) hnext (by omega)
            · skip
              obtain ⟨p, hb⟩ := hg.2.1 (s / 4) (by omega) (by simpa using c42)
              have hpl : yPl Y (s / 4) = p := yPl_eq hg.1 hst hb
              refine z_aload_n C 1 rfl dX3_nextMove_45 rfl ?_
              refine z_iload_n C 2 rfl dX3_nextMove_46 rfl ?_
              refine z_iload C 0 rfl dX3_nextMove_47 ?_
              refine z_iconst C (v := (nI 4)) dX3_nextMove_49 rfl ?_
              refine z_idivN C (by omega) (by omega) (by omega) dX3_nextMove_50 ?_
              refine z_iload C 0 rfl dX3_nextMove_51 ?_
              refine z_iconst C (v := (nI 4)) dX3_nextMove_53 rfl ?_
              refine z_iremN C (by omega) (by omega) (by omega) dX3_nextMove_54 ?_
              refine z_callV C k_M hM.1 (As := [.int (nI y), .int (nI (s / 4)), .int (nI (s % 4))]) (mX3_canMove hM hst hbx hy hyl hg.1 hb hE hrc hwt (s := s % 4) (by omega) (by omega) hmm) (lw_V q1574 q1576 qs44 q65 q1577) rfl hd_X3_canMove rfl (Nat.le_of_ble_eq_true rfl) (by decide) (by decide) (by decide) (by decide) rfl dX3_nextMove_55 (fun _ _ h => h.elim) (fun r3 V4 hP5 => ?_)
              rw [hP5.1, hP5.2]
              refine z_st (st' := [.int (zb (yCan rch wt (pin' hld) Y p (s / 4) (s % 4)))]) rfl ?_
              refine z_if_eqB C 64 dX3_nextMove_58 (by decide) (fun c58 => ?_) (fun c58 => ?_)
              · skip
                have hL : yLeg st rch wt ins (pin' hld) t Y s = false := by unfold yLeg; rw [hpl]; simp [show yCan rch wt (pin' hld) Y p (s / 4) (s % 4) = false by simpa using c58]
                refine z_iincN C 0 1 [(4, .int (nI (s + 1))), (0, .ref m), (1, .int (nI y)), (2, .int (nI f)), (3, .int (nI t))] rfl dX3_nextMove_64 rfl (by decide) rfl ?_
                refine z_goto C 3 dX3_nextMove_67 (by decide) ?_
                have hnext : ∀ q, f ≤ q → q < s + 1 → yLeg st rch wt ins (pin' hld) t Y q = false := by
                  intro q h1 h2
                  rcases Nat.lt_or_ge q s with k | k
                  · exact hloop1_2 q h1 k
                  · obtain rfl : q = s := by omega
                    exact hL
                exact ih_loop1 (s + 1) (by omega) (by omega) hnext (by omega)
              · skip
                refine z_iload C 0 rfl dX3_nextMove_61 ?_
                exact z_iret C hQ s rfl ⟨rfl, fun q h1 h2 _ => hloop1_2 q h1 h2, Or.inl ⟨by omega, by omega, by unfold yLeg; rw [hpl]; simp_all⟩⟩ (by decide) (by decide) dX3_nextMove_63
  exact loop1 _ f (Nat.le_refl _) hf (fun q a b => absurd b (by omega)) (Nat.lt_succ_self _)
set_option maxHeartbeats 4000000 in
set_option maxRecDepth 100000 in
theorem mX3_finds {l : Launch} {D : ZD} {V : ZV} {m : Nat} {A : Nat → Nat} {F : Nat → Nat → Int32} {cd : Int32} {nw st bx : Nat} {mv : Int32} {ap : Nat} {lf : Int64} (hM : MX D V m A F cd nw st bx mv ap lf) (hst : st ≤ 4) (hbx : bx ≤ 20) {Y : YD} (hy : mY F 0 Y) {rch wt : Nat → Nat} {ins : Nat → Bool} {hld : Nat → Int32} (hE : mE F st bx rch wt ins hld) (hrc : ∀ s, s < st → rch s ≤ 4) (hwt : ∀ b, b < bx → wt b < 1000) (hg : yGood st bx ins Y) {t n : Nat} (hn5 : n ≤ 5) (ht : t < bx) (hti : ins t = true) : ZM l D yX3_finds (ws_ yX3_finds cX3_finds 6 (some .boolean)) 5 0 0 eB V [.ref m, .int (nI t), .int (nI n)] (fun r V' => ∃ F2, MX D V' m A F2 cd nw st bx mv ap lf ∧ mOff F F2 ∧ mY F2 0 Y ∧ ∃ o, sFirst (yLeg st rch wt ins (pin' hld) t) t Y n o ∧ (r = true → ∃ ms, o = some ms ∧ (∀ i q, ms[i]? = some q → F2 7 i = nI q)) ∧ (r = false → o = none)) zno_x := by
  refine z_enter (by decide +kernel) [(0, .ref m), (1, .int (nI t)), (2, .int (nI n))] rfl (Nat.le_of_ble_eq_true rfl) (zcat_cons rfl (zcat_cons rfl (zcat_cons rfl zcat_nil))) (fun Γ C hQ => ?_)
  have hgr : ∀ (a : List Nat) (W : YD), yRun (yLeg st rch wt ins (pin' hld) t) Y a = some W → yGood st bx ins W := fun a W h => yGood_run hrc a hg h
  have hokr : ∀ (a : List Nat) (W : YD), yRun (yLeg st rch wt ins (pin' hld) t) Y a = some W → yOK st W := fun a W h => (hgr a W h).1
  refine z_iconst C (v := (nI 0)) dX3_finds_0 rfl ?_
  refine z_istore_n C [(3, .int (nI 0)), (0, .ref m), (1, .int (nI t)), (2, .int (nI n))] dX3_finds_1 rfl (by decide) rfl ?_
  refine z_iconst C (v := (nI 0)) dX3_finds_2 rfl ?_
  refine z_istore C [(4, .int (nI 0)), (3, .int (nI 0)), (0, .ref m), (1, .int (nI t)), (2, .int (nI n))] dX3_finds_3 (by decide) rfl ?_
  have loop1 : ∀ (n_loop1 : Nat) (P : List Nat) (f : Nat) (F1 : Nat → Nat → Int32) (V1 : ZV), P.length ≤ n → MX D V1 m A F1 cd nw st bx mv ap lf → sInv (yLeg st rch wt ins (pin' hld) t) Y F1 P → sAll (yLeg st rch wt ins (pin' hld) t) t Y n P f → f ≤ 80 → mOff F F1 → sMu n P f < n_loop1 → ZW l D Γ (zr 5 0 0) 5 [(4, .int (nI f)), (3, .int (nI P.length)), (0, .ref m), (1, .int (nI t)), (2, .int (nI n))] [] V1 0 0 := by
    intro n_loop1
    induction n_loop1 with
    | zero => intro P f F1 V1 _ _ _ _ _ _ hm; exact absurd hm (Nat.not_lt_zero _)
    | succ n_loop1 ih_loop1 =>
      intro P f F1 V1 hloop1_0 hloop1_1 hloop1_2 hloop1_3 hloop1_4 hloop1_5 hm
      obtain ⟨Z, hZ, hZy⟩ := hloop1_2.top
      have hZg := hgr P Z hZ
      have hE1 := hloop1_5.e hE
      obtain ⟨p, hb⟩ := hZg.2.1 t ht hti
      have hpl : yPl Z t = p := yPl_eq hZg.1 hst hb
      have hLlt := yLeg_lt (rch := rch) (wt := wt) (pin := pin' hld) (t := t) hZg
      refine z_iload_n C 1 rfl dX3_finds_5 rfl ?_
      refine z_if_ltN C 116 (by omega) dX3_finds_6 (by decide) (fun c6 => ?_) (fun c6 => ?_)
      · skip
        exfalso; omega
      · skip
        refine z_iload_n C 1 rfl dX3_finds_9 rfl ?_
        refine z_iload_n C 4 rfl dX3_finds_10 rfl ?_
        refine z_icmp_geN C 25 (by omega) (by omega) dX3_finds_11 (by decide) (fun c11 => ?_) (fun c11 => ?_)
        · skip
          have hPn : P.length = n := by omega
          refine z_bipush C (v := (nI 80)) dX3_finds_25 rfl ?_
          refine z_istore C [(5, .int (nI 80)), (4, .int (nI f)), (3, .int (nI P.length)), (0, .ref m), (1, .int (nI t)), (2, .int (nI n))] dX3_finds_27 (by decide) rfl ?_
          refine z_iload_n C 2 rfl dX3_finds_29 rfl ?_
          refine z_iload_n C 5 rfl dX3_finds_30 rfl ?_
          refine z_icmp_neN C 45 (by omega) (by omega) dX3_finds_31 (by decide) (fun c31 => ?_) (fun c31 => ?_)
          · skip
            exfalso; omega
          · skip
            refine z_aload_n C 3 rfl dX3_finds_34 rfl ?_
            refine z_iload_n C 2 rfl dX3_finds_35 rfl ?_
            refine z_iload_n C 4 rfl dX3_finds_36 rfl ?_
            refine z_callV C k_M hloop1_1.1 (As := [.int (nI P.length), .int (nI t)]) (mX3_isTop hloop1_1 hst hbx hZy (by omega) hZg.1 hb) (lw_V q1566 q1568 qs43 q65 q1569) rfl hd_X3_isTop rfl (Nat.le_of_ble_eq_true rfl) (by decide) (by decide) (by decide) (by decide) rfl dX3_finds_37 (fun _ _ h => h.elim) (fun r2 V3 hP4 => ?_)
            rw [hP4.1, hP4.2]
            refine z_st (st' := [.int (zb (decide ((Z p).getLast? = some t)))]) rfl ?_
            refine z_if_eqB C 45 dX3_finds_40 (by decide) (fun c40 => ?_) (fun c40 => ?_)
            · skip
              have hEnd : sEnd (yLeg st rch wt ins (pin' hld) t) t Z n P.length f := Or.inl ⟨hPn, by unfold yTop; rw [hpl]; exact c40⟩
              refine z_iload C 0 rfl dX3_finds_45 ?_
              refine z_bipush C (v := (nI 80)) dX3_finds_47 rfl ?_
              refine z_icmp_geN C 92 (by omega) (by omega) dX3_finds_49 (by decide) (fun c49 => ?_) (fun c49 => ?_)
              · skip
                rcases snoc_or P with hPe | ⟨Q, p0, hPe⟩
                · skip
                  subst hPe
                  cases hZ
                  refine z_iinc C 2 [(3, .int ((nI 0) + Int32.ofInt (-1))), (5, .int (nI 80)), (4, .int (nI f)), (0, .ref m), (1, .int (nI t)), (2, .int (nI n))] rfl dX3_finds_92 rfl (by decide) rfl ?_
                  have e5 : (.int ((nI 0) + Int32.ofInt (-1)) : Value) = .int (-1) := (by decide)
                  refine z_lv (lv' := [(3, .int (-1)), (5, .int (nI 80)), (4, .int (nI f)), (0, .ref m), (1, .int (nI t)), (2, .int (nI n))]) (by rw [e5]) ?_
                  refine z_iload_n C 0 rfl dX3_finds_95 rfl ?_
                  refine z_if_ge C 103 dX3_finds_96 (by decide) (fun c96 => ?_) (fun c96 => ?_)
                  · skip
                    exfalso; exact absurd c96 (by decide)
                  · skip
                    refine z_iconst C (v := (nI 0)) dX3_finds_99 rfl ?_
                    refine z_goto C 111 dX3_finds_100 (by decide) ?_
                    refine z_istore C [(4, .int (nI 0)), (3, .int (-1)), (5, .int (nI 80)), (0, .ref m), (1, .int (nI t)), (2, .int (nI n))] dX3_finds_111 (by decide) rfl ?_
                    refine z_goto C 5 dX3_finds_113 (by decide) ?_
                    refine z_iload_n C 1 rfl dX3_finds_5 rfl ?_
                    refine z_if_lt C 116 dX3_finds_6 (by decide) (fun c6_6 => ?_) (fun c6_6 => ?_)
                    · skip
                      refine z_iconst C (v := (nI 0)) dX3_finds_116 rfl ?_
                      exact z_zret C hQ false rfl rfl ⟨F1, hloop1_1, hloop1_5, hZy, none, sAll_none hloop1_3 hEnd, (fun h => by cases h), fun _ => rfl⟩ (by decide) (by decide) dX3_finds_117
                    · skip
                      exfalso; exact c6_6 (by decide)
                · skip
                  subst hPe
                  obtain ⟨hI2, hp7, hp80⟩ := hloop1_2.pop
                  have hlen : (Q ++ [p0]).length = Q.length + 1 := by simp
                  refine z_lv (lv' := [(5, .int (nI 80)), (4, .int (nI f)), (3, .int (nI (Q.length + 1))), (0, .ref m), (1, .int (nI t)), (2, .int (nI n))]) (by rw [hlen]) ?_
                  rw [hlen] at hEnd hloop1_0
                  refine z_iinc C 2 [(3, .int ((nI (Q.length + 1)) + Int32.ofInt (-1))), (5, .int (nI 80)), (4, .int (nI f)), (0, .ref m), (1, .int (nI t)), (2, .int (nI n))] rfl dX3_finds_92 rfl (by decide) rfl ?_
                  have e7 : (.int ((nI (Q.length + 1)) + Int32.ofInt (-1)) : Value) = .int (nI Q.length) := (by rw [nI_dec])
                  refine z_lv (lv' := [(3, .int (nI Q.length)), (5, .int (nI 80)), (4, .int (nI f)), (0, .ref m), (1, .int (nI t)), (2, .int (nI n))]) (by rw [e7]) ?_
                  refine z_iload_n C 0 rfl dX3_finds_95 rfl ?_
                  refine z_if_geN C 103 (by omega) dX3_finds_96 (by decide) (fun c96 => ?_) (fun c96 => ?_)
                  · skip
                    refine z_aload_n C 3 rfl dX3_finds_103 rfl ?_
                    refine z_get C k_M hloop1_1.1 11 (by decide) rfl q1398 dX3_finds_104 ?_
                    refine z_iload_n C 0 rfl dX3_finds_107 rfl ?_
                    have ga8 : V1 (A 7) = some (.inl (D.arr 0, 6, .inl (F1 7))) := hloop1_1.2.1 7 (by decide)
                    refine z_iald C ga8 (by omega) (by omega) (v := (nI p0)) hp7 dX3_finds_108 ?_
                    refine z_iconst C (v := (nI 1)) dX3_finds_109 rfl ?_
                    refine z_iaddN C dX3_finds_110 ?_
                    refine z_istore C [(4, .int (nI (p0 + 1))), (3, .int (nI Q.length)), (5, .int (nI 80)), (0, .ref m), (1, .int (nI t)), (2, .int (nI n))] dX3_finds_111 (by decide) rfl ?_
                    refine z_goto C 5 dX3_finds_113 (by decide) ?_
                    refine z_pick [(4, .int (nI (p0 + 1))), (3, .int (nI Q.length)), (0, .ref m), (1, .int (nI t)), (2, .int (nI n))] [0, 1, 3, 4, 5] rfl ?_
                    exact ih_loop1 Q (p0 + 1) F1 _ (by omega) hloop1_1 hI2 (sAll_pop hloop1_3 hZ hEnd) (by omega) hloop1_5 (Nat.lt_of_lt_of_le (sMu_pop (by omega) hp80 hloop1_4) (Nat.le_of_lt_succ hm))
                  · skip
                    exfalso; omega
              · skip
                exfalso; omega
            · skip
              refine z_iconst C (v := (nI 1)) dX3_finds_43 rfl ?_
              exact z_zret C hQ true rfl rfl ⟨F1, hloop1_1, hloop1_5, by obtain ⟨W, w1, w2⟩ := hloop1_2.1 0 (Nat.zero_le _); cases w1; exact w2, some P, sAll_hit hloop1_3 hPn hZ (by unfold yTop; rw [hpl]; simpa using c40), fun _ => ⟨P, rfl, hloop1_2.2.1⟩, (fun h => by cases h)⟩ (by decide) (by decide) dX3_finds_44
        · skip
          refine z_aload_n C 2 rfl dX3_finds_14 rfl ?_
          refine z_iload_n C 1 rfl dX3_finds_15 rfl ?_
          refine z_iload C 0 rfl dX3_finds_16 ?_
          refine z_iload_n C 3 rfl dX3_finds_18 rfl ?_
          refine z_callV C k_M hloop1_1.1 (As := [.int (nI P.length), .int (nI f), .int (nI t)]) (mX3_nextMove hloop1_1 hst hbx hZy (by omega) hE1 hrc hwt hZg (f := f) (t := t) hloop1_4 (by omega)) (lw_V q1598 q1600 qs49 q65 q1601) rfl hd_X3_nextMove rfl (Nat.le_of_ble_eq_true rfl) (by decide) (by decide) (by decide) (by decide) rfl dX3_finds_19 (fun _ _ h => h.elim) (fun r9 V10 hP11 => ?_)
          obtain ⟨rfl, hNx⟩ := hP11
          have hr80 : r9 ≤ 80 := by rcases hNx.2 with h | h; omega; omega
          refine z_st (st' := [.int (nI r9)]) rfl ?_
          refine z_goto C 27 dX3_finds_22 (by decide) ?_
          refine z_istore C [(5, .int (nI r9)), (4, .int (nI f)), (3, .int (nI P.length)), (0, .ref m), (1, .int (nI t)), (2, .int (nI n))] dX3_finds_27 (by decide) rfl ?_
          refine z_iload_n C 2 rfl dX3_finds_29 rfl ?_
          refine z_iload_n C 5 rfl dX3_finds_30 rfl ?_
          refine z_icmp_neN C 45 (by omega) (by omega) dX3_finds_31 (by decide) (fun c31 => ?_) (fun c31 => ?_)
          · skip
            refine z_iload C 0 rfl dX3_finds_45 ?_
            refine z_bipush C (v := (nI 80)) dX3_finds_47 rfl ?_
            refine z_icmp_geN C 92 (by omega) (by omega) dX3_finds_49 (by decide) (fun c49 => ?_) (fun c49 => ?_)
            · skip
              have hEnd : sEnd (yLeg st rch wt ins (pin' hld) t) t Z n P.length f := Or.inr ⟨by omega, hNx.no80 hbx hLlt (by omega)⟩
              rcases snoc_or P with hPe | ⟨Q, p0, hPe⟩
              · skip
                subst hPe
                cases hZ
                refine z_iinc C 2 [(3, .int ((nI 0) + Int32.ofInt (-1))), (5, .int (nI r9)), (4, .int (nI f)), (0, .ref m), (1, .int (nI t)), (2, .int (nI n))] rfl dX3_finds_92 rfl (by decide) rfl ?_
                have e12 : (.int ((nI 0) + Int32.ofInt (-1)) : Value) = .int (-1) := (by decide)
                refine z_lv (lv' := [(3, .int (-1)), (5, .int (nI r9)), (4, .int (nI f)), (0, .ref m), (1, .int (nI t)), (2, .int (nI n))]) (by rw [e12]) ?_
                refine z_iload_n C 0 rfl dX3_finds_95 rfl ?_
                refine z_if_ge C 103 dX3_finds_96 (by decide) (fun c96 => ?_) (fun c96 => ?_)
                · skip
                  exfalso; exact absurd c96 (by decide)
                · skip
                  refine z_iconst C (v := (nI 0)) dX3_finds_99 rfl ?_
                  refine z_goto C 111 dX3_finds_100 (by decide) ?_
                  refine z_istore C [(4, .int (nI 0)), (3, .int (-1)), (5, .int (nI r9)), (0, .ref m), (1, .int (nI t)), (2, .int (nI n))] dX3_finds_111 (by decide) rfl ?_
                  refine z_goto C 5 dX3_finds_113 (by decide) ?_
                  refine z_iload_n C 1 rfl dX3_finds_5 rfl ?_
                  refine z_if_lt C 116 dX3_finds_6 (by decide) (fun c6_13 => ?_) (fun c6_13 => ?_)
                  · skip
                    refine z_iconst C (v := (nI 0)) dX3_finds_116 rfl ?_
                    exact z_zret C hQ false rfl rfl ⟨F1, hloop1_1, hloop1_5, hZy, none, sAll_none hloop1_3 hEnd, (fun h => by cases h), fun _ => rfl⟩ (by decide) (by decide) dX3_finds_117
                  · skip
                    exfalso; exact c6_13 (by decide)
              · skip
                subst hPe
                obtain ⟨hI2, hp7, hp80⟩ := hloop1_2.pop
                have hlen : (Q ++ [p0]).length = Q.length + 1 := by simp
                refine z_lv (lv' := [(5, .int (nI r9)), (4, .int (nI f)), (3, .int (nI (Q.length + 1))), (0, .ref m), (1, .int (nI t)), (2, .int (nI n))]) (by rw [hlen]) ?_
                rw [hlen] at hEnd hloop1_0
                refine z_iinc C 2 [(3, .int ((nI (Q.length + 1)) + Int32.ofInt (-1))), (5, .int (nI r9)), (4, .int (nI f)), (0, .ref m), (1, .int (nI t)), (2, .int (nI n))] rfl dX3_finds_92 rfl (by decide) rfl ?_
                have e14 : (.int ((nI (Q.length + 1)) + Int32.ofInt (-1)) : Value) = .int (nI Q.length) := (by rw [nI_dec])
                refine z_lv (lv' := [(3, .int (nI Q.length)), (5, .int (nI r9)), (4, .int (nI f)), (0, .ref m), (1, .int (nI t)), (2, .int (nI n))]) (by rw [e14]) ?_
                refine z_iload_n C 0 rfl dX3_finds_95 rfl ?_
                refine z_if_geN C 103 (by omega) dX3_finds_96 (by decide) (fun c96 => ?_) (fun c96 => ?_)
                · skip
                  refine z_aload_n C 3 rfl dX3_finds_103 rfl ?_
                  refine z_get C k_M hloop1_1.1 11 (by decide) rfl q1398 dX3_finds_104 ?_
                  refine z_iload_n C 0 rfl dX3_finds_107 rfl ?_
                  have ga15 : V10 (A 7) = some (.inl (D.arr 0, 6, .inl (F1 7))) := hloop1_1.2.1 7 (by decide)
                  refine z_iald C ga15 (by omega) (by omega) (v := (nI p0)) hp7 dX3_finds_108 ?_
                  refine z_iconst C (v := (nI 1)) dX3_finds_109 rfl ?_
                  refine z_iaddN C dX3_finds_110 ?_
                  refine z_istore C [(4, .int (nI (p0 + 1))), (3, .int (nI Q.length)), (5, .int (nI r9)), (0, .ref m), (1, .int (nI t)), (2, .int (nI n))] dX3_finds_111 (by decide) rfl ?_
                  refine z_goto C 5 dX3_finds_113 (by decide) ?_
                  refine z_pick [(4, .int (nI (p0 + 1))), (3, .int (nI Q.length)), (0, .ref m), (1, .int (nI t)), (2, .int (nI n))] [0, 1, 3, 4, 5] rfl ?_
                  exact ih_loop1 Q (p0 + 1) F1 _ (by omega) hloop1_1 hI2 (sAll_pop hloop1_3 hZ hEnd) (by omega) hloop1_5 (Nat.lt_of_lt_of_le (sMu_pop (by omega) hp80 hloop1_4) (Nat.le_of_lt_succ hm))
                · skip
                  exfalso; omega
            · skip
              obtain ⟨hfr, hr4, hLr⟩ : f ≤ r9 ∧ r9 < 4 * bx ∧ yLeg st rch wt ins (pin' hld) t Z r9 = true := by rcases hNx.2 with h | h; exact h; omega
              obtain ⟨k1, k2, k3, k4⟩ := yLeg_spec hLr
              obtain ⟨j1, j2, j3, j4⟩ := yCan_spec k4
              have hrs := hrc _ k2
              have hbz := List.mem_of_getLast? j1
              refine z_aload_n C 3 rfl dX3_finds_52 rfl ?_
              refine z_get C k_M hloop1_1.1 11 (by decide) rfl q1398 dX3_finds_53 ?_
              refine z_iload_n C 2 rfl dX3_finds_56 rfl ?_
              refine z_iload C 0 rfl dX3_finds_57 ?_
              have ga16 : V10 (A 7) = some (.inl (D.arr 0, 6, .inl (F1 7))) := hloop1_1.2.1 7 (by decide)
              refine z_iast C ga16 (by omega) (by omega) dX3_finds_59 (z_nV (fun V17 hV18 => ?_))
              have hM19 := MX.st hloop1_1 7 (by decide) (f := va_up (F1 7) P.length (nI r9)) hV18
              refine z_aload_n C 3 rfl dX3_finds_60 rfl ?_
              refine z_iload_n C 2 rfl dX3_finds_61 rfl ?_
              refine z_iload_n C 2 rfl dX3_finds_62 rfl ?_
              refine z_iconst C (v := (nI 1)) dX3_finds_63 rfl ?_
              refine z_iaddN C dX3_finds_64 ?_
              refine z_callV C k_M hM19.1 (As := [.int (nI P.length), .int (nI (P.length + 1))]) (mX3_copies hM19 hst hbx (z := P.length) (y := P.length + 1) (by omega) (by omega) (by omega)) (lw_V q1602 q1604 qs50 q65 q1605) rfl hd_X3_copies rfl (Nat.le_of_ble_eq_true rfl) (by decide) (by decide) (by decide) (by decide) rfl dX3_finds_65 (fun _ _ h => h.elim) (fun r20 V21 hP22 => ?_)
              refine z_st (st' := []) rfl ?_
              refine z_aload_n C 3 rfl dX3_finds_68 rfl ?_
              refine z_iload_n C 2 rfl dX3_finds_69 rfl ?_
              refine z_iconst C (v := (nI 1)) dX3_finds_70 rfl ?_
              refine z_iaddN C dX3_finds_71 ?_
              refine z_iload C 0 rfl dX3_finds_72 ?_
              refine z_iconst C (v := (nI 4)) dX3_finds_74 rfl ?_
              refine z_idivN C (by omega) (by omega) (by omega) dX3_finds_75 ?_
              refine z_iload C 0 rfl dX3_finds_76 ?_
              refine z_iconst C (v := (nI 4)) dX3_finds_78 rfl ?_
              refine z_iremN C (by omega) (by omega) (by omega) dX3_finds_79 ?_
              have hcp := mCp_mY (z := P.length) (y := P.length + 1) hZg.1.1 (hZy.cong (F2 := (va_up F1 7 (va_up (F1 7) P.length (nI r9)))) rfl rfl)
              refine z_callV C k_M hP22.1 (As := [.int (nI (P.length + 1)), .int (nI (r9 / 4)), .int (nI (r9 % 4))]) (mX3_moves hP22 hst hbx hcp (by omega) hZg.1 hbz (s := r9 % 4) (by omega) j3 (by omega) j1) (lw_V q1578 q1580 qs45 q65 q1581) rfl hd_X3_moves rfl (Nat.le_of_ble_eq_true rfl) (by decide) (by decide) (by decide) (by decide) rfl dX3_finds_80 (fun _ _ h => h.elim) (fun r23 V24 hP25 => ?_)
              obtain ⟨F26, hM27, hr28⟩ := hP25
              refine z_st (st' := []) rfl ?_
              refine z_iincN C 2 1 [(3, .int (nI (P.length + 1))), (5, .int (nI r9)), (4, .int (nI f)), (0, .ref m), (1, .int (nI t)), (2, .int (nI n))] rfl dX3_finds_83 rfl (by decide) rfl ?_
              refine z_iconst C (v := (nI 0)) dX3_finds_86 rfl ?_
              refine z_istore C [(4, .int (nI 0)), (3, .int (nI (P.length + 1))), (5, .int (nI r9)), (0, .ref m), (1, .int (nI t)), (2, .int (nI n))] dX3_finds_87 (by decide) rfl ?_
              refine z_goto C 113 dX3_finds_89 (by decide) ?_
              refine z_goto C 5 dX3_finds_113 (by decide) ?_
              have e29 : (.int (nI (P.length + 1)) : Value) = .int (nI ((P ++ [r9]).length)) := (by simp)
              refine z_lv (lv' := [(4, .int (nI 0)), (3, .int (nI ((P ++ [r9]).length))), (5, .int (nI r9)), (0, .ref m), (1, .int (nI t)), (2, .int (nI n))]) (by rw [e29]) ?_
              refine z_pick [(4, .int (nI 0)), (3, .int (nI ((P ++ [r9]).length))), (0, .ref m), (1, .int (nI t)), (2, .int (nI n))] [0, 1, 3, 4, 5] rfl ?_
              have hon := (mCp_on (va_up F1 7 (va_up (F1 7) P.length (nI r9))) P.length (P.length + 1)).tr hr28.2
              have hI3 := hloop1_2.push (F1 := (va_up F1 7 (va_up (F1 7) P.length (nI r9)))) hokr hZ (by omega) hLr rfl rfl rfl hon hr28.1 rfl
              exact ih_loop1 (P ++ [r9]) 0 F26 _ (by rw [List.length_append]; exact (by omega : P.length + 1 ≤ n)) hM27 hI3 (sAll_push hloop1_3 (by omega) hZ (hNx.no hLlt)) (by omega) (fun i a b c => (hon.1 i a b).trans ((zvn c).trans (hloop1_5 i a b c))) (Nat.lt_of_lt_of_le (sMu_push (by omega) (by omega) hfr) (Nat.le_of_lt_succ hm))
          · skip
            exfalso; omega
  exact loop1 _ [] 0 F V (Nat.zero_le _) hM (sInv_0 hy) sAll_0 (Nat.zero_le _) (fun _ _ _ _ => rfl) (Nat.lt_succ_self _)
