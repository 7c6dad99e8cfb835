/-! COMPONENT: holds that end, plans made, the first hour -/
set_option maxRecDepth 100000
theorem cB.cg {D : ZD} {V : ZV} {bb : Nat} {fB : Nat → Option Nat} {ba : Nat → Nat} {bx : Nat} {wt : Nat → Nat} {ins : Nat → Bool} {hld hld2 : Nat → Int32} {unt : Nat → Nat} {hc : Nat → Int32} {uc : Nat → Nat} (h : cB D V bb fB ba bx wt ins hld unt hc uc) (e : ∀ b, b < bx → ins b = true → hld b = hld2 b) : cB D V bb fB ba bx wt ins hld2 unt hc uc :=
  ⟨h.1, h.2.1, h.2.2.1, fun b hb hi => ⟨(h.2.2.2 b hb hi).1.trans (e b hb hi), (h.2.2.2 b hb hi).2⟩⟩
/-- holds that end now, of the first k boxes -/
def tHl (bx nw : Nat) (hld : Nat → Int32) (unt : Nat → Nat) (k : Nat) (b : Nat) : Int32 := if b < k ∧ b < bx ∧ unt b = nw then nI 45 else hld b
theorem tHl_0 {bx nw : Nat} {hld : Nat → Int32} {unt : Nat → Nat} : tHl bx nw hld unt 0 = hld := by
  funext b; unfold tHl; rw [if_neg (by omega)]
theorem tHl_ne {bx nw : Nat} {hld : Nat → Int32} {unt : Nat → Nat} {k b : Nat} (h : b ≠ k) : tHl bx nw hld unt (k + 1) b = tHl bx nw hld unt k b := by
  unfold tHl
  by_cases c : b < k ∧ b < bx ∧ unt b = nw
  · rw [if_pos c, if_pos ⟨by omega, c.2⟩]
  · rw [if_neg c, if_neg (fun q => c ⟨by omega, q.2⟩)]
theorem tHl_k {bx nw : Nat} {hld : Nat → Int32} {unt : Nat → Nat} {k : Nat} : tHl bx nw hld unt k k = hld k := by
  unfold tHl; rw [if_neg (by omega)]
theorem tHl_k1 {bx nw : Nat} {hld : Nat → Int32} {unt : Nat → Nat} {k : Nat} : tHl bx nw hld unt (k + 1) k = if k < bx ∧ unt k = nw then nI 45 else hld k := by
  unfold tHl
  by_cases c : k < bx ∧ unt k = nw
  · rw [if_pos c, if_pos ⟨by omega, c⟩]
  · rw [if_neg c, if_neg (fun q => c q.2)]
theorem bx_k {V : ZV} {ba : Nat → Nat} {nb n : Nat} {wt : Nat → Nat} {hld : Nat → Int32} {unt : Nat → Nat} (h : hBx V ba nb wt hld unt) (hn : n ≠ 2) : ∀ z e, V z = some e → (∃ b, b < nb ∧ z = ba b) → kq e ≠ n := fun z e hz hs => by
  obtain ⟨b, hb, rfl⟩ := hs
  rw [h b hb] at hz; cases hz
  exact Ne.symm hn
theorem oFirst_1 {S : QS} {b : Nat} (h : qIs S b = false) : oFirst S b = (1, 0, S) := by unfold oFirst; rw [if_pos h]
theorem oFirst_2 {S : QS} {b : Nat} (h : qIs S b = true) (h2 : qFirst S b = none) : oFirst S b = (2, 0, S) := by unfold oFirst; rw [if_neg (by rw [h]; decide), h2]
theorem oFirst_0 {S : QS} {b k : Nat} (h : qIs S b = true) (h2 : qFirst S b = some k) : oFirst S b = (0, nI k, S) := by unfold oFirst; rw [if_neg (by rw [h]; decide), h2]
/-- the hour from which a box's hours may be free -/
def fSt (S : QS) (b : Nat) : Nat := if qhld S b = nI 45 then qnw S + 1 else max (qnw S + 1) (qunt S b)
theorem fSt_p {S : QS} {b h : Nat} : (decide (qnw S < h) && (qFree S h && !qHeld S b h)) = (decide (fSt S b ≤ h) && qFree S h) := by
  unfold fSt qHeld
  by_cases c : qhld S b = nI 45
  · rw [if_pos c, decide_eq_true c]
    by_cases c2 : qnw S < h
    · rw [decide_eq_true c2, decide_eq_true (show qnw S + 1 ≤ h by omega)]; simp
    · rw [decide_eq_false c2, decide_eq_false (show ¬ qnw S + 1 ≤ h by omega)]; simp
  · rw [if_neg c, decide_eq_false c]
    by_cases c2 : qnw S < h
    · by_cases c3 : h < qunt S b
      · rw [decide_eq_true c2, decide_eq_true c3, decide_eq_false (show ¬ max (qnw S + 1) (qunt S b) ≤ h by omega)]; simp
      · rw [decide_eq_true c2, decide_eq_false c3, decide_eq_true (show max (qnw S + 1) (qunt S b) ≤ h by omega)]; simp
    · rw [decide_eq_false c2, decide_eq_false (show ¬ max (qnw S + 1) (qunt S b) ≤ h by omega)]; simp
theorem last_mem {l : List Nat} {b : Nat} (h : l.getLast? = some b) : b ∈ l := by
  obtain ⟨n, hn⟩ := last_n h
  exact List.mem_of_getElem? (last_at h hn)

set_option maxHeartbeats 4000000 in
set_option maxRecDepth 100000 in
theorem mX1_endHolds {l : Launch} {D : ZD} {V : ZV} {kk x y yb yh rr bb al t d cap : Nat} {fb : Nat → Option Nat} {fh fr : Nat → Int32} {fB : Nat → Option Nat} {ba : Nat → Nat} {hc : Nat → Int32} {uc : Nat → Nat} {fa : Nat → Option Nat} {ma : Int32} {aa sl : Nat → Nat} {Lb : List Nat} {Ct : List (Nat × Nat)} {mb : Int32} {kc : Nat → List Nat} {st : Nat} {rch : Nat → Nat} {bx : Nat} {wt : Nat → Nat} {ins : Nat → Bool} {hld : Nat → Int32} {unt : Nat → Nat} {Y : YD} {ap : Nat} {ab hr ln : Nat → Nat} {sa : Nat → Int32} {mv : Int32} {nw : Nat} {lf : Int64} (hX : V x = some (.inr (0, [.ref y, .ref rr, .ref bb, .ref al, .ref t, .int (nI st), .int (nI bx), .int (nI (fC ins bx)), .int mv, .int (nI nw), .long lf]))) (hY : cY D V y yb yh rr fb fh fr ba bx st rch Y) (hB : cB D V bb fB ba bx wt ins hld unt hc uc) (hA : cA D V al d cap fa ma ba ap ab hr ln sa aa sl) (hT : cT V t Lb Ct mb kc ap hr ln sa aa sl) (hI : qI kk (qS st rch bx wt ins hld unt Y ap ab hr ln sa mv nw lf))  : ZM l D yX1_endHolds (ws_ yX1_endHolds cX1_endHolds 5 none) 1 0 0 eU V [.ref x] (fun r V' => ∃ hc2, V' x = some (.inr (0, [.ref y, .ref rr, .ref bb, .ref al, .ref t, .int (nI st), .int (nI bx), .int (nI (fC ins bx)), .int mv, .int (nI nw), .long lf])) ∧ cY D V' y yb yh rr fb fh fr ba bx st rch Y ∧ cB D V' bb fB ba bx wt ins (tHl bx nw hld unt 20) unt hc2 uc ∧ cA D V' al d cap fa ma ba ap ab hr ln sa aa sl ∧ cT V' t Lb Ct mb kc ap hr ln sa aa sl) zno_x := by
  refine z_enter (by decide +kernel) [(0, .ref x)] rfl (Nat.le_of_ble_eq_true rfl) (zcat_cons rfl zcat_nil) (fun Γ C hQ => ?_)
  have hst : st ≤ 4 := hI.1.1
  have hbx : bx ≤ 20 := hI.1.2.1
  have hrc : ∀ s, s < st → rch s ≤ 4 := fun s hs => (hI.1.2.2.1 s hs).2
  have hwt : ∀ b, b < bx → wt b < 1000 := fun b hb => by have h9 : wt b ≤ 30 := (hI.1.2.2.2 b hb).2; omega
  have hg : yGood st bx ins Y := hI.2.1.1
  have hht : ∀ s, s < st → (Y s).length ≤ rch s := hI.2.1.2.1
  have hf8 : fC ins bx ≤ 8 := hI.2.1.2.2
  have hu1 : ∀ b, unt b ≤ 1000 := hI.2.2.1.2.1
  have hhl : ∀ b, b < bx → hld b = nI 45 ∨ hld b = nI 112 ∨ hld b = nI 108 := hI.2.2.1.2.2
  have hap : ap ≤ 30 := hI.2.2.2.1.1
  have haa : ∀ a, a < ap → ab a < bx ∧ hr a ≤ 999 ∧ ln a < 3 ∧ (sa a = nI 98 ∨ sa a = nI 99 ∨ sa a = nI 103 ∨ sa a = nI 100 ∨ sa a = nI 109) := hI.2.2.2.1.2.1
  have hnw : nw ≤ 999 := hI.2.2.2.2
  have hY4 : ∀ s, (Y s).length ≤ 4 := hg.1.1
  have hmm : ∀ s, ∀ c ∈ Y s, c < bx := fun s c hc => (hg.2.2 s c hc).1
  refine z_aload_n C 0 rfl dX1_endHolds_0 rfl ?_
  refine z_get C k_Q hX 2 (by decide) rfl q187 dX1_endHolds_1 ?_
  refine z_astore_n C [(1, .ref bb), (0, .ref x)] dX1_endHolds_4 rfl (by decide) rfl ?_
  refine z_aload_n C 0 rfl dX1_endHolds_5 rfl ?_
  refine z_alen C 1 rfl hB.1 (n := 20) rfl dX1_endHolds_6 ?_
  refine z_istore_n C [(2, .int (nI 20)), (1, .ref bb), (0, .ref x)] dX1_endHolds_7 rfl (by decide) rfl ?_
  refine z_iconst C (v := (nI 0)) dX1_endHolds_8 rfl ?_
  refine z_istore_n C [(3, .int (nI 0)), (2, .int (nI 20)), (1, .ref bb), (0, .ref x)] dX1_endHolds_9 rfl (by decide) rfl ?_
  refine z_pick [(0, .ref x), (1, .ref bb), (2, .int (nI 20)), (3, .int (nI 0))] [3, 2, 1, 0] rfl ?_
  have loop1 : ∀ (n_loop1 : Nat) (V1 : ZV) (hc1 : Nat → Int32) (k : Nat), zUnc V V1 (fun z => ∃ b, b < bx ∧ z = ba b) → cB D V1 bb fB ba bx wt ins (tHl bx nw hld unt k) unt hc1 uc → k ≤ 20 → 20 - k < n_loop1 → ZW l D Γ (zr 1 0 0) 10 [(0, .ref x), (1, .ref bb), (2, .int (nI 20)), (3, .int (nI k))] [] V1 0 0 := by
    intro n_loop1
    induction n_loop1 with
    | zero => intro V1 hc1 k _ _ _ hm; exact absurd hm (Nat.not_lt_zero _)
    | succ n_loop1 ih_loop1 =>
      intro V1 hc1 k hloop1_0 hloop1_1 hloop1_2 hm
      refine z_iload_n C 3 rfl dX1_endHolds_10 rfl ?_
      refine z_iload_n C 2 rfl dX1_endHolds_11 rfl ?_
      refine z_icmp_geN C 60 (by omega) (by omega) dX1_endHolds_12 (by decide) (fun c12 => ?_) (fun c12 => ?_)
      · skip
        have hk20 : k = 20 := by omega
        exact z_vret C hQ () rfl ⟨_, (hloop1_0.get (fun q => bx_k hB.2.2.1 (n := 0) (by decide) _ _ hX q rfl) hX), (hY.mv hloop1_0 (bx_k hB.2.2.1 (n := 1) (by decide))), by rw [hk20] at hloop1_1; exact hloop1_1, (hA.mv hloop1_0 (bx_k hB.2.2.1 (n := 3) (by decide))), (hT.mv hloop1_0 (bx_k hB.2.2.1 (n := 4) (by decide)))⟩ (by omega) (by omega) dX1_endHolds_60
      · skip
        by_cases hin : k < bx ∧ ins k = true
        · skip
          obtain ⟨hbb, hbi⟩ := hin
          have hhc := hloop1_1.2.2.2 k hbb hbi
          rw [tHl_k] at hhc
          have huk := hu1 k
          have huck := hhc.2
          refine z_aload_n C 1 rfl dX1_endHolds_15 rfl ?_
          refine z_iload_n C 3 rfl dX1_endHolds_16 rfl ?_
          refine z_aaldR C 1 (by decide) hloop1_1.1 (by omega) (by omega) (by rw [hloop1_1.2.1 k (by omega), if_pos ⟨hbb, hbi⟩]) dX1_endHolds_17 ?_
          refine z_astore C [(4, .ref (ba k)), (0, .ref x), (1, .ref bb), (2, .int (nI 20)), (3, .int (nI k))] dX1_endHolds_18 (by decide) rfl ?_
          refine z_aload C 0 rfl dX1_endHolds_20 ?_
          refine z_ifnull_r C dX1_endHolds_22 ?_
          refine z_aload C 0 rfl dX1_endHolds_25 ?_
          refine z_getN C k_B (hloop1_1.2.2.1 k hbb) 2 (by decide) rfl q418 dX1_endHolds_27 ?_
          refine z_bipush C (v := (nI 45)) dX1_endHolds_30 rfl ?_
          refine z_icmp_eq C 54 dX1_endHolds_32 (by decide) (fun c32 => ?_) (fun c32 => ?_)
          · skip
            refine z_iincN C 4 1 [(3, .int (nI (k + 1))), (4, .ref (ba k)), (0, .ref x), (1, .ref bb), (2, .int (nI 20))] rfl dX1_endHolds_54 rfl (by decide) rfl ?_
            refine z_goto C 10 dX1_endHolds_57 (by decide) ?_
            refine z_pick [(0, .ref x), (1, .ref bb), (2, .int (nI 20)), (3, .int (nI (k + 1)))] [2, 3, 4, 0] rfl ?_
            have hce : ∀ b, b < bx → ins b = true → (tHl bx nw hld unt k) b = (tHl bx nw hld unt (k + 1)) b := fun b hb hi => by
              by_cases e : b = k
              · rw [e, tHl_k, tHl_k1, ← hhc.1, c32]; split <;> rfl
              · rw [tHl_ne e]
            exact ih_loop1 V1 _ (k + 1) hloop1_0 (hloop1_1.cg hce) (by omega) (by omega)
          · skip
            refine z_aload C 0 rfl dX1_endHolds_35 ?_
            refine z_getN C k_B (hloop1_1.2.2.1 k hbb) 3 (by decide) rfl q420 dX1_endHolds_37 ?_
            refine z_aload_n C 1 rfl dX1_endHolds_40 rfl ?_
            refine z_get C k_Q (hloop1_0.get (fun q => bx_k hB.2.2.1 (n := 0) (by decide) _ _ hX q rfl) hX) 9 (by decide) rfl q194 dX1_endHolds_41 ?_
            refine z_icmp_neN C 54 (by omega) (by omega) dX1_endHolds_44 (by decide) (fun c44 => ?_) (fun c44 => ?_)
            · skip
              refine z_iincN C 4 1 [(3, .int (nI (k + 1))), (4, .ref (ba k)), (0, .ref x), (1, .ref bb), (2, .int (nI 20))] rfl dX1_endHolds_54 rfl (by decide) rfl ?_
              refine z_goto C 10 dX1_endHolds_57 (by decide) ?_
              refine z_pick [(0, .ref x), (1, .ref bb), (2, .int (nI 20)), (3, .int (nI (k + 1)))] [2, 3, 4, 0] rfl ?_
              have hce : ∀ b, b < bx → ins b = true → (tHl bx nw hld unt k) b = (tHl bx nw hld unt (k + 1)) b := fun b hb hi => by
                by_cases e : b = k
                · rw [e, tHl_k, tHl_k1, if_neg (by rintro ⟨q1, q2⟩; have q3 := c44; omega)]
                · rw [tHl_ne e]
              exact ih_loop1 V1 _ (k + 1) hloop1_0 (hloop1_1.cg hce) (by omega) (by omega)
            · skip
              refine z_aload C 0 rfl dX1_endHolds_47 ?_
              refine z_bipush C (v := (nI 45)) dX1_endHolds_49 rfl ?_
              refine z_putN C k_B (hloop1_1.2.2.1 k hbb) 2 (by decide) [.int (nI k), .int (nI (wt k)), .int (nI 45), .int (nI (uc k))] rfl (Nat.le_of_ble_eq_true rfl) (by decide) (by decide) rfl q418 dX1_endHolds_51 (z_nV (fun V2 hV3 => ?_))
              have hY4 := (hY.mv hloop1_0 (bx_k hB.2.2.1 (n := 1) (by decide))).mv (up_u hV3) (up_k (k := 2) (hloop1_1.2.2.1 k hbb) rfl (by decide))
              have hB5 := cB.ho hloop1_1 hbx hbb hV3
              have hA6 := (hA.mv hloop1_0 (bx_k hB.2.2.1 (n := 3) (by decide))).mv (up_u hV3) (up_k (k := 2) (hloop1_1.2.2.1 k hbb) rfl (by decide))
              have hT7 := (hT.mv hloop1_0 (bx_k hB.2.2.1 (n := 4) (by decide))).mv (up_u hV3) (up_k (k := 2) (hloop1_1.2.2.1 k hbb) rfl (by decide))
              have g8 := zup hV3 (zne_cc (hloop1_0.get (fun q => bx_k hB.2.2.1 (n := 0) (by decide) _ _ hX q rfl) hX) (hloop1_1.2.2.1 k hbb) (by decide)) (hloop1_0.get (fun q => bx_k hB.2.2.1 (n := 0) (by decide) _ _ hX q rfl) hX)
              have g9 : V2 (ba k) = some (.inr (3, [.int (nI k), .int (nI (wt k)), .int (nI 45), .int (nI (uc k))])) := zself hV3
              refine z_iincN C 4 1 [(3, .int (nI (k + 1))), (4, .ref (ba k)), (0, .ref x), (1, .ref bb), (2, .int (nI 20))] rfl dX1_endHolds_54 rfl (by decide) rfl ?_
              refine z_goto C 10 dX1_endHolds_57 (by decide) ?_
              refine z_pick [(0, .ref x), (1, .ref bb), (2, .int (nI 20)), (3, .int (nI (k + 1)))] [2, 3, 4, 0] rfl ?_
              have hce : ∀ b, b < bx → ins b = true → va_up (tHl bx nw hld unt k) k (nI 45) b = (tHl bx nw hld unt (k + 1)) b := fun b hb hi => by
                by_cases e : b = k
                · rw [e, zvs, tHl_k1, if_pos ⟨hbb, by omega⟩]
                · rw [zvn e, tHl_ne e]
              exact ih_loop1 V2 _ (k + 1) (zUnc.up (S := (fun z => ∃ b, b < bx ∧ z = ba b)) hloop1_0 hV3 ⟨k, hbb, rfl⟩) (hB5.cg hce) (by omega) (by omega)
        · skip
          skip
          refine z_aload_n C 1 rfl dX1_endHolds_15 rfl ?_
          refine z_iload_n C 3 rfl dX1_endHolds_16 rfl ?_
          refine z_aaldN C 1 (by decide) hloop1_1.1 (by omega) (by omega) (by rw [hloop1_1.2.1 k (by omega), if_neg hin]) dX1_endHolds_17 ?_
          refine z_astoreQ C (r := none) [(4, .null), (0, .ref x), (1, .ref bb), (2, .int (nI 20)), (3, .int (nI k))] dX1_endHolds_18 (by decide) rfl ?_
          refine z_aloadQ C 0 (r := none) rfl dX1_endHolds_20 ?_
          refine z_ifnull_n C 54 dX1_endHolds_22 (by decide) ?_
          refine z_iincN C 4 1 [(3, .int (nI (k + 1))), (4, .null), (0, .ref x), (1, .ref bb), (2, .int (nI 20))] rfl dX1_endHolds_54 rfl (by decide) rfl ?_
          refine z_goto C 10 dX1_endHolds_57 (by decide) ?_
          refine z_pick [(0, .ref x), (1, .ref bb), (2, .int (nI 20)), (3, .int (nI (k + 1)))] [2, 3, 4, 0] rfl ?_
          have hce : ∀ b, b < bx → ins b = true → (tHl bx nw hld unt k) b = (tHl bx nw hld unt (k + 1)) b := fun b hb hi => by
            by_cases e : b = k
            · exact absurd ⟨by rw [← e]; exact hb, by rw [← e]; exact hi⟩ hin
            · rw [tHl_ne e]
          exact ih_loop1 V1 _ (k + 1) hloop1_0 (hloop1_1.cg hce) (by omega) (by omega)
  exact loop1 _ V hc 0 zUnc.rf (by rw [tHl_0]; exact hB) (by omega) (Nat.lt_succ_self _)
set_option maxHeartbeats 4000000 in
set_option maxRecDepth 100000 in
theorem mX1_make {l : Launch} {D : ZD} {V : ZV} {kk x y yb yh rr bb al t d cap : Nat} {fb : Nat → Option Nat} {fh fr : Nat → Int32} {fB : Nat → Option Nat} {ba : Nat → Nat} {hc : Nat → Int32} {uc : Nat → Nat} {fa : Nat → Option Nat} {ma : Int32} {aa sl : Nat → Nat} {Lb : List Nat} {Ct : List (Nat × Nat)} {mb : Int32} {kc : Nat → List Nat} {st : Nat} {rch : Nat → Nat} {bx : Nat} {wt : Nat → Nat} {ins : Nat → Bool} {hld : Nat → Int32} {unt : Nat → Nat} {Y : YD} {ap : Nat} {ab hr ln : Nat → Nat} {sa : Nat → Int32} {mv : Int32} {nw : Nat} {lf : Int64} (hX : V x = some (.inr (0, [.ref y, .ref rr, .ref bb, .ref al, .ref t, .int (nI st), .int (nI bx), .int (nI (fC ins bx)), .int mv, .int (nI nw), .long lf]))) (hY : cY D V y yb yh rr fb fh fr ba bx st rch Y) (hB : cB D V bb fB ba bx wt ins hld unt hc uc) (hA : cA D V al d cap fa ma ba ap ab hr ln sa aa sl) (hT : cT V t Lb Ct mb kc ap hr ln sa aa sl) (hI : qI kk (qS st rch bx wt ins hld unt Y ap ab hr ln sa mv nw lf)) {p y2 rbx rst al2 : Nat} {ms : List Nat} {fbx fst : Nat → Int32} (hp : hPl D V p y2 rbx rst al2 ms fbx fst) (hny : rbx ≠ yh ∧ rst ≠ yh) {tt : Nat} {Z : YD} (hZ : yRun (qL (qS st rch bx wt ins hld unt Y ap ab hr ln sa mv nw lf) tt) Y ms = some Z) (hms : ∀ q ∈ ms, q < 80) (hml : ms.length ≤ 20) : ZM l D yX1_make (ws_ yX1_make cX1_make 3 (some .int)) 4 0 0 eN V [.ref x, .ref p] (fun r V' => r = ms.length ∧ ∃ fb2 fh2, V' x = some (.inr (0, [.ref y, .ref rr, .ref bb, .ref al, .ref t, .int (nI st), .int (nI bx), .int (nI (fC ins bx)), .int (mv + nI ms.length), .int (nI nw), .long lf])) ∧ cY D V' y yb yh rr fb2 fh2 fr ba bx st rch Z ∧ cB D V' bb fB ba bx wt ins hld unt hc uc ∧ cA D V' al d cap fa ma ba ap ab hr ln sa aa sl ∧ cT V' t Lb Ct mb kc ap hr ln sa aa sl ∧ zUnc V V' (fun z => z = x ∨ z = yb ∨ z = yh)) zno_x := by
  refine z_enter (by decide +kernel) [(0, .ref x), (1, .ref p)] rfl (Nat.le_of_ble_eq_true rfl) (zcat_cons rfl (zcat_cons rfl zcat_nil)) (fun Γ C hQ => ?_)
  have hst : st ≤ 4 := hI.1.1
  have hbx : bx ≤ 20 := hI.1.2.1
  have hrc : ∀ s, s < st → rch s ≤ 4 := fun s hs => (hI.1.2.2.1 s hs).2
  have hwt : ∀ b, b < bx → wt b < 1000 := fun b hb => by have h9 : wt b ≤ 30 := (hI.1.2.2.2 b hb).2; omega
  have hg : yGood st bx ins Y := hI.2.1.1
  have hht : ∀ s, s < st → (Y s).length ≤ rch s := hI.2.1.2.1
  have hf8 : fC ins bx ≤ 8 := hI.2.1.2.2
  have hu1 : ∀ b, unt b ≤ 1000 := hI.2.2.1.2.1
  have hhl : ∀ b, b < bx → hld b = nI 45 ∨ hld b = nI 112 ∨ hld b = nI 108 := hI.2.2.1.2.2
  have hap : ap ≤ 30 := hI.2.2.2.1.1
  have haa : ∀ a, a < ap → ab a < bx ∧ hr a ≤ 999 ∧ ln a < 3 ∧ (sa a = nI 98 ∨ sa a = nI 99 ∨ sa a = nI 103 ∨ sa a = nI 100 ∨ sa a = nI 109) := hI.2.2.2.1.2.1
  have hnw : nw ≤ 999 := hI.2.2.2.2
  have hY4 : ∀ s, (Y s).length ≤ 4 := hg.1.1
  have hmm : ∀ s, ∀ c ∈ Y s, c < bx := fun s c hc => (hg.2.2 s c hc).1
  refine z_iconst C (v := (nI 0)) dX1_make_0 rfl ?_
  refine z_istore_n C [(2, .int (nI 0)), (0, .ref x), (1, .ref p)] dX1_make_1 rfl (by decide) rfl ?_
  refine z_pick [(0, .ref x), (1, .ref p), (2, .int (nI 0))] [1, 2, 0] rfl ?_
  have loop1 : ∀ (n_loop1 : Nat) (V1 : ZV) (fb1 : Nat → Option Nat) (fh1 : Nat → Int32) (Y1 : YD) (k : Nat), zUnc V V1 (fun z => z = x ∨ z = yb ∨ z = yh) → V1 x = some (.inr (0, [.ref y, .ref rr, .ref bb, .ref al, .ref t, .int (nI st), .int (nI bx), .int (nI (fC ins bx)), .int (mv + nI k), .int (nI nw), .long lf])) → cY D V1 y yb yh rr fb1 fh1 fr ba bx st rch Y1 → cB D V1 bb fB ba bx wt ins hld unt hc uc → cA D V1 al d cap fa ma ba ap ab hr ln sa aa sl → cT V1 t Lb Ct mb kc ap hr ln sa aa sl → yRun (qL (qS st rch bx wt ins hld unt Y ap ab hr ln sa mv nw lf) tt) Y (ms.take k) = some Y1 → k ≤ ms.length → ms.length - k < n_loop1 → ZW l D Γ (zr 4 0 0) 2 [(0, .ref x), (1, .ref p), (2, .int (nI k))] [] V1 0 0 := by
    intro n_loop1
    induction n_loop1 with
    | zero => intro V1 fb1 fh1 Y1 k _ _ _ _ _ _ _ _ hm; exact absurd hm (Nat.not_lt_zero _)
    | succ n_loop1 ih_loop1 =>
      intro V1 fb1 fh1 Y1 k hloop1_0 hloop1_1 hloop1_2 hloop1_3 hloop1_4 hloop1_5 hloop1_6 hloop1_7 hm
      have gp := hloop1_0.get (by rintro (q | q | q); exact zne_cc hp.1 hX (by decide) q; exact zne_oa hp.1 hY.1.2.1 q; exact zne_oa hp.1 hY.1.2.2 q) hp.1
      have gb := hloop1_0.get (by rintro (q | q | q); exact zne_ao hp.2.1 hX q; exact zne_k hp.2.1 hY.1.2.1 (by simp) q; exact hny.1 q) hp.2.1
      have gs := hloop1_0.get (by rintro (q | q | q); exact zne_ao hp.2.2.1 hX q; exact zne_k hp.2.2.1 hY.1.2.1 (by simp) q; exact hny.2 q) hp.2.2.1
      refine z_iload_n C 2 rfl dX1_make_2 rfl ?_
      refine z_aload_n C 1 rfl dX1_make_3 rfl ?_
      refine z_getN C k_P gp 1 (by decide) rfl q849 dX1_make_4 ?_
      refine z_alen C 0 rfl gb (n := ms.length) rfl dX1_make_7 ?_
      refine z_icmp_geN C 38 (by omega) (by omega) dX1_make_8 (by decide) (fun c8 => ?_) (fun c8 => ?_)
      · skip
        have hkl : k = ms.length := by omega
        rw [hkl] at hloop1_1 hloop1_6
        rw [List.take_length, hZ] at hloop1_6
        cases hloop1_6
        refine z_aload_n C 1 rfl dX1_make_38 rfl ?_
        refine z_getN C k_P gp 1 (by decide) rfl q849 dX1_make_39 ?_
        refine z_alen C 0 rfl gb (n := ms.length) rfl dX1_make_42 ?_
        exact z_iret C hQ ms.length rfl ⟨rfl, _, _, hloop1_1, hloop1_2, hloop1_3, hloop1_4, hloop1_5, hloop1_0⟩ (by omega) (by omega) dX1_make_43
      · skip
        obtain ⟨q, hq⟩ : ∃ q, ms[k]? = some q := ⟨_, List.getElem?_eq_getElem (by omega)⟩
        have hcn := hp.2.2.2 k q hq
        have hq80 := hms q (List.mem_of_getElem? hq)
        obtain ⟨W, hW1, hW2, hW3⟩ := yRun_take hZ hq
        rw [hloop1_6] at hW1
        cases hW1
        have hg1 : yGood st bx ins Y1 := yGood_run hrc _ hg hloop1_6
        have hI1 : qI kk (qS st rch bx wt ins hld unt Y1 ap ab hr ln sa (mv + nI k) nw lf) := qI_mv (qI_yd hI hg1 (yLen_run _ hht hloop1_6))
        obtain ⟨q1, q2, q3, q4⟩ := yLeg_spec hW2
        obtain ⟨k1, k2, k3, k4⟩ := yCan_spec q4
        have hbm := last_mem k1
        have hbb : q / 4 < bx := (hg1.2.2 _ _ hbm).1
        have hr4 := hrc _ q2
        have q5 : ins (q / 4) = true := q3
        refine z_aload_n C 0 rfl dX1_make_11 rfl ?_
        refine z_aload_n C 0 rfl dX1_make_12 rfl ?_
        refine z_get C k_Q hloop1_1 2 (by decide) rfl q187 dX1_make_13 ?_
        refine z_aload_n C 1 rfl dX1_make_16 rfl ?_
        refine z_getN C k_P gp 1 (by decide) rfl q849 dX1_make_17 ?_
        refine z_iload_n C 2 rfl dX1_make_20 rfl ?_
        refine z_iald C gb (by omega) (by omega) (v := (nI (q / 4))) hcn.1 dX1_make_21 ?_
        refine z_aaldR C 1 (by decide) hloop1_3.1 (by omega) (by omega) (by rw [hloop1_3.2.1 _ (by omega), if_pos ⟨hbb, q5⟩]) dX1_make_22 ?_
        refine z_aload_n C 1 rfl dX1_make_23 rfl ?_
        refine z_getN C k_P gp 2 (by decide) rfl q852 dX1_make_24 ?_
        refine z_iload_n C 2 rfl dX1_make_27 rfl ?_
        refine z_iald C gs (by omega) (by omega) (v := (nI (q % 4))) hcn.2 dX1_make_28 ?_
        refine z_callV C k_Q hloop1_1 (As := [.ref (ba (q / 4)), .int (nI (q % 4))]) (mX1_moveTo hloop1_1 hloop1_2 hloop1_3 hloop1_4 hloop1_5 hI1 hbb q5 k1 q2 k3 (by have h9 := k4; show (Y1 (q % 4)).length < 4; have h8 : (Y1 (q % 4)).length < rch (q % 4) := k4; omega)) (lw_V q780 q782 qs11 q58 q783) rfl hd_X1_moveTo rfl (Nat.le_of_ble_eq_true rfl) (by decide) (by decide) (by omega) (by omega) rfl dX1_make_29 (fun _ _ h => h.elim) (fun r2 V3 hP4 => ?_)
        obtain ⟨fb2, fh2, hX9, hY9, hB9, hA9, hT9, hU9⟩ := hP4
        refine z_st (st' := []) rfl ?_
        have hU8 := zUnc.tr (S := (fun z => z = x ∨ z = yb ∨ z = yh)) hloop1_0 hU9 (fun _ h => Or.inl h)
        refine z_iincN C 2 1 [(2, .int (nI (k + 1))), (0, .ref x), (1, .ref p)] rfl dX1_make_32 rfl (by decide) rfl ?_
        refine z_goto C 2 dX1_make_35 (by decide) ?_
        refine z_pick [(0, .ref x), (1, .ref p), (2, .int (nI (k + 1)))] [1, 2, 0] rfl ?_
        rw [Int32.add_assoc, show nI k + nI 1 = nI (k + 1) from (nI_add1 k).symm] at hX9
        exact ih_loop1 V3 fb2 fh2 (yGo Y1 q) (k + 1) hU8 hX9 hY9 hB9 hA9 hT9 hW3 (by omega) (by omega)
  exact loop1 _ V fb fh Y 0 zUnc.rf (by rw [show mv + nI 0 = mv from Int32.add_zero mv]; exact hX) hY hB hA hT rfl (Nat.zero_le _) (Nat.lt_succ_self _)
set_option maxHeartbeats 4000000 in
set_option maxRecDepth 100000 in
theorem mX1_firstHour {l : Launch} {D : ZD} {V : ZV} {x kk : Nat} {st : Nat} {rch : Nat → Nat} {bx : Nat} {wt : Nat → Nat} {ins : Nat → Bool} {hld : Nat → Int32} {unt : Nat → Nat} {Y : YD} {ap : Nat} {ab hr ln : Nat → Nat} {sa : Nat → Int32} {mv : Int32} {nw : Nat} {lf : Int64} (hC : cR D V x (qS st rch bx wt ins hld unt Y ap ab hr ln sa mv nw lf)) (hI : qI kk (qS st rch bx wt ins hld unt Y ap ab hr ln sa mv nw lf)) {v1 : Int32} : ZM l D yX1_firstHour (ws_ yX1_firstHour cX1_firstHour 4 (some .int)) 8 3002 6012 eI V [.ref x, .int v1] (fun r V' => (oFirst (qS st rch bx wt ins hld unt Y ap ab hr ln sa mv nw lf) (vN v1)).1 = 0 ∧ r = (oFirst (qS st rch bx wt ins hld unt Y ap ab hr ln sa mv nw lf) (vN v1)).2.1 ∧ cR D V' x (oFirst (qS st rch bx wt ins hld unt Y ap ab hr ln sa mv nw lf) (vN v1)).2.2) (fun E V' => ∃ k, (["java/lang/IndexOutOfBoundsException", "java/util/NoSuchElementException"] : List String)[k]? = some E ∧ (oFirst (qS st rch bx wt ins hld unt Y ap ab hr ln sa mv nw lf) (vN v1)).1 = k + 1 ∧ cR D V' x (qS st rch bx wt ins hld unt Y ap ab hr ln sa mv nw lf)) := by
  refine z_enter (by decide +kernel) [(0, .ref x), (1, .int v1)] rfl (Nat.le_of_ble_eq_true rfl) (zcat_cons rfl (zcat_cons rfl zcat_nil)) (fun Γ C hQ => ?_)
  have hC0 := hC
  obtain ⟨y, yb, yh, rr, bb, al, t, d, cap, fb, fh, fr, fB, ba, hc, uc, fa, ma, aa, sl, Lb, Ct, mb, kc, hX, hY, hB, hA, hT⟩ := hC
  have hX : V x = some (.inr (0, [.ref y, .ref rr, .ref bb, .ref al, .ref t, .int (nI st), .int (nI bx), .int (nI (fC ins bx)), .int mv, .int (nI nw), .long lf])) := hX
  have hY : cY D V y yb yh rr fb fh fr ba bx st rch Y := hY
  have hB : cB D V bb fB ba bx wt ins hld unt hc uc := hB
  have hA : cA D V al d cap fa ma ba ap ab hr ln sa aa sl := hA
  have hT : cT V t Lb Ct mb kc ap hr ln sa aa sl := hT
  have hst : st ≤ 4 := hI.1.1
  have hbx : bx ≤ 20 := hI.1.2.1
  have hrc : ∀ s, s < st → rch s ≤ 4 := fun s hs => (hI.1.2.2.1 s hs).2
  have hwt : ∀ b, b < bx → wt b < 1000 := fun b hb => by have h9 : wt b ≤ 30 := (hI.1.2.2.2 b hb).2; omega
  have hg : yGood st bx ins Y := hI.2.1.1
  have hht : ∀ s, s < st → (Y s).length ≤ rch s := hI.2.1.2.1
  have hf8 : fC ins bx ≤ 8 := hI.2.1.2.2
  have hu1 : ∀ b, unt b ≤ 1000 := hI.2.2.1.2.1
  have hhl : ∀ b, b < bx → hld b = nI 45 ∨ hld b = nI 112 ∨ hld b = nI 108 := hI.2.2.1.2.2
  have hap : ap ≤ 30 := hI.2.2.2.1.1
  have haa : ∀ a, a < ap → ab a < bx ∧ hr a ≤ 999 ∧ ln a < 3 ∧ (sa a = nI 98 ∨ sa a = nI 99 ∨ sa a = nI 103 ∨ sa a = nI 100 ∨ sa a = nI 109) := hI.2.2.2.1.2.1
  have hnw : nw ≤ 999 := hI.2.2.2.2
  have hY4 : ∀ s, (Y s).length ≤ 4 := hg.1.1
  have hmm : ∀ s, ∀ c ∈ Y s, c < bx := fun s c hc => (hg.2.2 s c hc).1
  refine z_aload_n C 0 rfl dX1_firstHour_0 rfl ?_
  refine z_iload_n C 1 rfl dX1_firstHour_1 rfl ?_
  refine z_callV C k_Q hX (As := [.int v1]) (mX1_boxWith hX hY hB hA hT hI) (lw_V q471 q473 qs3 q58 q474) rfl hd_X1_boxWith rfl (Nat.le_of_ble_eq_true rfl) (by decide) (by decide) (by omega) (by omega) rfl dX1_firstHour_2 (fun E V9 hE9 => ?_) (fun r1 V2 hP3 => ?_)
  · skip
    obtain ⟨rfl, rfl, hf4⟩ := hE9
    exact z_out C hQ (fun _ h => nomatch h) ⟨0, rfl, by rw [oFirst_1 hf4], hC0⟩ (by omega) (by omega)
  · skip
    obtain ⟨e9, hq9, e8⟩ := hP3
    rw [e9, e8]
    refine z_st (st' := [.ref (ba (vN v1))]) rfl ?_
    obtain ⟨hbb, hbi⟩ := qIs_t (S := (qS st rch bx wt ins hld unt Y ap ab hr ln sa mv nw lf)) hq9
    have hbb : vN v1 < bx := hbb
    have hbi : ins (vN v1) = true := hbi
    have hhc := hB.2.2.2 _ hbb hbi
    have hfs : fSt (qS st rch bx wt ins hld unt Y ap ab hr ln sa mv nw lf) (vN v1) = if hld (vN v1) = nI 45 then nw + 1 else max (nw + 1) (unt (vN v1)) := rfl
    have huv := hu1 (vN v1)
    have hucv := hhc.2
    refine z_astore_n C [(2, .ref (ba (vN v1))), (0, .ref x), (1, .int v1)] dX1_firstHour_5 rfl (by decide) rfl ?_
    refine z_aload_n C 0 rfl dX1_firstHour_6 rfl ?_
    refine z_getN C k_B (hB.2.2.1 (vN v1) hbb) 2 (by decide) rfl q418 dX1_firstHour_7 ?_
    refine z_bipush C (v := (nI 45)) dX1_firstHour_10 rfl ?_
    refine z_icmp_ne C 24 dX1_firstHour_12 (by decide) (fun c12 => ?_) (fun c12 => ?_)
    · skip
      refine z_aload_n C 1 rfl dX1_firstHour_24 rfl ?_
      refine z_get C k_Q hX 9 (by decide) rfl q194 dX1_firstHour_25 ?_
      refine z_iconst C (v := (nI 1)) dX1_firstHour_28 rfl ?_
      refine z_iaddN C dX1_firstHour_29 ?_
      refine z_aload_n C 0 rfl dX1_firstHour_30 rfl ?_
      refine z_getN C k_B (hB.2.2.1 (vN v1) hbb) 3 (by decide) rfl q420 dX1_firstHour_31 ?_
      refine z_mmax C (by omega) (by omega) q1274 (Nat.le_of_ble_eq_true rfl) (Nat.le_of_ble_eq_true rfl) (by simp only [zr]; omega) (by simp only [zr]; omega) dX1_firstHour_34 ?_
      refine z_istore_n C [(3, .int (nI (max (nw + 1) (uc (vN v1))))), (2, .ref (ba (vN v1))), (0, .ref x), (1, .int v1)] dX1_firstHour_37 rfl (by decide) rfl ?_
      have hst9 : max (nw + 1) (uc (vN v1)) = fSt (qS st rch bx wt ins hld unt Y ap ab hr ln sa mv nw lf) (vN v1) := by rw [hfs, if_neg (fun h => c12 (hhc.1.trans h)), hhc.2]
      have e5 : (.int (nI (max (nw + 1) (uc (vN v1)))) : Value) = .int (nI (fSt (qS st rch bx wt ins hld unt Y ap ab hr ln sa mv nw lf) (vN v1))) := (by rw [hst9])
      refine z_lv (lv' := [(3, .int (nI (fSt (qS st rch bx wt ins hld unt Y ap ab hr ln sa mv nw lf) (vN v1)))), (2, .ref (ba (vN v1))), (0, .ref x), (1, .int v1)]) (by rw [e5]) ?_
      have hsb : nw + 1 ≤ fSt (qS st rch bx wt ins hld unt Y ap ab hr ln sa mv nw lf) (vN v1) ∧ fSt (qS st rch bx wt ins hld unt Y ap ab hr ln sa mv nw lf) (vN v1) ≤ 1000 := by rw [← hst9]; omega
      refine z_pick [(0, .ref x), (1, .int v1), (2, .ref (ba (vN v1))), (3, .int (nI (fSt (qS st rch bx wt ins hld unt Y ap ab hr ln sa mv nw lf) (vN v1))))] [2, 3, 1, 0] rfl ?_
      have loop6 : ∀ (n_loop6 : Nat) (V1 : ZV) (h1 k1 k2 : Nat), zUnc V V1 (fun _ => False) → (∀ j, j < h1 → (fun h => decide (nw < h) && (qFree (qS st rch bx wt ins hld unt Y ap ab hr ln sa mv nw lf) h && !qHeld (qS st rch bx wt ins hld unt Y ap ab hr ln sa mv nw lf) (vN v1) h)) j = false) → fSt (qS st rch bx wt ins hld unt Y ap ab hr ln sa mv nw lf) (vN v1) ≤ h1 → h1 ≤ 1000 → k1 ≤ 1 + 3 * h1 → k2 ≤ 6 + 6 * h1 → 1000 - h1 < n_loop6 → ZW l D Γ (zr 8 3002 6012) 38 [(0, .ref x), (1, .int v1), (2, .ref (ba (vN v1))), (3, .int (nI h1))] [] V1 k1 k2 := by
        intro n_loop6
        induction n_loop6 with
        | zero => intro V1 h1 k1 k2 _ _ _ _ _ _ hm; exact absurd hm (Nat.not_lt_zero _)
        | succ n_loop6 ih_loop6 =>
          intro V1 h1 k1 k2 hloop6_0 hloop6_1 hloop6_2 hloop6_3 hloop6_4 hloop6_5 hm
          refine z_iload_n C 3 rfl dX1_firstHour_38 rfl ?_
          refine z_sipush C (v := (nI 999)) dX1_firstHour_39 rfl ?_
          refine z_icmp_gtN C 59 (by omega) (by omega) dX1_firstHour_42 (by decide) (fun c42 => ?_) (fun c42 => ?_)
          · skip
            have hnone : qFirst (qS st rch bx wt ins hld unt Y ap ab hr ln sa mv nw lf) (vN v1) = none := fF_no (fun j hj => by
              show (fun h => decide (nw < h) && (qFree (qS st rch bx wt ins hld unt Y ap ab hr ln sa mv nw lf) h && !qHeld (qS st rch bx wt ins hld unt Y ap ab hr ln sa mv nw lf) (vN v1) h)) j = false
              by_cases c9 : j < h1
              · exact hloop6_1 j c9
              · omega)
            refine z_iload_n C 3 rfl dX1_firstHour_59 rfl ?_
            refine z_sipush C (v := (nI 999)) dX1_firstHour_60 rfl ?_
            refine z_icmp_gtN C 70 (by omega) (by omega) dX1_firstHour_63 (by decide) (fun c63 => ?_) (fun c63 => ?_)
            · skip
              refine z_iconst C (v := (nI 0)) dX1_firstHour_70 rfl ?_
              refine z_st (st' := [.int (zb false)]) rfl ?_
              refine z_callS C (As := [.int (zb false)]) (mX1_checkElement) (lw_S q525 q526 q58 q527) hd_X1_checkElement rfl (Nat.le_of_ble_eq_true rfl) (by decide) (by decide) (by omega) (by omega) rfl dX1_firstHour_71 (fun E V9 hE9 => ?_) (fun r7 V8 hP9 => ?_)
              · skip
                obtain ⟨rfl, rfl, hf10⟩ := hE9
                exact z_out C hQ (fun _ h => nomatch h) ⟨1, rfl, by rw [oFirst_2 hq9 hnone], (show cR D _ x (qS st rch bx wt ins hld unt Y ap ab hr ln sa mv nw lf) from ⟨_, _, _, _, _, _, _, _, _, _, _, _, _, _, _, _, _, _, _, _, _, _, _, _, (hloop6_0.get (fun h => h) hX), (hY.mv hloop6_0 no_k), (hB.mv hloop6_0 no_k), (hA.mv hloop6_0 no_k), (hT.mv hloop6_0 no_k)⟩)⟩ (by omega) (by omega)
              · skip
                obtain ⟨-, hb⟩ := hP9
                cases hb
            · skip
              exfalso; omega
          · skip
            have hh9 : h1 < 1000 := by omega
            refine z_aload_n C 0 rfl dX1_firstHour_45 rfl ?_
            refine z_iload_n C 3 rfl dX1_firstHour_46 rfl ?_
            refine z_callV C k_Q (hloop6_0.get (fun h => h) hX) (As := [.int (nI h1)]) (mX1_isFree (hloop6_0.get (fun h => h) hX) (hY.mv hloop6_0 no_k) (hB.mv hloop6_0 no_k) (hA.mv hloop6_0 no_k) (hT.mv hloop6_0 no_k) hI hh9) (lw_V q1275 q1277 qs27 q58 q1278) rfl hd_X1_isFree rfl (Nat.le_of_ble_eq_true rfl) (by decide) (by decide) (by omega) (by omega) rfl dX1_firstHour_47 (fun _ _ h => h.elim) (fun r11 V12 hP13 => ?_)
            obtain ⟨hu9, hf9⟩ := hP13
            rw [hf9]
            refine z_st (st' := [.int (zb (qFree (qS st rch bx wt ins hld unt Y ap ab hr ln sa mv nw lf) h1))]) rfl ?_
            have hun := zUnc.tr hloop6_0 hu9 (fun _ h => h.elim)
            refine z_if_neB C 59 dX1_firstHour_50 (by decide) (fun c50 => ?_) (fun c50 => ?_)
            · skip
              have hsome : qFirst (qS st rch bx wt ins hld unt Y ap ab hr ln sa mv nw lf) (vN v1) = some h1 := fF_at (by show (fun h => decide (nw < h) && (qFree (qS st rch bx wt ins hld unt Y ap ab hr ln sa mv nw lf) h && !qHeld (qS st rch bx wt ins hld unt Y ap ab hr ln sa mv nw lf) (vN v1) h)) h1 = true; rw [show (fun h => decide (nw < h) && (qFree (qS st rch bx wt ins hld unt Y ap ab hr ln sa mv nw lf) h && !qHeld (qS st rch bx wt ins hld unt Y ap ab hr ln sa mv nw lf) (vN v1) h)) h1 = _ from fSt_p (S := (qS st rch bx wt ins hld unt Y ap ab hr ln sa mv nw lf)), c50, decide_eq_true (show fSt (qS st rch bx wt ins hld unt Y ap ab hr ln sa mv nw lf) (vN v1) ≤ h1 from hloop6_2)]; rfl) hloop6_1 hh9
              refine z_iload_n C 3 rfl dX1_firstHour_59 rfl ?_
              refine z_sipush C (v := (nI 999)) dX1_firstHour_60 rfl ?_
              refine z_icmp_gtN C 70 (by omega) (by omega) dX1_firstHour_63 (by decide) (fun c63 => ?_) (fun c63 => ?_)
              · skip
                exfalso; omega
              · skip
                refine z_iconst C (v := (nI 1)) dX1_firstHour_66 rfl ?_
                refine z_goto C 71 dX1_firstHour_67 (by decide) ?_
                refine z_st (st' := [.int (zb true)]) rfl ?_
                refine z_callS C (As := [.int (zb true)]) (mX1_checkElement) (lw_S q525 q526 q58 q527) hd_X1_checkElement rfl (Nat.le_of_ble_eq_true rfl) (by decide) (by decide) (by omega) (by omega) rfl dX1_firstHour_71 (fun E V9 hE9 => ?_) (fun r14 V15 hP16 => ?_)
                · skip
                  obtain ⟨-, -, hf⟩ := hE9
                  cases hf
                · skip
                  obtain ⟨e9, hb17⟩ := hP16
                  rw [e9]
                  refine z_st (st' := []) rfl ?_
                  refine z_iload_n C 3 rfl dX1_firstHour_74 rfl ?_
                  exact z_iret C hQ (nI h1) rfl ⟨by rw [oFirst_0 hq9 hsome], by rw [oFirst_0 hq9 hsome], by rw [oFirst_0 hq9 hsome]; exact (show cR D _ x (qS st rch bx wt ins hld unt Y ap ab hr ln sa mv nw lf) from ⟨_, _, _, _, _, _, _, _, _, _, _, _, _, _, _, _, _, _, _, _, _, _, _, _, (hun.get (fun h => h) hX), (hY.mv hun no_k), (hB.mv hun no_k), (hA.mv hun no_k), (hT.mv hun no_k)⟩)⟩ (by omega) (by omega) dX1_firstHour_75
            · skip
              refine z_iincN C 3 1 [(3, .int (nI (h1 + 1))), (0, .ref x), (1, .int v1), (2, .ref (ba (vN v1)))] rfl dX1_firstHour_53 rfl (by decide) rfl ?_
              refine z_goto C 38 dX1_firstHour_56 (by decide) ?_
              refine z_pick [(0, .ref x), (1, .int v1), (2, .ref (ba (vN v1))), (3, .int (nI (h1 + 1)))] [1, 2, 3, 0] rfl ?_
              have hpf : (fun h => decide (nw < h) && (qFree (qS st rch bx wt ins hld unt Y ap ab hr ln sa mv nw lf) h && !qHeld (qS st rch bx wt ins hld unt Y ap ab hr ln sa mv nw lf) (vN v1) h)) h1 = false := by rw [show (fun h => decide (nw < h) && (qFree (qS st rch bx wt ins hld unt Y ap ab hr ln sa mv nw lf) h && !qHeld (qS st rch bx wt ins hld unt Y ap ab hr ln sa mv nw lf) (vN v1) h)) h1 = _ from fSt_p (S := (qS st rch bx wt ins hld unt Y ap ab hr ln sa mv nw lf)), c50]; simp
              exact ih_loop6 V12 (h1 + 1) (k1 + 3) (k2 + 6) hun (fun j hj => by by_cases c9 : j = h1; rw [c9]; exact hpf; exact hloop6_1 j (by omega)) (by omega) (by omega) (by omega) (by omega) (by omega)
      exact loop6 _ V (fSt (qS st rch bx wt ins hld unt Y ap ab hr ln sa mv nw lf) (vN v1)) (0 + 1) (0 + 6) zUnc.rf (fun j hj => by show (fun h => decide (nw < h) && (qFree (qS st rch bx wt ins hld unt Y ap ab hr ln sa mv nw lf) h && !qHeld (qS st rch bx wt ins hld unt Y ap ab hr ln sa mv nw lf) (vN v1) h)) j = false; rw [show (fun h => decide (nw < h) && (qFree (qS st rch bx wt ins hld unt Y ap ab hr ln sa mv nw lf) h && !qHeld (qS st rch bx wt ins hld unt Y ap ab hr ln sa mv nw lf) (vN v1) h)) j = _ from fSt_p (S := (qS st rch bx wt ins hld unt Y ap ab hr ln sa mv nw lf)), decide_eq_false (show ¬ fSt (qS st rch bx wt ins hld unt Y ap ab hr ln sa mv nw lf) (vN v1) ≤ j by omega)]; rfl) (Nat.le_refl _) hsb.2 (by omega) (by omega) (Nat.lt_succ_self _)
    · skip
      refine z_aload_n C 1 rfl dX1_firstHour_15 rfl ?_
      refine z_get C k_Q hX 9 (by decide) rfl q194 dX1_firstHour_16 ?_
      refine z_iconst C (v := (nI 1)) dX1_firstHour_19 rfl ?_
      refine z_iaddN C dX1_firstHour_20 ?_
      refine z_goto C 37 dX1_firstHour_21 (by decide) ?_
      refine z_istore_n C [(3, .int (nI (nw + 1))), (2, .ref (ba (vN v1))), (0, .ref x), (1, .int v1)] dX1_firstHour_37 rfl (by decide) rfl ?_
      have hst9 : nw + 1 = fSt (qS st rch bx wt ins hld unt Y ap ab hr ln sa mv nw lf) (vN v1) := by rw [hfs, if_pos (hhc.1.symm.trans c12)]
      have e18 : (.int (nI (nw + 1)) : Value) = .int (nI (fSt (qS st rch bx wt ins hld unt Y ap ab hr ln sa mv nw lf) (vN v1))) := (by rw [hst9])
      refine z_lv (lv' := [(3, .int (nI (fSt (qS st rch bx wt ins hld unt Y ap ab hr ln sa mv nw lf) (vN v1)))), (2, .ref (ba (vN v1))), (0, .ref x), (1, .int v1)]) (by rw [e18]) ?_
      have hsb : nw + 1 ≤ fSt (qS st rch bx wt ins hld unt Y ap ab hr ln sa mv nw lf) (vN v1) ∧ fSt (qS st rch bx wt ins hld unt Y ap ab hr ln sa mv nw lf) (vN v1) ≤ 1000 := by rw [← hst9]; omega
      refine z_pick [(0, .ref x), (1, .int v1), (2, .ref (ba (vN v1))), (3, .int (nI (fSt (qS st rch bx wt ins hld unt Y ap ab hr ln sa mv nw lf) (vN v1))))] [2, 3, 1, 0] rfl ?_
      have loop19 : ∀ (n_loop19 : Nat) (V1 : ZV) (h1 k1 k2 : Nat), zUnc V V1 (fun _ => False) → (∀ j, j < h1 → (fun h => decide (nw < h) && (qFree (qS st rch bx wt ins hld unt Y ap ab hr ln sa mv nw lf) h && !qHeld (qS st rch bx wt ins hld unt Y ap ab hr ln sa mv nw lf) (vN v1) h)) j = false) → fSt (qS st rch bx wt ins hld unt Y ap ab hr ln sa mv nw lf) (vN v1) ≤ h1 → h1 ≤ 1000 → k1 ≤ 1 + 3 * h1 → k2 ≤ 6 + 6 * h1 → 1000 - h1 < n_loop19 → ZW l D Γ (zr 8 3002 6012) 38 [(0, .ref x), (1, .int v1), (2, .ref (ba (vN v1))), (3, .int (nI h1))] [] V1 k1 k2 := by
        intro n_loop19
        induction n_loop19 with
        | zero => intro V1 h1 k1 k2 _ _ _ _ _ _ hm; exact absurd hm (Nat.not_lt_zero _)
        | succ n_loop19 ih_loop19 =>
          intro V1 h1 k1 k2 hloop19_0 hloop19_1 hloop19_2 hloop19_3 hloop19_4 hloop19_5 hm
          refine z_iload_n C 3 rfl dX1_firstHour_38 rfl ?_
          refine z_sipush C (v := (nI 999)) dX1_firstHour_39 rfl ?_
          refine z_icmp_gtN C 59 (by omega) (by omega) dX1_firstHour_42 (by decide) (fun c42 => ?_) (fun c42 => ?_)
          · skip
            have hnone : qFirst (qS st rch bx wt ins hld unt Y ap ab hr ln sa mv nw lf) (vN v1) = none := fF_no (fun j hj => by
              show (fun h => decide (nw < h) && (qFree (qS st rch bx wt ins hld unt Y ap ab hr ln sa mv nw lf) h && !qHeld (qS st rch bx wt ins hld unt Y ap ab hr ln sa mv nw lf) (vN v1) h)) j = false
              by_cases c9 : j < h1
              · exact hloop19_1 j c9
              · omega)
            refine z_iload_n C 3 rfl dX1_firstHour_59 rfl ?_
            refine z_sipush C (v := (nI 999)) dX1_firstHour_60 rfl ?_
            refine z_icmp_gtN C 70 (by omega) (by omega) dX1_firstHour_63 (by decide) (fun c63 => ?_) (fun c63 => ?_)
            · skip
              refine z_iconst C (v := (nI 0)) dX1_firstHour_70 rfl ?_
              refine z_st (st' := [.int (zb false)]) rfl ?_
              refine z_callS C (As := [.int (zb false)]) (mX1_checkElement) (lw_S q525 q526 q58 q527) hd_X1_checkElement rfl (Nat.le_of_ble_eq_true rfl) (by decide) (by decide) (by omega) (by omega) rfl dX1_firstHour_71 (fun E V9 hE9 => ?_) (fun r20 V21 hP22 => ?_)
              · skip
                obtain ⟨rfl, rfl, hf23⟩ := hE9
                exact z_out C hQ (fun _ h => nomatch h) ⟨1, rfl, by rw [oFirst_2 hq9 hnone], (show cR D _ x (qS st rch bx wt ins hld unt Y ap ab hr ln sa mv nw lf) from ⟨_, _, _, _, _, _, _, _, _, _, _, _, _, _, _, _, _, _, _, _, _, _, _, _, (hloop19_0.get (fun h => h) hX), (hY.mv hloop19_0 no_k), (hB.mv hloop19_0 no_k), (hA.mv hloop19_0 no_k), (hT.mv hloop19_0 no_k)⟩)⟩ (by omega) (by omega)
              · skip
                obtain ⟨-, hb⟩ := hP22
                cases hb
            · skip
              exfalso; omega
          · skip
            have hh9 : h1 < 1000 := by omega
            refine z_aload_n C 0 rfl dX1_firstHour_45 rfl ?_
            refine z_iload_n C 3 rfl dX1_firstHour_46 rfl ?_
            refine z_callV C k_Q (hloop19_0.get (fun h => h) hX) (As := [.int (nI h1)]) (mX1_isFree (hloop19_0.get (fun h => h) hX) (hY.mv hloop19_0 no_k) (hB.mv hloop19_0 no_k) (hA.mv hloop19_0 no_k) (hT.mv hloop19_0 no_k) hI hh9) (lw_V q1275 q1277 qs27 q58 q1278) rfl hd_X1_isFree rfl (Nat.le_of_ble_eq_true rfl) (by decide) (by decide) (by omega) (by omega) rfl dX1_firstHour_47 (fun _ _ h => h.elim) (fun r24 V25 hP26 => ?_)
            obtain ⟨hu9, hf9⟩ := hP26
            rw [hf9]
            refine z_st (st' := [.int (zb (qFree (qS st rch bx wt ins hld unt Y ap ab hr ln sa mv nw lf) h1))]) rfl ?_
            have hun := zUnc.tr hloop19_0 hu9 (fun _ h => h.elim)
            refine z_if_neB C 59 dX1_firstHour_50 (by decide) (fun c50 => ?_) (fun c50 => ?_)
            · skip
              have hsome : qFirst (qS st rch bx wt ins hld unt Y ap ab hr ln sa mv nw lf) (vN v1) = some h1 := fF_at (by show (fun h => decide (nw < h) && (qFree (qS st rch bx wt ins hld unt Y ap ab hr ln sa mv nw lf) h && !qHeld (qS st rch bx wt ins hld unt Y ap ab hr ln sa mv nw lf) (vN v1) h)) h1 = true; rw [show (fun h => decide (nw < h) && (qFree (qS st rch bx wt ins hld unt Y ap ab hr ln sa mv nw lf) h && !qHeld (qS st rch bx wt ins hld unt Y ap ab hr ln sa mv nw lf) (vN v1) h)) h1 = _ from fSt_p (S := (qS st rch bx wt ins hld unt Y ap ab hr ln sa mv nw lf)), c50, decide_eq_true (show fSt (qS st rch bx wt ins hld unt Y ap ab hr ln sa mv nw lf) (vN v1) ≤ h1 from hloop19_2)]; rfl) hloop19_1 hh9
              refine z_iload_n C 3 rfl dX1_firstHour_59 rfl ?_
              refine z_sipush C (v := (nI 999)) dX1_firstHour_60 rfl ?_
              refine z_icmp_gtN C 70 (by omega) (by omega) dX1_firstHour_63 (by decide) (fun c63 => ?_) (fun c63 => ?_)
              · skip
                exfalso; omega
              · skip
                refine z_iconst C (v := (nI 1)) dX1_firstHour_66 rfl ?_
                refine z_goto C 71 dX1_firstHour_67 (by decide) ?_
                refine z_st (st' := [.int (zb true)]) rfl ?_
                refine z_callS C (As := [.int (zb true)]) (mX1_checkElement) (lw_S q525 q526 q58 q527) hd_X1_checkElement rfl (Nat.le_of_ble_eq_true rfl) (by decide) (by decide) (by omega) (by omega) rfl dX1_firstHour_71 (fun E V9 hE9 => ?_) (fun r27 V28 hP29 => ?_)
                · skip
                  obtain ⟨-, -, hf⟩ := hE9
                  cases hf
                · skip
                  obtain ⟨e9, hb30⟩ := hP29
                  rw [e9]
                  refine z_st (st' := []) rfl ?_
                  refine z_iload_n C 3 rfl dX1_firstHour_74 rfl ?_
                  exact z_iret C hQ (nI h1) rfl ⟨by rw [oFirst_0 hq9 hsome], by rw [oFirst_0 hq9 hsome], by rw [oFirst_0 hq9 hsome]; exact (show cR D _ x (qS st rch bx wt ins hld unt Y ap ab hr ln sa mv nw lf) from ⟨_, _, _, _, _, _, _, _, _, _, _, _, _, _, _, _, _, _, _, _, _, _, _, _, (hun.get (fun h => h) hX), (hY.mv hun no_k), (hB.mv hun no_k), (hA.mv hun no_k), (hT.mv hun no_k)⟩)⟩ (by omega) (by omega) dX1_firstHour_75
            · skip
              refine z_iincN C 3 1 [(3, .int (nI (h1 + 1))), (0, .ref x), (1, .int v1), (2, .ref (ba (vN v1)))] rfl dX1_firstHour_53 rfl (by decide) rfl ?_
              refine z_goto C 38 dX1_firstHour_56 (by decide) ?_
              refine z_pick [(0, .ref x), (1, .int v1), (2, .ref (ba (vN v1))), (3, .int (nI (h1 + 1)))] [1, 2, 3, 0] rfl ?_
              have hpf : (fun h => decide (nw < h) && (qFree (qS st rch bx wt ins hld unt Y ap ab hr ln sa mv nw lf) h && !qHeld (qS st rch bx wt ins hld unt Y ap ab hr ln sa mv nw lf) (vN v1) h)) h1 = false := by rw [show (fun h => decide (nw < h) && (qFree (qS st rch bx wt ins hld unt Y ap ab hr ln sa mv nw lf) h && !qHeld (qS st rch bx wt ins hld unt Y ap ab hr ln sa mv nw lf) (vN v1) h)) h1 = _ from fSt_p (S := (qS st rch bx wt ins hld unt Y ap ab hr ln sa mv nw lf)), c50]; simp
              exact ih_loop19 V25 (h1 + 1) (k1 + 3) (k2 + 6) hun (fun j hj => by by_cases c9 : j = h1; rw [c9]; exact hpf; exact hloop19_1 j (by omega)) (by omega) (by omega) (by omega) (by omega) (by omega)
      exact loop19 _ V (fSt (qS st rch bx wt ins hld unt Y ap ab hr ln sa mv nw lf) (vN v1)) (0 + 1) (0 + 6) zUnc.rf (fun j hj => by show (fun h => decide (nw < h) && (qFree (qS st rch bx wt ins hld unt Y ap ab hr ln sa mv nw lf) h && !qHeld (qS st rch bx wt ins hld unt Y ap ab hr ln sa mv nw lf) (vN v1) h)) j = false; rw [show (fun h => decide (nw < h) && (qFree (qS st rch bx wt ins hld unt Y ap ab hr ln sa mv nw lf) h && !qHeld (qS st rch bx wt ins hld unt Y ap ab hr ln sa mv nw lf) (vN v1) h)) j = _ from fSt_p (S := (qS st rch bx wt ins hld unt Y ap ab hr ln sa mv nw lf)), decide_eq_false (show ¬ fSt (qS st rch bx wt ins hld unt Y ap ab hr ln sa mv nw lf) (vN v1) ≤ j by omega)]; rfl) (Nat.le_refl _) hsb.2 (by omega) (by omega) (Nat.lt_succ_self _)
