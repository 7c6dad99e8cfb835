/-! COMPONENT: appointments -/
set_option maxRecDepth 100000
theorem rng_len (aa : Nat → Nat) (ap : Nat) : ((List.range ap).map aa).length = ap := by simp
theorem rng_at {aa : Nat → Nat} {ap c : Nat} (h : c < ap) : ((List.range ap).map aa)[c]? = some (aa c) := by simp [h]
theorem fF_sf {p : Nat → Bool} {c : Nat} (h : p c = false) : fF p (c + 1) = fF p c := by
  show (match fF p c with | some a => some a | none => if p c = true then some c else none) = fF p c
  cases e : fF p c with
  | some a => rfl
  | none => show (if p c = true then some c else none) = none; rw [h]; rfl
theorem z_rm {l : Launch} {D : ZD} {Γ : ZG} {R : Room} {pc : Nat} {lv : List (Nat × Value)} {st : List Value} {V : ZV} {kc ks kc2 ks2 : Nat} (h1 : kc = kc2) (h2 : ks = ks2) (kk : ZW l D Γ R pc lv st V kc2 ks2) : ZW l D Γ R pc lv st V kc ks := by subst h1; subst h2; exact kk
section MAPS
variable {D : ZD} {V : ZV} {t : Nat} {Lb : List Nat} {Ct : List (Nat × Nat)} {mb : Int32} {kc : Nat → List Nat} {ap : Nat} {ab hr ln : Nat → Nat} {sa : Nat → Int32} {aa sl : Nat → Nat}
theorem bin_in (hT : cT V t Lb Ct mb kc ap hr ln sa aa sl) (hu : ∀ a c, a < ap → c < ap → sa a = nI 98 → sa c = nI 98 → ab a = ab c ∨ (hr a = hr c ∧ ln a = ln c) → a = c) {q : Nat × Nat} {h k : Nat} (hq : q ∈ Ct) (hk : kc q.1 = [h, k]) : ∃ a, fF (fun a => decide (ln a = k) && (decide (hr a = h) && decide (sa a = nI 98))) ap = some a ∧ a < ap ∧ q = (sl a, aa a) := by
  obtain ⟨a, ha, hs, rfl⟩ := hT.2.2.2.1 q hq
  rw [hT.2.2.1 a ha] at hk
  have h1 : hr a = h := (List.cons.inj hk).1
  have h2 : ln a = k := (List.cons.inj (List.cons.inj hk).2).1
  refine ⟨a, fF_at ?_ (fun j hj => ?_) ha, ha, rfl⟩
  · show (decide (ln a = k) && (decide (hr a = h) && decide (sa a = nI 98))) = true
    rw [decide_eq_true h1, decide_eq_true h2, decide_eq_true hs]; rfl
  · show (decide (ln j = k) && (decide (hr j = h) && decide (sa j = nI 98))) = false
    by_cases c1 : ln j = k
    · by_cases c2 : hr j = h
      · by_cases c3 : sa j = nI 98
        · have := hu j a (by omega) ha c3 hs (Or.inr ⟨by rw [c2, h1], by rw [c1, h2]⟩)
          omega
        · rw [decide_eq_false c3]; simp
      · rw [decide_eq_false c2]; simp
    · rw [decide_eq_false c1]; rfl
theorem bin_no (hT : cT V t Lb Ct mb kc ap hr ln sa aa sl) {h k : Nat} (hn : ∀ q ∈ Ct, kc q.1 ≠ [h, k]) : fF (fun a => decide (ln a = k) && (decide (hr a = h) && decide (sa a = nI 98))) ap = none :=
  fF_no (fun j hj => by
    show (decide (ln j = k) && (decide (hr j = h) && decide (sa j = nI 98))) = false
    by_cases c1 : ln j = k
    · by_cases c2 : hr j = h
      · by_cases c3 : sa j = nI 98
        · exact absurd (by rw [hT.2.2.1 j hj, c1, c2]) (hn _ (hT.2.2.2.2.1 j hj c3))
        · rw [decide_eq_false c3]; simp
      · rw [decide_eq_false c2]; simp
    · rw [decide_eq_false c1]; rfl)
theorem bin_get (hT : cT V t Lb Ct mb kc ap hr ln sa aa sl) (hu : ∀ a c, a < ap → c < ap → sa a = nI 98 → sa c = nI 98 → ab a = ab c ∨ (hr a = hr c ∧ ln a = ln c) → a = c) {r : Option Nat} {h k : Nat} (hg : (∃ q ∈ Ct, kc q.1 = [h, k] ∧ r = some q.2) ∨ (r = none ∧ ∀ q ∈ Ct, kc q.1 ≠ [h, k])) : r = (fF (fun a => decide (ln a = k) && (decide (hr a = h) && decide (sa a = nI 98))) ap).map aa := by
  rcases hg with ⟨q, hq, hk, hr2⟩ | ⟨hr2, hn⟩
  · obtain ⟨a, h1, h2, h3⟩ := bin_in hT hu hq hk
    rw [h1, hr2, h3]; rfl
  · rw [bin_no hT hn, hr2]; rfl
theorem bin_has (hT : cT V t Lb Ct mb kc ap hr ln sa aa sl) (hu : ∀ a c, a < ap → c < ap → sa a = nI 98 → sa c = nI 98 → ab a = ab c ∨ (hr a = hr c ∧ ln a = ln c) → a = c) {r : Bool} {h k : Nat} (hg : (r = true ∧ ∃ q ∈ Ct, kc q.1 = [h, k]) ∨ (r = false ∧ ∀ q ∈ Ct, kc q.1 ≠ [h, k])) : r = !(fF (fun a => decide (ln a = k) && (decide (hr a = h) && decide (sa a = nI 98))) ap).isNone := by
  rcases hg with ⟨hr2, q, hq, hk⟩ | ⟨hr2, hn⟩
  · obtain ⟨a, h1, h2, h3⟩ := bin_in hT hu hq hk
    rw [h1, hr2]; rfl
  · rw [bin_no hT hn, hr2]; rfl
end MAPS
theorem cT_cmp {l : Launch} {D : ZD} {V : ZV} {t : Nat} {Lb : List Nat} {Ct : List (Nat × Nat)} {mb : Int32} {kc : Nat → List Nat} {ap : Nat} {hr ln : Nat → Nat} {sa : Nat → Int32} {aa sl : Nat → Nat} (hA : ∀ a, a < ap → hSl V (sl a) (hr a) (ln a)) (hT : cT V t Lb Ct mb kc ap hr ln sa aa sl) (hb : ∀ a, a < ap → hr a < 1000000 ∧ ln a < 1000000) {k h n : Nat} (hk : hSl V k h n) (h1 : h < 1000000) (h2 : n < 1000000) :
    ∀ q ∈ Ct, ZM l D yX7_compareTo (ws_ yX7_compareTo cX7_compareTo 2 (some .int)) 2 0 0 eI V [.ref k, .ref q.1] (fun r V2 => V2 = V ∧ zCmp r [h, n] (kc q.1)) zno_x := fun q hq => by
  obtain ⟨a, ha, hs, rfl⟩ := hT.2.2.2.1 q hq
  rw [hT.2.2.1 a ha]
  exact mX7_compareTo hk (hA a ha) h1 (hb a ha).1 h2 (hb a ha).2

set_option maxHeartbeats 4000000 in
set_option maxRecDepth 100000 in
theorem mX1_bookedFor {l : Launch} {D : ZD} {V : ZV} {kk x y yb yh rr bb al t d cap : Nat} {fb : Nat → Option Nat} {fh fr : Nat → Int32} {fB : Nat → Option Nat} {ba : Nat → Nat} {hc : Nat → Int32} {uc : Nat → Nat} {fa : Nat → Option Nat} {ma : Int32} {aa sl : Nat → Nat} {Lb : List Nat} {Ct : List (Nat × Nat)} {mb : Int32} {kc : Nat → List Nat} {st : Nat} {rch : Nat → Nat} {bx : Nat} {wt : Nat → Nat} {ins : Nat → Bool} {hld : Nat → Int32} {unt : Nat → Nat} {Y : YD} {ap : Nat} {ab hr ln : Nat → Nat} {sa : Nat → Int32} {mv : Int32} {nw : Nat} {lf : Int64} (hX : V x = some (.inr (0, [.ref y, .ref rr, .ref bb, .ref al, .ref t, .int (nI st), .int (nI bx), .int (nI (fC ins bx)), .int mv, .int (nI nw), .long lf]))) (hY : cY D V y yb yh rr fb fh fr ba bx st rch Y) (hB : cB D V bb fB ba bx wt ins hld unt hc uc) (hA : cA D V al d cap fa ma ba ap ab hr ln sa aa sl) (hT : cT V t Lb Ct mb kc ap hr ln sa aa sl) (hI : qI kk (qS st rch bx wt ins hld unt Y ap ab hr ln sa mv nw lf)) {b : Nat} (hbb : b < bx) : ZM l D yX1_bookedFor (ws_ yX1_bookedFor cX1_bookedFor 5 (some (.object "Quaylock$Appointment"))) 4 1 4 eO V [.ref x, .ref (ba b)] (fun r V' => zUnc V V' (fun _ => False) ∧ r = (qAin (qS st rch bx wt ins hld unt Y ap ab hr ln sa mv nw lf) b).map aa) zno_x := by
  refine z_enter (by decide +kernel) [(0, .ref x), (1, .ref (ba b))] rfl (Nat.le_of_ble_eq_true rfl) (zcat_cons rfl (zcat_cons rfl zcat_nil)) (fun Γ C hQ => ?_)
  have hst : st ≤ 4 := hI.1.1
  have hbx : bx ≤ 20 := hI.1.2.1
  have hrc : ∀ s, s < st → rch s ≤ 4 := fun s hs => (hI.1.2.2.1 s hs).2
  have hwt : ∀ b, b < bx → wt b < 1000 := fun b hb => by have h9 : wt b ≤ 30 := (hI.1.2.2.2 b hb).2; omega
  have hg : yGood st bx ins Y := hI.2.1.1
  have hht : ∀ s, s < st → (Y s).length ≤ rch s := hI.2.1.2.1
  have hf8 : fC ins bx ≤ 8 := hI.2.1.2.2
  have hu1 : ∀ b, unt b ≤ 1000 := hI.2.2.1.2.1
  have hhl : ∀ b, b < bx → hld b = nI 45 ∨ hld b = nI 112 ∨ hld b = nI 108 := hI.2.2.1.2.2
  have hap : ap ≤ 30 := hI.2.2.2.1.1
  have haa : ∀ a, a < ap → ab a < bx ∧ hr a ≤ 999 ∧ ln a < 3 ∧ (sa a = nI 98 ∨ sa a = nI 99 ∨ sa a = nI 103 ∨ sa a = nI 100 ∨ sa a = nI 109) := hI.2.2.2.1.2.1
  have hnw : nw ≤ 999 := hI.2.2.2.2
  have hY4 : ∀ s, (Y s).length ≤ 4 := hg.1.1
  have hmm : ∀ s, ∀ c ∈ Y s, c < bx := fun s c hc => (hg.2.2 s c hc).1
  refine z_null C dX1_bookedFor_0 ?_
  refine z_astore_nQ C (r := none) [(2, .null), (0, .ref x), (1, .ref (ba b))] dX1_bookedFor_1 rfl (by decide) rfl ?_
  refine z_aload_n C 1 rfl dX1_bookedFor_2 rfl ?_
  refine z_get C k_Q hX 3 (by decide) rfl q188 dX1_bookedFor_3 ?_
  refine z_callF C k_AL hA.1.1 (As := []) (mJ2_iterator hA.1) (lw_app (lw_in _ [556, 560, 562, 62] (by decide +kernel) (by decide +kernel)) (lw_meth q564)) zf_0 hdi_List_iterator rfl (Nat.le_of_ble_eq_true rfl) (by decide) (by decide) (by omega) (by omega) rfl dX1_bookedFor_6 (fun _ _ h => h.elim) (fun r1 V2 hP3 => ?_)
  obtain ⟨hi1, hi2, hi3⟩ := hP3
  refine z_st (st' := [.ref r1]) rfl ?_
  refine z_astore_n C [(3, .ref r1), (2, .null), (0, .ref x), (1, .ref (ba b))] dX1_bookedFor_11 rfl (by decide) rfl ?_
  refine z_pick [(0, .ref x), (1, .ref (ba b)), (2, .null), (3, .ref r1)] [2, 3, 1, 0] rfl ?_
  have e4 : (.null : Value) = va_rf ((fF (fun a => decide (ab a = b) && decide (sa a = nI 98)) 0).map aa) := rfl
  refine z_lv (lv' := [(0, .ref x), (1, .ref (ba b)), (2, va_rf ((fF (fun a => decide (ab a = b) && decide (sa a = nI 98)) 0).map aa)), (3, .ref r1)]) (by rw [e4]) ?_
  have loop5 : ∀ (n_loop5 : Nat) (V1 : ZV) (c : Nat) (lr : Int32), zUnc V V1 (fun _ => False) → V1 r1 = some (.inr (10, [.int (nI c), .int lr, .int ma, .ref al])) → c ≤ ap → ap - c < n_loop5 → ZW l D Γ (zr 4 1 4) 12 [(0, .ref x), (1, .ref (ba b)), (2, va_rf ((fF (fun a => decide (ab a = b) && decide (sa a = nI 98)) c).map aa)), (3, .ref r1)] [] V1 (0 + 1) (0 + 4) := by
    intro n_loop5
    induction n_loop5 with
    | zero => intro V1 c lr _ _ _ hm; exact absurd hm (Nat.not_lt_zero _)
    | succ n_loop5 ih_loop5 =>
      intro V1 c lr hloop5_0 hloop5_1 hloop5_2 hm
      refine z_aload_n C 3 rfl dX1_bookedFor_12 rfl ?_
      refine z_callF C k_It hloop5_1 (As := []) (mJ15_hasNext (hA.mv hloop5_0 no_k).1 hloop5_1 (by omega)) (lw_app (lw_in _ [585, 589, 591, 77] (by decide +kernel) (by decide +kernel)) (lw_meth q593)) zf_4 hdi_Iterator_hasNext rfl (Nat.le_of_ble_eq_true rfl) (by decide) (by decide) (by omega) (by omega) rfl dX1_bookedFor_13 (fun _ _ h => h.elim) (fun r6 V7 hP8 => ?_)
      rw [hP8.1, hP8.2, rng_len]
      refine z_st (st' := [.int (zb (!decide (c = ap)))]) rfl ?_
      refine z_if_eqB C 61 dX1_bookedFor_18 (by decide) (fun c18 => ?_) (fun c18 => ?_)
      · skip
        have hce : c = ap := by simpa using c18
        have e9 : (va_rf ((fF (fun a => decide (ab a = b) && decide (sa a = nI 98)) c).map aa) : Value) = va_rf ((qAin (qS st rch bx wt ins hld unt Y ap ab hr ln sa mv nw lf) b).map aa) := (by rw [hce]; rfl)
        refine z_lv (lv' := [(0, .ref x), (1, .ref (ba b)), (2, va_rf ((qAin (qS st rch bx wt ins hld unt Y ap ab hr ln sa mv nw lf) b).map aa)), (3, .ref r1)]) (by rw [e9]) ?_
        refine z_aload_nQ C 2 (r := ((qAin (qS st rch bx wt ins hld unt Y ap ab hr ln sa mv nw lf) b).map aa)) rfl dX1_bookedFor_61 rfl ?_
        exact z_aretQ C hQ ((qAin (qS st rch bx wt ins hld unt Y ap ab hr ln sa mv nw lf) b).map aa) rfl (Or.inl ⟨_, rfl⟩) ⟨hloop5_0, rfl⟩ (by omega) (by omega) dX1_bookedFor_62
      · skip
        have h9c : ¬ c = ap := by simpa using c18
        have hcl : c < ap := by omega
        refine z_aload_n C 3 rfl dX1_bookedFor_21 rfl ?_
        refine z_callF C k_It hloop5_1 (As := []) (mJ15_next (hA.mv hloop5_0 no_k).1 hloop5_1 (by omega) (rng_at hcl)) (lw_app (lw_in _ [595, 598, 600, 77] (by decide +kernel) (by decide +kernel)) (lw_meth q602)) zf_5 hdi_Iterator_next rfl (Nat.le_of_ble_eq_true rfl) (by decide) (by decide) (by omega) (by omega) rfl dX1_bookedFor_22 (fun _ _ h => h.elim) (fun r10 V11 hP12 => ?_)
        obtain ⟨hn0, hn1, hn2⟩ := hP12
        rw [hn0]
        refine z_st (st' := [.ref (aa c)]) rfl ?_
        have hun := zUnc.tr hloop5_0 hn2 (fun a h => Or.inr (by rw [show a = r1 from h]; exact hi2))
        refine z_ccast C k_A ((hA.mv hun no_k).2.1 c hcl) q609 (Or.inl rfl) dX1_bookedFor_27 ?_
        refine z_astore C [(4, .ref (aa c)), (0, .ref x), (1, .ref (ba b)), (2, va_rf ((fF (fun a => decide (ab a = b) && decide (sa a = nI 98)) c).map aa)), (3, .ref r1)] dX1_bookedFor_30 (by decide) rfl ?_
        refine z_aload C 0 rfl dX1_bookedFor_32 ?_
        refine z_getN C k_A ((hA.mv hun no_k).2.1 c hcl) 1 (by decide) rfl q1174 dX1_bookedFor_34 ?_
        refine z_aload_n C 2 rfl dX1_bookedFor_37 rfl ?_
        refine z_acmp_ne C (some (ba (ab c))) (some (ba b)) 56 dX1_bookedFor_38 (by decide) (fun c38 => ?_) (fun c38 => ?_)
        · skip
          have hpf : (fun a => decide (ab a = b) && decide (sa a = nI 98)) c = false := by
            show (decide (ab c = b) && decide (sa c = nI 98)) = false
            rw [decide_eq_false (show ¬ ab c = b from fun q => c38 (by rw [q]))]; rfl
          refine z_aload_nQ C 3 (r := ((fF (fun a => decide (ab a = b) && decide (sa a = nI 98)) c).map aa)) rfl dX1_bookedFor_56 rfl ?_
          refine z_astore_nQ C (r := ((fF (fun a => decide (ab a = b) && decide (sa a = nI 98)) c).map aa)) [(2, va_rf ((fF (fun a => decide (ab a = b) && decide (sa a = nI 98)) c).map aa)), (4, .ref (aa c)), (0, .ref x), (1, .ref (ba b)), (3, .ref r1)] dX1_bookedFor_57 rfl (by decide) rfl ?_
          refine z_goto C 12 dX1_bookedFor_58 (by decide) ?_
          refine z_pick [(0, .ref x), (1, .ref (ba b)), (2, va_rf ((fF (fun a => decide (ab a = b) && decide (sa a = nI 98)) c).map aa)), (3, .ref r1)] [2, 3, 0, 4] rfl ?_
          have e13 : (va_rf ((fF (fun a => decide (ab a = b) && decide (sa a = nI 98)) c).map aa) : Value) = va_rf ((fF (fun a => decide (ab a = b) && decide (sa a = nI 98)) (c + 1)).map aa) := (by rw [fF_sf hpf])
          refine z_lv (lv' := [(0, .ref x), (1, .ref (ba b)), (2, va_rf ((fF (fun a => decide (ab a = b) && decide (sa a = nI 98)) (c + 1)).map aa)), (3, .ref r1)]) (by rw [e13]) ?_
          exact ih_loop5 V11 (c + 1) (nI c) hun hn1 (by omega) (by omega)
        · skip
          have hab : ab c = b := hB.2.2.1.inj hbx (haa c hcl).1 hbb (Option.some.inj c38)
          refine z_aload C 0 rfl dX1_bookedFor_41 ?_
          refine z_getN C k_A ((hA.mv hun no_k).2.1 c hcl) 3 (by decide) rfl q1178 dX1_bookedFor_43 ?_
          refine z_bipush C (v := (nI 98)) dX1_bookedFor_46 rfl ?_
          refine z_icmp_ne C 56 dX1_bookedFor_48 (by decide) (fun c48 => ?_) (fun c48 => ?_)
          · skip
            have hpf : (fun a => decide (ab a = b) && decide (sa a = nI 98)) c = false := by
              show (decide (ab c = b) && decide (sa c = nI 98)) = false
              rw [decide_eq_false (show ¬ sa c = nI 98 from c48)]; simp
            refine z_aload_nQ C 3 (r := ((fF (fun a => decide (ab a = b) && decide (sa a = nI 98)) c).map aa)) rfl dX1_bookedFor_56 rfl ?_
            refine z_astore_nQ C (r := ((fF (fun a => decide (ab a = b) && decide (sa a = nI 98)) c).map aa)) [(2, va_rf ((fF (fun a => decide (ab a = b) && decide (sa a = nI 98)) c).map aa)), (4, .ref (aa c)), (0, .ref x), (1, .ref (ba b)), (3, .ref r1)] dX1_bookedFor_57 rfl (by decide) rfl ?_
            refine z_goto C 12 dX1_bookedFor_58 (by decide) ?_
            refine z_pick [(0, .ref x), (1, .ref (ba b)), (2, va_rf ((fF (fun a => decide (ab a = b) && decide (sa a = nI 98)) c).map aa)), (3, .ref r1)] [2, 3, 0, 4] rfl ?_
            have e14 : (va_rf ((fF (fun a => decide (ab a = b) && decide (sa a = nI 98)) c).map aa) : Value) = va_rf ((fF (fun a => decide (ab a = b) && decide (sa a = nI 98)) (c + 1)).map aa) := (by rw [fF_sf hpf])
            refine z_lv (lv' := [(0, .ref x), (1, .ref (ba b)), (2, va_rf ((fF (fun a => decide (ab a = b) && decide (sa a = nI 98)) (c + 1)).map aa)), (3, .ref r1)]) (by rw [e14]) ?_
            exact ih_loop5 V11 (c + 1) (nI c) hun hn1 (by omega) (by omega)
          · skip
            have hft : fF (fun a => decide (ab a = b) && decide (sa a = nI 98)) (c + 1) = some c := fF_at (by show (decide (ab c = b) && decide (sa c = nI 98)) = true; rw [decide_eq_true hab, decide_eq_true c48]; rfl) (fun j hj => by
              show (decide (ab j = b) && decide (sa j = nI 98)) = false
              by_cases c1 : ab j = b
              · by_cases c2 : sa j = nI 98
                · exfalso; have := hI.2.2.2.1.2.2.2 j c (show j < ap by omega) hcl c2 c48 (Or.inl (show ab j = ab c by rw [c1, hab])); omega
                · rw [decide_eq_false c2]; simp
              · rw [decide_eq_false c1]; rfl) (Nat.lt_succ_self _)
            refine z_aload C 0 rfl dX1_bookedFor_51 ?_
            refine z_goto C 57 dX1_bookedFor_53 (by decide) ?_
            refine z_astore_n C [(2, .ref (aa c)), (4, .ref (aa c)), (0, .ref x), (1, .ref (ba b)), (3, .ref r1)] dX1_bookedFor_57 rfl (by decide) rfl ?_
            refine z_goto C 12 dX1_bookedFor_58 (by decide) ?_
            refine z_pick [(0, .ref x), (1, .ref (ba b)), (2, .ref (aa c)), (3, .ref r1)] [2, 3, 0, 4] rfl ?_
            have e15 : (.ref (aa c) : Value) = va_rf ((fF (fun a => decide (ab a = b) && decide (sa a = nI 98)) (c + 1)).map aa) := (by rw [hft]; rfl)
            refine z_lv (lv' := [(0, .ref x), (1, .ref (ba b)), (2, va_rf ((fF (fun a => decide (ab a = b) && decide (sa a = nI 98)) (c + 1)).map aa)), (3, .ref r1)]) (by rw [e15]) ?_
            exact ih_loop5 V11 (c + 1) (nI c) hun hn1 (by omega) (by omega)
  exact loop5 _ V2 0 (-1) hi3 hi1 (Nat.zero_le _) (Nat.lt_succ_self _)
set_option maxHeartbeats 4000000 in
set_option maxRecDepth 100000 in
theorem mX1_count {l : Launch} {D : ZD} {V : ZV} {kk x y yb yh rr bb al t d cap : Nat} {fb : Nat → Option Nat} {fh fr : Nat → Int32} {fB : Nat → Option Nat} {ba : Nat → Nat} {hc : Nat → Int32} {uc : Nat → Nat} {fa : Nat → Option Nat} {ma : Int32} {aa sl : Nat → Nat} {Lb : List Nat} {Ct : List (Nat × Nat)} {mb : Int32} {kc : Nat → List Nat} {st : Nat} {rch : Nat → Nat} {bx : Nat} {wt : Nat → Nat} {ins : Nat → Bool} {hld : Nat → Int32} {unt : Nat → Nat} {Y : YD} {ap : Nat} {ab hr ln : Nat → Nat} {sa : Nat → Int32} {mv : Int32} {nw : Nat} {lf : Int64} (hX : V x = some (.inr (0, [.ref y, .ref rr, .ref bb, .ref al, .ref t, .int (nI st), .int (nI bx), .int (nI (fC ins bx)), .int mv, .int (nI nw), .long lf]))) (hY : cY D V y yb yh rr fb fh fr ba bx st rch Y) (hB : cB D V bb fB ba bx wt ins hld unt hc uc) (hA : cA D V al d cap fa ma ba ap ab hr ln sa aa sl) (hT : cT V t Lb Ct mb kc ap hr ln sa aa sl) (hI : qI kk (qS st rch bx wt ins hld unt Y ap ab hr ln sa mv nw lf)) {cc : Int32} : ZM l D yX1_count (ws_ yX1_count cX1_count 5 (some .int)) 4 1 4 eN V [.ref x, .int cc] (fun r V' => zUnc V V' (fun _ => False) ∧ r = qCnt (qS st rch bx wt ins hld unt Y ap ab hr ln sa mv nw lf) cc) zno_x := by
  refine z_enter (by decide +kernel) [(0, .ref x), (1, .int cc)] rfl (Nat.le_of_ble_eq_true rfl) (zcat_cons rfl (zcat_cons rfl zcat_nil)) (fun Γ C hQ => ?_)
  have hst : st ≤ 4 := hI.1.1
  have hbx : bx ≤ 20 := hI.1.2.1
  have hrc : ∀ s, s < st → rch s ≤ 4 := fun s hs => (hI.1.2.2.1 s hs).2
  have hwt : ∀ b, b < bx → wt b < 1000 := fun b hb => by have h9 : wt b ≤ 30 := (hI.1.2.2.2 b hb).2; omega
  have hg : yGood st bx ins Y := hI.2.1.1
  have hht : ∀ s, s < st → (Y s).length ≤ rch s := hI.2.1.2.1
  have hf8 : fC ins bx ≤ 8 := hI.2.1.2.2
  have hu1 : ∀ b, unt b ≤ 1000 := hI.2.2.1.2.1
  have hhl : ∀ b, b < bx → hld b = nI 45 ∨ hld b = nI 112 ∨ hld b = nI 108 := hI.2.2.1.2.2
  have hap : ap ≤ 30 := hI.2.2.2.1.1
  have haa : ∀ a, a < ap → ab a < bx ∧ hr a ≤ 999 ∧ ln a < 3 ∧ (sa a = nI 98 ∨ sa a = nI 99 ∨ sa a = nI 103 ∨ sa a = nI 100 ∨ sa a = nI 109) := hI.2.2.2.1.2.1
  have hnw : nw ≤ 999 := hI.2.2.2.2
  have hY4 : ∀ s, (Y s).length ≤ 4 := hg.1.1
  have hmm : ∀ s, ∀ c ∈ Y s, c < bx := fun s c hc => (hg.2.2 s c hc).1
  refine z_iconst C (v := (nI 0)) dX1_count_0 rfl ?_
  refine z_istore_n C [(2, .int (nI 0)), (0, .ref x), (1, .int cc)] dX1_count_1 rfl (by decide) rfl ?_
  refine z_aload_n C 1 rfl dX1_count_2 rfl ?_
  refine z_get C k_Q hX 3 (by decide) rfl q188 dX1_count_3 ?_
  refine z_callF C k_AL hA.1.1 (As := []) (mJ2_iterator hA.1) (lw_app (lw_in _ [556, 560, 562, 62] (by decide +kernel) (by decide +kernel)) (lw_meth q564)) zf_0 hdi_List_iterator rfl (Nat.le_of_ble_eq_true rfl) (by decide) (by decide) (by omega) (by omega) rfl dX1_count_6 (fun _ _ h => h.elim) (fun r1 V2 hP3 => ?_)
  obtain ⟨hi1, hi2, hi3⟩ := hP3
  refine z_st (st' := [.ref r1]) rfl ?_
  refine z_astore_n C [(3, .ref r1), (2, .int (nI 0)), (0, .ref x), (1, .int cc)] dX1_count_11 rfl (by decide) rfl ?_
  refine z_pick [(0, .ref x), (1, .int cc), (2, .int (nI 0)), (3, .ref r1)] [2, 3, 1, 0] rfl ?_
  have e4 : (.int (nI 0) : Value) = .int (nI (fC (fun a => decide (sa a = cc)) 0)) := rfl
  refine z_lv (lv' := [(0, .ref x), (1, .int cc), (2, .int (nI (fC (fun a => decide (sa a = cc)) 0))), (3, .ref r1)]) (by rw [e4]) ?_
  have loop5 : ∀ (n_loop5 : Nat) (V1 : ZV) (c : Nat) (lr : Int32), zUnc V V1 (fun _ => False) → V1 r1 = some (.inr (10, [.int (nI c), .int lr, .int ma, .ref al])) → c ≤ ap → ap - c < n_loop5 → ZW l D Γ (zr 4 1 4) 12 [(0, .ref x), (1, .int cc), (2, .int (nI (fC (fun a => decide (sa a = cc)) c))), (3, .ref r1)] [] V1 (0 + 1) (0 + 4) := by
    intro n_loop5
    induction n_loop5 with
    | zero => intro V1 c lr _ _ _ hm; exact absurd hm (Nat.not_lt_zero _)
    | succ n_loop5 ih_loop5 =>
      intro V1 c lr hloop5_0 hloop5_1 hloop5_2 hm
      refine z_aload_n C 3 rfl dX1_count_12 rfl ?_
      refine z_callF C k_It hloop5_1 (As := []) (mJ15_hasNext (hA.mv hloop5_0 no_k).1 hloop5_1 (by omega)) (lw_app (lw_in _ [585, 589, 591, 77] (by decide +kernel) (by decide +kernel)) (lw_meth q593)) zf_4 hdi_Iterator_hasNext rfl (Nat.le_of_ble_eq_true rfl) (by decide) (by decide) (by omega) (by omega) rfl dX1_count_13 (fun _ _ h => h.elim) (fun r6 V7 hP8 => ?_)
      rw [hP8.1, hP8.2, rng_len]
      refine z_st (st' := [.int (zb (!decide (c = ap)))]) rfl ?_
      refine z_if_eqB C 52 dX1_count_18 (by decide) (fun c18 => ?_) (fun c18 => ?_)
      · skip
        have hce : c = ap := by simpa using c18
        have e9 : (.int (nI (fC (fun a => decide (sa a = cc)) c)) : Value) = .int (nI (qCnt (qS st rch bx wt ins hld unt Y ap ab hr ln sa mv nw lf) cc)) := (by rw [hce]; rfl)
        refine z_lv (lv' := [(0, .ref x), (1, .int cc), (2, .int (nI (qCnt (qS st rch bx wt ins hld unt Y ap ab hr ln sa mv nw lf) cc))), (3, .ref r1)]) (by rw [e9]) ?_
        refine z_iload_n C 2 rfl dX1_count_52 rfl ?_
        exact z_iret C hQ (qCnt (qS st rch bx wt ins hld unt Y ap ab hr ln sa mv nw lf) cc) rfl ⟨hloop5_0, rfl⟩ (by omega) (by omega) dX1_count_53
      · skip
        have h9c : ¬ c = ap := by simpa using c18
        have hcl : c < ap := by omega
        refine z_aload_n C 3 rfl dX1_count_21 rfl ?_
        refine z_callF C k_It hloop5_1 (As := []) (mJ15_next (hA.mv hloop5_0 no_k).1 hloop5_1 (by omega) (rng_at hcl)) (lw_app (lw_in _ [595, 598, 600, 77] (by decide +kernel) (by decide +kernel)) (lw_meth q602)) zf_5 hdi_Iterator_next rfl (Nat.le_of_ble_eq_true rfl) (by decide) (by decide) (by omega) (by omega) rfl dX1_count_22 (fun _ _ h => h.elim) (fun r10 V11 hP12 => ?_)
        obtain ⟨hn0, hn1, hn2⟩ := hP12
        rw [hn0]
        refine z_st (st' := [.ref (aa c)]) rfl ?_
        have hun := zUnc.tr hloop5_0 hn2 (fun a h => Or.inr (by rw [show a = r1 from h]; exact hi2))
        refine z_ccast C k_A ((hA.mv hun no_k).2.1 c hcl) q609 (Or.inl rfl) dX1_count_27 ?_
        refine z_astore C [(4, .ref (aa c)), (0, .ref x), (1, .int cc), (2, .int (nI (fC (fun a => decide (sa a = cc)) c))), (3, .ref r1)] dX1_count_30 (by decide) rfl ?_
        refine z_iload_n C 3 rfl dX1_count_32 rfl ?_
        refine z_aload C 0 rfl dX1_count_33 ?_
        refine z_getN C k_A ((hA.mv hun no_k).2.1 c hcl) 3 (by decide) rfl q1178 dX1_count_35 ?_
        refine z_iload_n C 2 rfl dX1_count_38 rfl ?_
        refine z_icmp_ne C 46 dX1_count_39 (by decide) (fun c39 => ?_) (fun c39 => ?_)
        · skip
          refine z_iconst C (v := (nI 0)) dX1_count_46 rfl ?_
          refine z_iaddN C dX1_count_47 ?_
          refine z_istore_n C [(2, .int (nI ((fC (fun a => decide (sa a = cc)) c) + 0))), (4, .ref (aa c)), (0, .ref x), (1, .int cc), (3, .ref r1)] dX1_count_48 rfl (by decide) rfl ?_
          refine z_goto C 12 dX1_count_49 (by decide) ?_
          refine z_pick [(0, .ref x), (1, .int cc), (2, .int (nI ((fC (fun a => decide (sa a = cc)) c) + 0))), (3, .ref r1)] [2, 3, 0, 4] rfl ?_
          have e13 : (.int (nI ((fC (fun a => decide (sa a = cc)) c) + 0)) : Value) = .int (nI (fC (fun a => decide (sa a = cc)) (c + 1))) := (congrArg (fun n => Value.int (nI n)) (fC_f (show decide (sa c = cc) = false from decide_eq_false c39)).symm)
          refine z_lv (lv' := [(0, .ref x), (1, .int cc), (2, .int (nI (fC (fun a => decide (sa a = cc)) (c + 1)))), (3, .ref r1)]) (by rw [e13]) ?_
          exact ih_loop5 V11 (c + 1) (nI c) hun hn1 (by omega) (by omega)
        · skip
          refine z_iconst C (v := (nI 1)) dX1_count_42 rfl ?_
          refine z_goto C 47 dX1_count_43 (by decide) ?_
          refine z_iaddN C dX1_count_47 ?_
          refine z_istore_n C [(2, .int (nI ((fC (fun a => decide (sa a = cc)) c) + 1))), (4, .ref (aa c)), (0, .ref x), (1, .int cc), (3, .ref r1)] dX1_count_48 rfl (by decide) rfl ?_
          refine z_goto C 12 dX1_count_49 (by decide) ?_
          refine z_pick [(0, .ref x), (1, .int cc), (2, .int (nI ((fC (fun a => decide (sa a = cc)) c) + 1))), (3, .ref r1)] [2, 3, 0, 4] rfl ?_
          have e14 : (.int (nI ((fC (fun a => decide (sa a = cc)) c) + 1)) : Value) = .int (nI (fC (fun a => decide (sa a = cc)) (c + 1))) := (congrArg (fun n => Value.int (nI n)) (fC_t (show decide (sa c = cc) = true from decide_eq_true c39)).symm)
          refine z_lv (lv' := [(0, .ref x), (1, .int cc), (2, .int (nI (fC (fun a => decide (sa a = cc)) (c + 1)))), (3, .ref r1)]) (by rw [e14]) ?_
          exact ih_loop5 V11 (c + 1) (nI c) hun hn1 (by omega) (by omega)
  exact loop5 _ V2 0 (-1) hi3 hi1 (Nat.zero_le _) (Nat.lt_succ_self _)
set_option maxHeartbeats 4000000 in
set_option maxRecDepth 100000 in
theorem mX1_appointmentWith {l : Launch} {D : ZD} {V : ZV} {kk x y yb yh rr bb al t d cap : Nat} {fb : Nat → Option Nat} {fh fr : Nat → Int32} {fB : Nat → Option Nat} {ba : Nat → Nat} {hc : Nat → Int32} {uc : Nat → Nat} {fa : Nat → Option Nat} {ma : Int32} {aa sl : Nat → Nat} {Lb : List Nat} {Ct : List (Nat × Nat)} {mb : Int32} {kc : Nat → List Nat} {st : Nat} {rch : Nat → Nat} {bx : Nat} {wt : Nat → Nat} {ins : Nat → Bool} {hld : Nat → Int32} {unt : Nat → Nat} {Y : YD} {ap : Nat} {ab hr ln : Nat → Nat} {sa : Nat → Int32} {mv : Int32} {nw : Nat} {lf : Int64} (hX : V x = some (.inr (0, [.ref y, .ref rr, .ref bb, .ref al, .ref t, .int (nI st), .int (nI bx), .int (nI (fC ins bx)), .int mv, .int (nI nw), .long lf]))) (hY : cY D V y yb yh rr fb fh fr ba bx st rch Y) (hB : cB D V bb fB ba bx wt ins hld unt hc uc) (hA : cA D V al d cap fa ma ba ap ab hr ln sa aa sl) (hT : cT V t Lb Ct mb kc ap hr ln sa aa sl) (hI : qI kk (qS st rch bx wt ins hld unt Y ap ab hr ln sa mv nw lf)) {v1 : Int32} : ZM l D yX1_appointmentWith (ws_ yX1_appointmentWith cX1_appointmentWith 2 (some (.object "Quaylock$Appointment"))) 7 1 6 eR V [.ref x, .int v1] (fun r V' => V' = V ∧ vN v1 < ap ∧ r = aa (vN v1)) (fun E V' => E = "java/lang/IndexOutOfBoundsException" ∧ V' = V ∧ ¬ vN v1 < ap) := by
  refine z_enter (by decide +kernel) [(0, .ref x), (1, .int v1)] rfl (Nat.le_of_ble_eq_true rfl) (zcat_cons rfl (zcat_cons rfl zcat_nil)) (fun Γ C hQ => ?_)
  have hst : st ≤ 4 := hI.1.1
  have hbx : bx ≤ 20 := hI.1.2.1
  have hrc : ∀ s, s < st → rch s ≤ 4 := fun s hs => (hI.1.2.2.1 s hs).2
  have hwt : ∀ b, b < bx → wt b < 1000 := fun b hb => by have h9 : wt b ≤ 30 := (hI.1.2.2.2 b hb).2; omega
  have hg : yGood st bx ins Y := hI.2.1.1
  have hht : ∀ s, s < st → (Y s).length ≤ rch s := hI.2.1.2.1
  have hf8 : fC ins bx ≤ 8 := hI.2.1.2.2
  have hu1 : ∀ b, unt b ≤ 1000 := hI.2.2.1.2.1
  have hhl : ∀ b, b < bx → hld b = nI 45 ∨ hld b = nI 112 ∨ hld b = nI 108 := hI.2.2.1.2.2
  have hap : ap ≤ 30 := hI.2.2.2.1.1
  have haa : ∀ a, a < ap → ab a < bx ∧ hr a ≤ 999 ∧ ln a < 3 ∧ (sa a = nI 98 ∨ sa a = nI 99 ∨ sa a = nI 103 ∨ sa a = nI 100 ∨ sa a = nI 109) := hI.2.2.2.1.2.1
  have hnw : nw ≤ 999 := hI.2.2.2.2
  have hY4 : ∀ s, (Y s).length ≤ 4 := hg.1.1
  have hmm : ∀ s, ∀ c ∈ Y s, c < bx := fun s c hc => (hg.2.2 s c hc).1
  refine z_iload_n C 1 rfl dX1_appointmentWith_0 rfl ?_
  refine z_iconst C (v := (nI 0)) dX1_appointmentWith_1 rfl ?_
  refine z_aload_n C 0 rfl dX1_appointmentWith_2 rfl ?_
  refine z_get C k_Q hX 3 (by decide) rfl q188 dX1_appointmentWith_3 ?_
  refine z_callF C k_AL hA.1.1 (As := []) (mJ2_size hA.1) (lw_app (lw_in _ [1160, 1163, 949, 62] (by decide +kernel) (by decide +kernel)) (lw_meth q950)) zf_1 hdi_List_size rfl (Nat.le_of_ble_eq_true rfl) (by decide) (by decide) (by omega) (by omega) rfl dX1_appointmentWith_6 (fun _ _ h => h.elim) (fun r1 V2 hP3 => ?_)
  rw [hP3.1, hP3.2]
  refine z_st (st' := [.int (nI (((List.range ap).map aa).length)), .int (nI 0), .int v1]) rfl ?_
  refine z_top (v := .int (nI ap)) (by rw [rng_len]) ?_
  refine z_iconst C (v := (nI 1)) dX1_appointmentWith_11 rfl ?_
  refine z_isub C dX1_appointmentWith_12 ?_
  refine z_callS C (As := [.int v1, .int (nI 0), .int ((nI ap) - (nI 1))]) (mX1_isBetween) (lw_S q231 q232 q58 q233) hd_X1_isBetween rfl (Nat.le_of_ble_eq_true rfl) (by decide) (by decide) (by omega) (by omega) rfl dX1_appointmentWith_13 (fun _ _ h => h.elim) (fun r4 V5 hP6 => ?_)
  have hq7 : r4 = decide (0 ≤ vN v1 ∧ vN v1 < ap) := hP6.2.trans (in_lt (by omega) (by omega))
  rw [hP6.1, hq7]
  refine z_st (st' := [.int (zb (decide (0 ≤ vN v1 ∧ vN v1 < ap)))]) rfl ?_
  refine z_callS C (As := [.int (zb (decide (0 ≤ vN v1 ∧ vN v1 < ap)))]) (mX1_checkIndex) (lw_S q388 q389 q58 q390) hd_X1_checkIndex rfl (Nat.le_of_ble_eq_true rfl) (by decide) (by decide) (by omega) (by omega) rfl dX1_appointmentWith_16 (fun E V9 hE9 => ?_) (fun r8 V9 hP10 => ?_)
  · skip
    obtain ⟨rfl, rfl, hf11⟩ := hE9
    exact z_out C hQ (fun _ h => nomatch h) ⟨rfl, rfl, by simpa using hf11⟩ (by omega) (by omega)
  · skip
    obtain ⟨e9, hb12⟩ := hP10
    rw [e9]
    refine z_st (st' := []) rfl ?_
    have hal : vN v1 < ap := by simpa using hb12
    have hv13 := vN_of (v := v1) hal (by omega)
    have e14 : (.int v1 : Value) = .int (nI (vN v1)) := (congrArg Value.int hv13)
    refine z_lv (lv' := [(0, .ref x), (1, .int (nI (vN v1)))]) (by rw [e14]) ?_
    refine z_aload_n C 0 rfl dX1_appointmentWith_19 rfl ?_
    refine z_get C k_Q hX 3 (by decide) rfl q188 dX1_appointmentWith_20 ?_
    refine z_iload_n C 1 rfl dX1_appointmentWith_23 rfl ?_
    refine z_callF C k_AL hA.1.1 (As := [.int (nI (vN v1))]) (mJ2_get hA.1 (rng_at hal)) (lw_app (lw_in _ [1226, 1229, 1231, 62] (by decide +kernel) (by decide +kernel)) (lw_meth q1233)) zf_3 hdi_List_get rfl (Nat.le_of_ble_eq_true rfl) (by decide) (by decide) (by omega) (by omega) rfl dX1_appointmentWith_24 (fun _ _ h => h.elim) (fun r15 V16 hP17 => ?_)
    rw [hP17.1, hP17.2]
    refine z_st (st' := [.ref (aa (vN v1))]) rfl ?_
    refine z_ccast C k_A (hA.2.1 (vN v1) hal) q609 (Or.inl rfl) dX1_appointmentWith_29 ?_
    exact z_aret C hQ (aa (vN v1)) rfl (Or.inl ⟨_, rfl⟩) ⟨rfl, hal, rfl⟩ (by omega) (by omega) dX1_appointmentWith_32
set_option maxHeartbeats 4000000 in
set_option maxRecDepth 100000 in
theorem mX1_doneShare {l : Launch} {D : ZD} {V : ZV} {x kk : Nat} {st : Nat} {rch : Nat → Nat} {bx : Nat} {wt : Nat → Nat} {ins : Nat → Bool} {hld : Nat → Int32} {unt : Nat → Nat} {Y : YD} {ap : Nat} {ab hr ln : Nat → Nat} {sa : Nat → Int32} {mv : Int32} {nw : Nat} {lf : Int64} (hC : cR D V x (qS st rch bx wt ins hld unt Y ap ab hr ln sa mv nw lf)) (hI : qI kk (qS st rch bx wt ins hld unt Y ap ab hr ln sa mv nw lf)) : ZM l D yX1_doneShare (ws_ yX1_doneShare cX1_doneShare 3 (some .float)) 8 4 18 eF V [.ref x] (fun r V' => (oShare (qS st rch bx wt ins hld unt Y ap ab hr ln sa mv nw lf)).1 = 0 ∧ r = (oShare (qS st rch bx wt ins hld unt Y ap ab hr ln sa mv nw lf)).2 ∧ cR D V' x (qS st rch bx wt ins hld unt Y ap ab hr ln sa mv nw lf)) (fun E V' => ∃ k, (["java/util/NoSuchElementException"] : List String)[k]? = some E ∧ (oShare (qS st rch bx wt ins hld unt Y ap ab hr ln sa mv nw lf)).1 = k + 1 ∧ cR D V' x (qS st rch bx wt ins hld unt Y ap ab hr ln sa mv nw lf)) := by
  refine z_enter (by decide +kernel) [(0, .ref x)] rfl (Nat.le_of_ble_eq_true rfl) (zcat_cons rfl zcat_nil) (fun Γ C hQ => ?_)
  have hC0 := hC
  obtain ⟨y, yb, yh, rr, bb, al, t, d, cap, fb, fh, fr, fB, ba, hc, uc, fa, ma, aa, sl, Lb, Ct, mb, kc, hX, hY, hB, hA, hT⟩ := hC
  have hX : V x = some (.inr (0, [.ref y, .ref rr, .ref bb, .ref al, .ref t, .int (nI st), .int (nI bx), .int (nI (fC ins bx)), .int mv, .int (nI nw), .long lf])) := hX
  have hY : cY D V y yb yh rr fb fh fr ba bx st rch Y := hY
  have hB : cB D V bb fB ba bx wt ins hld unt hc uc := hB
  have hA : cA D V al d cap fa ma ba ap ab hr ln sa aa sl := hA
  have hT : cT V t Lb Ct mb kc ap hr ln sa aa sl := hT
  have hst : st ≤ 4 := hI.1.1
  have hbx : bx ≤ 20 := hI.1.2.1
  have hrc : ∀ s, s < st → rch s ≤ 4 := fun s hs => (hI.1.2.2.1 s hs).2
  have hwt : ∀ b, b < bx → wt b < 1000 := fun b hb => by have h9 : wt b ≤ 30 := (hI.1.2.2.2 b hb).2; omega
  have hg : yGood st bx ins Y := hI.2.1.1
  have hht : ∀ s, s < st → (Y s).length ≤ rch s := hI.2.1.2.1
  have hf8 : fC ins bx ≤ 8 := hI.2.1.2.2
  have hu1 : ∀ b, unt b ≤ 1000 := hI.2.2.1.2.1
  have hhl : ∀ b, b < bx → hld b = nI 45 ∨ hld b = nI 112 ∨ hld b = nI 108 := hI.2.2.1.2.2
  have hap : ap ≤ 30 := hI.2.2.2.1.1
  have haa : ∀ a, a < ap → ab a < bx ∧ hr a ≤ 999 ∧ ln a < 3 ∧ (sa a = nI 98 ∨ sa a = nI 99 ∨ sa a = nI 103 ∨ sa a = nI 100 ∨ sa a = nI 109) := hI.2.2.2.1.2.1
  have hnw : nw ≤ 999 := hI.2.2.2.2
  have hY4 : ∀ s, (Y s).length ≤ 4 := hg.1.1
  have hmm : ∀ s, ∀ c ∈ Y s, c < bx := fun s c hc => (hg.2.2 s c hc).1
  have hb1 := fC_le (fun a => decide (sa a = nI 100)) ap
  have hb2 := fC_le (fun a => decide (sa a = nI 109)) ap
  have hb3 := fC_le (fun a => decide (sa a = nI 103)) ap
  have hq1 : qCnt (qS st rch bx wt ins hld unt Y ap ab hr ln sa mv nw lf) (nI 100) ≤ 30 := Nat.le_trans hb1 hap
  have hq2 : qCnt (qS st rch bx wt ins hld unt Y ap ab hr ln sa mv nw lf) (nI 109) ≤ 30 := Nat.le_trans hb2 hap
  have hq3 : qCnt (qS st rch bx wt ins hld unt Y ap ab hr ln sa mv nw lf) (nI 103) ≤ 30 := Nat.le_trans hb3 hap
  refine z_aload_n C 0 rfl dX1_doneShare_0 rfl ?_
  refine z_bipush C (v := (nI 100)) dX1_doneShare_1 rfl ?_
  refine z_callV C k_Q hX (As := [.int (nI 100)]) (mX1_count hX hY hB hA hT hI (cc := (nI 100))) (lw_V q1377 q1379 qs30 q58 q1380) rfl hd_X1_count rfl (Nat.le_of_ble_eq_true rfl) (by decide) (by decide) (by omega) (by omega) rfl dX1_doneShare_3 (fun _ _ h => h.elim) (fun r1 V2 hP3 => ?_)
  obtain ⟨hu5, hcn4⟩ := hP3
  rw [hcn4]
  refine z_st (st' := [.int (nI (qCnt (qS st rch bx wt ins hld unt Y ap ab hr ln sa mv nw lf) (nI 100)))]) rfl ?_
  refine z_istore_n C [(1, .int (nI (qCnt (qS st rch bx wt ins hld unt Y ap ab hr ln sa mv nw lf) (nI 100)))), (0, .ref x)] dX1_doneShare_6 rfl (by decide) rfl ?_
  refine z_iload_n C 0 rfl dX1_doneShare_7 rfl ?_
  refine z_aload_n C 1 rfl dX1_doneShare_8 rfl ?_
  refine z_bipush C (v := (nI 109)) dX1_doneShare_9 rfl ?_
  refine z_callV C k_Q (hu5.get (fun h => h) hX) (As := [.int (nI 109)]) (mX1_count (hu5.get (fun h => h) hX) (hY.mv hu5 no_k) (hB.mv hu5 no_k) (hA.mv hu5 no_k) (hT.mv hu5 no_k) hI (cc := (nI 109))) (lw_V q1377 q1379 qs30 q58 q1380) rfl hd_X1_count rfl (Nat.le_of_ble_eq_true rfl) (by decide) (by decide) (by omega) (by omega) rfl dX1_doneShare_11 (fun _ _ h => h.elim) (fun r6 V7 hP8 => ?_)
  obtain ⟨hu10, hcn9⟩ := hP8
  rw [hcn9]
  refine z_st (st' := [.int (nI (qCnt (qS st rch bx wt ins hld unt Y ap ab hr ln sa mv nw lf) (nI 109))), .int (nI (qCnt (qS st rch bx wt ins hld unt Y ap ab hr ln sa mv nw lf) (nI 100)))]) rfl ?_
  have hun11 := zUnc.tr hu5 hu10 (fun _ h => h.elim)
  refine z_iaddN C dX1_doneShare_14 ?_
  refine z_aload_n C 1 rfl dX1_doneShare_15 rfl ?_
  refine z_bipush C (v := (nI 103)) dX1_doneShare_16 rfl ?_
  refine z_callV C k_Q (hun11.get (fun h => h) hX) (As := [.int (nI 103)]) (mX1_count (hun11.get (fun h => h) hX) (hY.mv hun11 no_k) (hB.mv hun11 no_k) (hA.mv hun11 no_k) (hT.mv hun11 no_k) hI (cc := (nI 103))) (lw_V q1377 q1379 qs30 q58 q1380) rfl hd_X1_count rfl (Nat.le_of_ble_eq_true rfl) (by decide) (by decide) (by omega) (by omega) rfl dX1_doneShare_18 (fun _ _ h => h.elim) (fun r12 V13 hP14 => ?_)
  obtain ⟨hu16, hcn15⟩ := hP14
  rw [hcn15]
  refine z_st (st' := [.int (nI (qCnt (qS st rch bx wt ins hld unt Y ap ab hr ln sa mv nw lf) (nI 103))), .int (nI ((qCnt (qS st rch bx wt ins hld unt Y ap ab hr ln sa mv nw lf) (nI 100)) + (qCnt (qS st rch bx wt ins hld unt Y ap ab hr ln sa mv nw lf) (nI 109))))]) rfl ?_
  have hun17 := zUnc.tr hun11 hu16 (fun _ h => h.elim)
  refine z_iaddN C dX1_doneShare_21 ?_
  refine z_istore_n C [(2, .int (nI (((qCnt (qS st rch bx wt ins hld unt Y ap ab hr ln sa mv nw lf) (nI 100)) + (qCnt (qS st rch bx wt ins hld unt Y ap ab hr ln sa mv nw lf) (nI 109))) + (qCnt (qS st rch bx wt ins hld unt Y ap ab hr ln sa mv nw lf) (nI 103))))), (1, .int (nI (qCnt (qS st rch bx wt ins hld unt Y ap ab hr ln sa mv nw lf) (nI 100)))), (0, .ref x)] dX1_doneShare_22 rfl (by decide) rfl ?_
  refine z_iload_n C 0 rfl dX1_doneShare_23 rfl ?_
  refine z_if_leN C 31 (by omega) dX1_doneShare_24 (by decide) (fun c24 => ?_) (fun c24 => ?_)
  · skip
    refine z_iconst C (v := (nI 0)) dX1_doneShare_31 rfl ?_
    refine z_st (st' := [.int (zb false)]) rfl ?_
    refine z_callS C (As := [.int (zb false)]) (mX1_checkElement) (lw_S q525 q526 q58 q527) hd_X1_checkElement rfl (Nat.le_of_ble_eq_true rfl) (by decide) (by decide) (by omega) (by omega) rfl dX1_doneShare_32 (fun E V9 hE9 => ?_) (fun r18 V19 hP20 => ?_)
    · skip
      obtain ⟨rfl, rfl, hf21⟩ := hE9
      exact z_out C hQ (fun _ h => nomatch h) ⟨0, rfl, by unfold oShare; rw [if_pos (by have h9 := c24; omega)], (show cR D _ x (qS st rch bx wt ins hld unt Y ap ab hr ln sa mv nw lf) from ⟨_, _, _, _, _, _, _, _, _, _, _, _, _, _, _, _, _, _, _, _, _, _, _, _, (hun17.get (fun h => h) hX), (hY.mv hun17 no_k), (hB.mv hun17 no_k), (hA.mv hun17 no_k), (hT.mv hun17 no_k)⟩)⟩ (by omega) (by omega)
    · skip
      obtain ⟨-, hb⟩ := hP20
      cases hb
  · skip
    refine z_iconst C (v := (nI 1)) dX1_doneShare_27 rfl ?_
    refine z_goto C 32 dX1_doneShare_28 (by decide) ?_
    refine z_st (st' := [.int (zb true)]) rfl ?_
    refine z_callS C (As := [.int (zb true)]) (mX1_checkElement) (lw_S q525 q526 q58 q527) hd_X1_checkElement rfl (Nat.le_of_ble_eq_true rfl) (by decide) (by decide) (by omega) (by omega) rfl dX1_doneShare_32 (fun E V9 hE9 => ?_) (fun r22 V23 hP24 => ?_)
    · skip
      obtain ⟨-, -, hf⟩ := hE9
      cases hf
    · skip
      obtain ⟨e9, hb25⟩ := hP24
      rw [e9]
      refine z_st (st' := []) rfl ?_
      refine z_iload_n C 1 rfl dX1_doneShare_35 rfl ?_
      refine z_i2f C dX1_doneShare_36 ?_
      refine z_iload_n C 0 rfl dX1_doneShare_37 rfl ?_
      refine z_i2f C dX1_doneShare_38 ?_
      refine z_fdiv C dX1_doneShare_39 (share_ok _ (by omega) _ (by omega) (by omega)) ?_
      have e1 : oShare (qS st rch bx wt ins hld unt Y ap ab hr ln sa mv nw lf) = (0, FP.fdiv (FP.i2f (nI (qCnt (qS st rch bx wt ins hld unt Y ap ab hr ln sa mv nw lf) (nI 100)))) (FP.i2f (nI (((qCnt (qS st rch bx wt ins hld unt Y ap ab hr ln sa mv nw lf) (nI 100)) + (qCnt (qS st rch bx wt ins hld unt Y ap ab hr ln sa mv nw lf) (nI 109))) + (qCnt (qS st rch bx wt ins hld unt Y ap ab hr ln sa mv nw lf) (nI 103)))))) := by unfold oShare; rw [if_neg (by have h9 := c24; omega)]
      exact z_fret C hQ (FP.fdiv (FP.i2f (nI (qCnt (qS st rch bx wt ins hld unt Y ap ab hr ln sa mv nw lf) (nI 100)))) (FP.i2f (nI (((qCnt (qS st rch bx wt ins hld unt Y ap ab hr ln sa mv nw lf) (nI 100)) + (qCnt (qS st rch bx wt ins hld unt Y ap ab hr ln sa mv nw lf) (nI 109))) + (qCnt (qS st rch bx wt ins hld unt Y ap ab hr ln sa mv nw lf) (nI 103)))))) rfl ⟨by rw [e1], by rw [e1], (show cR D _ x (qS st rch bx wt ins hld unt Y ap ab hr ln sa mv nw lf) from ⟨_, _, _, _, _, _, _, _, _, _, _, _, _, _, _, _, _, _, _, _, _, _, _, _, (hun17.get (fun h => h) hX), (hY.mv hun17 no_k), (hB.mv hun17 no_k), (hA.mv hun17 no_k), (hT.mv hun17 no_k)⟩)⟩ (by omega) (by omega) dX1_doneShare_40
set_option maxHeartbeats 4000000 in
set_option maxRecDepth 100000 in
theorem mX1_appointmentOf {l : Launch} {D : ZD} {V : ZV} {x kk : Nat} {st : Nat} {rch : Nat → Nat} {bx : Nat} {wt : Nat → Nat} {ins : Nat → Bool} {hld : Nat → Int32} {unt : Nat → Nat} {Y : YD} {ap : Nat} {ab hr ln : Nat → Nat} {sa : Nat → Int32} {mv : Int32} {nw : Nat} {lf : Int64} (hC : cR D V x (qS st rch bx wt ins hld unt Y ap ab hr ln sa mv nw lf)) (hI : qI kk (qS st rch bx wt ins hld unt Y ap ab hr ln sa mv nw lf)) {v1 : Int32} : ZM l D yX1_appointmentOf (ws_ yX1_appointmentOf cX1_appointmentOf 3 (some .int)) 8 3 16 eI V [.ref x, .int v1] (fun r V' => (oAppOf (qS st rch bx wt ins hld unt Y ap ab hr ln sa mv nw lf) (vN v1)).1 = 0 ∧ r = (oAppOf (qS st rch bx wt ins hld unt Y ap ab hr ln sa mv nw lf) (vN v1)).2.1 ∧ cR D V' x (oAppOf (qS st rch bx wt ins hld unt Y ap ab hr ln sa mv nw lf) (vN v1)).2.2) (fun E V' => ∃ k, (["java/lang/IndexOutOfBoundsException", "java/util/NoSuchElementException"] : List String)[k]? = some E ∧ (oAppOf (qS st rch bx wt ins hld unt Y ap ab hr ln sa mv nw lf) (vN v1)).1 = k + 1 ∧ cR D V' x (qS st rch bx wt ins hld unt Y ap ab hr ln sa mv nw lf)) := by
  refine z_enter (by decide +kernel) [(0, .ref x), (1, .int v1)] rfl (Nat.le_of_ble_eq_true rfl) (zcat_cons rfl (zcat_cons rfl zcat_nil)) (fun Γ C hQ => ?_)
  have hC0 := hC
  obtain ⟨y, yb, yh, rr, bb, al, t, d, cap, fb, fh, fr, fB, ba, hc, uc, fa, ma, aa, sl, Lb, Ct, mb, kc, hX, hY, hB, hA, hT⟩ := hC
  have hX : V x = some (.inr (0, [.ref y, .ref rr, .ref bb, .ref al, .ref t, .int (nI st), .int (nI bx), .int (nI (fC ins bx)), .int mv, .int (nI nw), .long lf])) := hX
  have hY : cY D V y yb yh rr fb fh fr ba bx st rch Y := hY
  have hB : cB D V bb fB ba bx wt ins hld unt hc uc := hB
  have hA : cA D V al d cap fa ma ba ap ab hr ln sa aa sl := hA
  have hT : cT V t Lb Ct mb kc ap hr ln sa aa sl := hT
  have hst : st ≤ 4 := hI.1.1
  have hbx : bx ≤ 20 := hI.1.2.1
  have hrc : ∀ s, s < st → rch s ≤ 4 := fun s hs => (hI.1.2.2.1 s hs).2
  have hwt : ∀ b, b < bx → wt b < 1000 := fun b hb => by have h9 : wt b ≤ 30 := (hI.1.2.2.2 b hb).2; omega
  have hg : yGood st bx ins Y := hI.2.1.1
  have hht : ∀ s, s < st → (Y s).length ≤ rch s := hI.2.1.2.1
  have hf8 : fC ins bx ≤ 8 := hI.2.1.2.2
  have hu1 : ∀ b, unt b ≤ 1000 := hI.2.2.1.2.1
  have hhl : ∀ b, b < bx → hld b = nI 45 ∨ hld b = nI 112 ∨ hld b = nI 108 := hI.2.2.1.2.2
  have hap : ap ≤ 30 := hI.2.2.2.1.1
  have haa : ∀ a, a < ap → ab a < bx ∧ hr a ≤ 999 ∧ ln a < 3 ∧ (sa a = nI 98 ∨ sa a = nI 99 ∨ sa a = nI 103 ∨ sa a = nI 100 ∨ sa a = nI 109) := hI.2.2.2.1.2.1
  have hnw : nw ≤ 999 := hI.2.2.2.2
  have hY4 : ∀ s, (Y s).length ≤ 4 := hg.1.1
  have hmm : ∀ s, ∀ c ∈ Y s, c < bx := fun s c hc => (hg.2.2 s c hc).1
  refine z_aload_n C 0 rfl dX1_appointmentOf_0 rfl ?_
  refine z_aload_n C 0 rfl dX1_appointmentOf_1 rfl ?_
  refine z_iload_n C 1 rfl dX1_appointmentOf_2 rfl ?_
  refine z_callV C k_Q hX (As := [.int v1]) (mX1_boxWith hX hY hB hA hT hI) (lw_V q471 q473 qs3 q58 q474) rfl hd_X1_boxWith rfl (Nat.le_of_ble_eq_true rfl) (by decide) (by decide) (by omega) (by omega) rfl dX1_appointmentOf_3 (fun E V9 hE9 => ?_) (fun r1 V2 hP3 => ?_)
  · skip
    obtain ⟨rfl, rfl, hf4⟩ := hE9
    exact z_out C hQ (fun _ h => nomatch h) ⟨0, rfl, by unfold oAppOf; rw [if_pos hf4], hC0⟩ (by omega) (by omega)
  · skip
    obtain ⟨e9, hq9, e8⟩ := hP3
    rw [e9, e8]
    refine z_st (st' := [.ref (ba (vN v1)), .ref x]) rfl ?_
    obtain ⟨hbb, hbi⟩ := qIs_t (S := (qS st rch bx wt ins hld unt Y ap ab hr ln sa mv nw lf)) hq9
    have hbb : vN v1 < bx := hbb
    have hbi : ins (vN v1) = true := hbi
    refine z_callV C k_Q hX (As := [.ref (ba (vN v1))]) (mX1_bookedFor hX hY hB hA hT hI hbb) (lw_V q551 q553 qs4 q58 q554) rfl hd_X1_bookedFor rfl (Nat.le_of_ble_eq_true rfl) (by decide) (by decide) (by omega) (by omega) rfl dX1_appointmentOf_6 (fun _ _ h => h.elim) (fun r5 V6 hP7 => ?_)
    obtain ⟨hu9, hbk8⟩ := hP7
    rw [hbk8]
    refine z_st (st' := [va_rf ((qAin (qS st rch bx wt ins hld unt Y ap ab hr ln sa mv nw lf) (vN v1)).map aa)]) rfl ?_
    rcases hqa : qAin (qS st rch bx wt ins hld unt Y ap ab hr ln sa mv nw lf) (vN v1) with _ | a0
    · skip
      refine z_st (st' := [.null]) rfl ?_
      refine z_astore_nQ C (r := none) [(2, .null), (0, .ref x), (1, .int v1)] dX1_appointmentOf_9 rfl (by decide) rfl ?_
      refine z_aload_nQ C 0 (r := none) rfl dX1_appointmentOf_10 rfl ?_
      refine z_ifnull_n C 18 dX1_appointmentOf_11 (by decide) ?_
      refine z_iconst C (v := (nI 0)) dX1_appointmentOf_18 rfl ?_
      refine z_st (st' := [.int (zb false)]) rfl ?_
      refine z_callS C (As := [.int (zb false)]) (mX1_checkElement) (lw_S q525 q526 q58 q527) hd_X1_checkElement rfl (Nat.le_of_ble_eq_true rfl) (by decide) (by decide) (by omega) (by omega) rfl dX1_appointmentOf_19 (fun E V9 hE9 => ?_) (fun r10 V11 hP12 => ?_)
      · skip
        obtain ⟨rfl, rfl, hf13⟩ := hE9
        exact z_out C hQ (fun _ h => nomatch h) ⟨1, rfl, by unfold oAppOf; rw [if_neg (show ¬ qIs (qS st rch bx wt ins hld unt Y ap ab hr ln sa mv nw lf) (vN v1) = false by rw [hq9]; decide), hqa], (show cR D _ x (qS st rch bx wt ins hld unt Y ap ab hr ln sa mv nw lf) from ⟨_, _, _, _, _, _, _, _, _, _, _, _, _, _, _, _, _, _, _, _, _, _, _, _, (hu9.get (fun h => h) hX), (hY.mv hu9 no_k), (hB.mv hu9 no_k), (hA.mv hu9 no_k), (hT.mv hu9 no_k)⟩)⟩ (by omega) (by omega)
      · skip
        obtain ⟨-, hb⟩ := hP12
        cases hb
    · skip
      obtain ⟨ha1, ha2, ha3⟩ := qAin_some hqa
      have ha1 : a0 < ap := ha1
      refine z_st (st' := [.ref (aa a0)]) rfl ?_
      refine z_astore_n C [(2, .ref (aa a0)), (0, .ref x), (1, .int v1)] dX1_appointmentOf_9 rfl (by decide) rfl ?_
      refine z_aload_n C 0 rfl dX1_appointmentOf_10 rfl ?_
      refine z_ifnull_r C dX1_appointmentOf_11 ?_
      refine z_iconst C (v := (nI 1)) dX1_appointmentOf_14 rfl ?_
      refine z_goto C 19 dX1_appointmentOf_15 (by decide) ?_
      refine z_st (st' := [.int (zb true)]) rfl ?_
      refine z_callS C (As := [.int (zb true)]) (mX1_checkElement) (lw_S q525 q526 q58 q527) hd_X1_checkElement rfl (Nat.le_of_ble_eq_true rfl) (by decide) (by decide) (by omega) (by omega) rfl dX1_appointmentOf_19 (fun E V9 hE9 => ?_) (fun r14 V15 hP16 => ?_)
      · skip
        obtain ⟨-, -, hf⟩ := hE9
        cases hf
      · skip
        obtain ⟨e9, hb17⟩ := hP16
        rw [e9]
        refine z_st (st' := []) rfl ?_
        refine z_aload_n C 0 rfl dX1_appointmentOf_22 rfl ?_
        refine z_getN C k_A ((hA.mv hu9 no_k).2.1 a0 ha1) 0 (by decide) rfl q1172 dX1_appointmentOf_23 ?_
        exact z_iret C hQ (nI a0) rfl ⟨by unfold oAppOf; rw [if_neg (show ¬ qIs (qS st rch bx wt ins hld unt Y ap ab hr ln sa mv nw lf) (vN v1) = false by rw [hq9]; decide), hqa], by unfold oAppOf; rw [if_neg (show ¬ qIs (qS st rch bx wt ins hld unt Y ap ab hr ln sa mv nw lf) (vN v1) = false by rw [hq9]; decide), hqa], by unfold oAppOf; rw [if_neg (show ¬ qIs (qS st rch bx wt ins hld unt Y ap ab hr ln sa mv nw lf) (vN v1) = false by rw [hq9]; decide), hqa]; exact (show cR D _ x (qS st rch bx wt ins hld unt Y ap ab hr ln sa mv nw lf) from ⟨_, _, _, _, _, _, _, _, _, _, _, _, _, _, _, _, _, _, _, _, _, _, _, _, (hu9.get (fun h => h) hX), (hY.mv hu9 no_k), (hB.mv hu9 no_k), (hA.mv hu9 no_k), (hT.mv hu9 no_k)⟩)⟩ (by omega) (by omega) dX1_appointmentOf_26
set_option maxHeartbeats 4000000 in
set_option maxRecDepth 100000 in
theorem mX1_inLane {l : Launch} {D : ZD} {V : ZV} {x kk : Nat} {st : Nat} {rch : Nat → Nat} {bx : Nat} {wt : Nat → Nat} {ins : Nat → Bool} {hld : Nat → Int32} {unt : Nat → Nat} {Y : YD} {ap : Nat} {ab hr ln : Nat → Nat} {sa : Nat → Int32} {mv : Int32} {nw : Nat} {lf : Int64} (hC : cR D V x (qS st rch bx wt ins hld unt Y ap ab hr ln sa mv nw lf)) (hI : qI kk (qS st rch bx wt ins hld unt Y ap ab hr ln sa mv nw lf)) {v1 v2 : Int32} : ZM l D yX1_inLane (ws_ yX1_inLane cX1_inLane 4 (some .int)) 8 3 14 eI V [.ref x, .int v1, .int v2] (fun r V' => (oInLane (qS st rch bx wt ins hld unt Y ap ab hr ln sa mv nw lf) (vN v1) (vN v2)).1 = 0 ∧ r = (oInLane (qS st rch bx wt ins hld unt Y ap ab hr ln sa mv nw lf) (vN v1) (vN v2)).2.1 ∧ cR D V' x (oInLane (qS st rch bx wt ins hld unt Y ap ab hr ln sa mv nw lf) (vN v1) (vN v2)).2.2) (fun E V' => ∃ k, (["java/lang/IndexOutOfBoundsException", "java/lang/IllegalArgumentException"] : List String)[k]? = some E ∧ (oInLane (qS st rch bx wt ins hld unt Y ap ab hr ln sa mv nw lf) (vN v1) (vN v2)).1 = k + 1 ∧ cR D V' x (qS st rch bx wt ins hld unt Y ap ab hr ln sa mv nw lf)) := by
  refine z_enter (by decide +kernel) [(0, .ref x), (1, .int v1), (2, .int v2)] rfl (Nat.le_of_ble_eq_true rfl) (zcat_cons rfl (zcat_cons rfl (zcat_cons rfl zcat_nil))) (fun Γ C hQ => ?_)
  have hC0 := hC
  obtain ⟨y, yb, yh, rr, bb, al, t, d, cap, fb, fh, fr, fB, ba, hc, uc, fa, ma, aa, sl, Lb, Ct, mb, kc, hX, hY, hB, hA, hT⟩ := hC
  have hX : V x = some (.inr (0, [.ref y, .ref rr, .ref bb, .ref al, .ref t, .int (nI st), .int (nI bx), .int (nI (fC ins bx)), .int mv, .int (nI nw), .long lf])) := hX
  have hY : cY D V y yb yh rr fb fh fr ba bx st rch Y := hY
  have hB : cB D V bb fB ba bx wt ins hld unt hc uc := hB
  have hA : cA D V al d cap fa ma ba ap ab hr ln sa aa sl := hA
  have hT : cT V t Lb Ct mb kc ap hr ln sa aa sl := hT
  have hst : st ≤ 4 := hI.1.1
  have hbx : bx ≤ 20 := hI.1.2.1
  have hrc : ∀ s, s < st → rch s ≤ 4 := fun s hs => (hI.1.2.2.1 s hs).2
  have hwt : ∀ b, b < bx → wt b < 1000 := fun b hb => by have h9 : wt b ≤ 30 := (hI.1.2.2.2 b hb).2; omega
  have hg : yGood st bx ins Y := hI.2.1.1
  have hht : ∀ s, s < st → (Y s).length ≤ rch s := hI.2.1.2.1
  have hf8 : fC ins bx ≤ 8 := hI.2.1.2.2
  have hu1 : ∀ b, unt b ≤ 1000 := hI.2.2.1.2.1
  have hhl : ∀ b, b < bx → hld b = nI 45 ∨ hld b = nI 112 ∨ hld b = nI 108 := hI.2.2.1.2.2
  have hap : ap ≤ 30 := hI.2.2.2.1.1
  have haa : ∀ a, a < ap → ab a < bx ∧ hr a ≤ 999 ∧ ln a < 3 ∧ (sa a = nI 98 ∨ sa a = nI 99 ∨ sa a = nI 103 ∨ sa a = nI 100 ∨ sa a = nI 109) := hI.2.2.2.1.2.1
  have hnw : nw ≤ 999 := hI.2.2.2.2
  have hY4 : ∀ s, (Y s).length ≤ 4 := hg.1.1
  have hmm : ∀ s, ∀ c ∈ Y s, c < bx := fun s c hc => (hg.2.2 s c hc).1
  refine z_iload_n C 1 rfl dX1_inLane_0 rfl ?_
  refine z_callS C (As := [.int v1]) (mX1_checkLane) (lw_S q1138 q1139 q58 q1140) hd_X1_checkLane rfl (Nat.le_of_ble_eq_true rfl) (by decide) (by decide) (by omega) (by omega) rfl dX1_inLane_1 (fun E V9 hE9 => ?_) (fun r1 V2 hP3 => ?_)
  · skip
    obtain ⟨rfl, rfl, hf4⟩ := hE9
    exact z_out C hQ (fun _ h => nomatch h) ⟨0, rfl, by unfold oInLane; rw [if_pos hf4], hC0⟩ (by omega) (by omega)
  · skip
    obtain ⟨e9, hl9⟩ := hP3
    rw [e9]
    refine z_st (st' := []) rfl ?_
    have hl9b : vN v1 < 3 := by omega
    have hv5 := vN_of (v := v1) hl9b (by omega)
    have e6 : (.int v1 : Value) = .int (nI (vN v1)) := (congrArg Value.int hv5)
    refine z_lv (lv' := [(0, .ref x), (1, .int (nI (vN v1))), (2, .int v2)]) (by rw [e6]) ?_
    refine z_iload_n C 2 rfl dX1_inLane_4 rfl ?_
    refine z_iconst C (v := (nI 0)) dX1_inLane_5 rfl ?_
    refine z_sipush C (v := (nI 999)) dX1_inLane_6 rfl ?_
    refine z_callS C (As := [.int v2, .int (nI 0), .int (nI 999)]) (mX1_isBetween) (lw_S q231 q232 q58 q233) hd_X1_isBetween rfl (Nat.le_of_ble_eq_true rfl) (by decide) (by decide) (by omega) (by omega) rfl dX1_inLane_9 (fun _ _ h => h.elim) (fun r7 V8 hP9 => ?_)
    have hq10 : r7 = decide (0 ≤ vN v2 ∧ vN v2 ≤ 999) := hP9.2.trans (in_le (by omega) (by omega))
    rw [hP9.1, hq10]
    refine z_st (st' := [.int (zb (decide (0 ≤ vN v2 ∧ vN v2 ≤ 999)))]) rfl ?_
    refine z_callS C (As := [.int (zb (decide (0 ≤ vN v2 ∧ vN v2 ≤ 999)))]) (mX1_checkArgument) (lw_S q255 q256 q58 q257) hd_X1_checkArgument rfl (Nat.le_of_ble_eq_true rfl) (by decide) (by decide) (by omega) (by omega) rfl dX1_inLane_12 (fun E V9 hE9 => ?_) (fun r11 V12 hP13 => ?_)
    · skip
      obtain ⟨rfl, rfl, hf14⟩ := hE9
      exact z_out C hQ (fun _ h => nomatch h) ⟨1, rfl, by unfold oInLane; rw [if_neg (fun h => h hl9), if_neg (show ¬ vN v2 ≤ 999 by simpa using hf14)], hC0⟩ (by omega) (by omega)
    · skip
      obtain ⟨e9, hb15⟩ := hP13
      rw [e9]
      refine z_st (st' := []) rfl ?_
      have hh9 : vN v2 ≤ 999 := by simpa using hb15
      have hh8 : vN v2 < 1000 := by omega
      have hv16 := vN_of (v := v2) hh8 (by omega)
      have e17 : (.int v2 : Value) = .int (nI (vN v2)) := (congrArg Value.int hv16)
      refine z_lv (lv' := [(0, .ref x), (1, .int (nI (vN v1))), (2, .int (nI (vN v2)))]) (by rw [e17]) ?_
      have hU18 : zUnc V V (fun _ => False) := zUnc.rf
      refine z_aload_n C 0 rfl dX1_inLane_15 rfl ?_
      refine z_get C k_Q hX 4 (by decide) rfl q189 dX1_inLane_16 ?_
      refine z_new C k_S q1141 q1142 q91 [.int (nI 0), .int (nI 0)] k0_S (by simp only [zr]; omega) (by simp only [zr]; omega) dX1_inLane_19 (fun q19 hq20 => z_nV (fun V21 hV22 => ?_))
      have hY23 := hY.mv (nw_u hV22 hq20) no_k
      have hB24 := hB.mv (nw_u hV22 hq20) no_k
      have hA25 := hA.mv (nw_u hV22 hq20) no_k
      have hT26 := hT.mv (nw_u hV22 hq20) no_k
      have hf28 := zUnc.none hU18 (fun h => h) hq20
      have hU27 := zUnc.new hU18 hV22 hq20
      have g29 := zup hV22 (zne_new hX hq20) hX
      have g30 : V21 q19 = some (.inr (6, [.int (nI 0), .int (nI 0)])) := zself hV22
      refine z_dup C dX1_inLane_22 rfl ?_
      refine z_iload_n C 2 rfl dX1_inLane_23 rfl ?_
      refine z_iload_n C 1 rfl dX1_inLane_24 rfl ?_
      refine z_callI C (rt := none) (As := [.int (nI (vN v2)), .int (nI (vN v1))]) (mX7_init g30) q1145 q91 q1143 q1144 rfl hd_X7_init rfl (Nat.le_of_ble_eq_true rfl) (by decide) (by decide) (by omega) (by omega) rfl dX1_inLane_25 (fun _ _ h => h.elim) (fun r31 V32 hP33 => ?_)
      obtain ⟨hsl34, hu35⟩ := hP33
      refine z_st (st' := [.ref q19, .ref t]) rfl ?_
      have hun36 := zUnc.tr hU27 hu35 (fun a h => Or.inr (by rw [show a = q19 from h]; exact hf28))
      obtain ⟨ft37, ht38⟩ := (hT.mv hun36 no_k).1.ob
      refine z_callV C k_TM ht38 (As := [.ref q19]) (mJ4_get_S (hT.mv hun36 no_k).1 hsl34 (cT_cmp (hA.mv hun36 no_k).2.2 (hT.mv hun36 no_k) (fun a ha => ⟨by have := (haa a ha).2.1; omega, by have := (haa a ha).2.2.1; omega⟩) hsl34 (by omega) (by omega)) (hT.mv hun36 no_k).2.1) (lw_V q1266 q978 q1694 q64 q980) rfl hd_J4_get rfl (Nat.le_of_ble_eq_true rfl) (by decide) (by decide) (by omega) (by omega) rfl dX1_inLane_28 (fun _ _ h => h.elim) (fun r39 V40 hP41 => ?_)
      have hbn42 := bin_get (hT.mv hun36 no_k) hI.2.2.2.1.2.2.2 hP41.2
      rw [hP41.1, hbn42]
      have hqb : (fF (fun a => decide (ln a = vN v1) && (decide (hr a = vN v2) && decide (sa a = nI 98))) ap) = qBin (qS st rch bx wt ins hld unt Y ap ab hr ln sa mv nw lf) (vN v1) (vN v2) := rfl
      rw [hqb]
      refine z_st (st' := [va_rf ((qBin (qS st rch bx wt ins hld unt Y ap ab hr ln sa mv nw lf) (vN v1) (vN v2)).map aa)]) rfl ?_
      rcases hq : qBin (qS st rch bx wt ins hld unt Y ap ab hr ln sa mv nw lf) (vN v1) (vN v2) with _ | a0
      · skip
        refine z_st (st' := [.null]) rfl ?_
        refine z_castN C dX1_inLane_31 ?_
        refine z_astore_nQ C (r := none) [(3, .null), (0, .ref x), (1, .int (nI (vN v1))), (2, .int (nI (vN v2)))] dX1_inLane_34 rfl (by decide) rfl ?_
        refine z_aload_nQ C 0 (r := none) rfl dX1_inLane_35 rfl ?_
        refine z_ifnonnull_n C dX1_inLane_36 ?_
        refine z_iconst C (v := (-1)) dX1_inLane_39 rfl ?_
        refine z_goto C 47 dX1_inLane_40 (by decide) ?_
        have e1 : oInLane (qS st rch bx wt ins hld unt Y ap ab hr ln sa mv nw lf) (vN v1) (vN v2) = (0, (-1), (qS st rch bx wt ins hld unt Y ap ab hr ln sa mv nw lf)) := by unfold oInLane; rw [if_neg (fun h => h hl9), if_pos hh9, hq]; rfl
        exact z_iret C hQ (-1) rfl ⟨by rw [e1], by rw [e1], by rw [e1]; exact (show cR D _ x (qS st rch bx wt ins hld unt Y ap ab hr ln sa mv nw lf) from ⟨_, _, _, _, _, _, _, _, _, _, _, _, _, _, _, _, _, _, _, _, _, _, _, _, (hun36.get (fun h => h) hX), (hY.mv hun36 no_k), (hB.mv hun36 no_k), (hA.mv hun36 no_k), (hT.mv hun36 no_k)⟩)⟩ (by omega) (by omega) dX1_inLane_47
      · skip
        obtain ⟨ha1, ha2, ha3, ha4⟩ := qBin_some hq
        have ha1 : a0 < ap := ha1
        refine z_st (st' := [.ref (aa a0)]) rfl ?_
        refine z_ccast C k_A ((hA.mv hun36 no_k).2.1 a0 ha1) q609 (Or.inl rfl) dX1_inLane_31 ?_
        refine z_astore_n C [(3, .ref (aa a0)), (0, .ref x), (1, .int (nI (vN v1))), (2, .int (nI (vN v2)))] dX1_inLane_34 rfl (by decide) rfl ?_
        refine z_aload_n C 0 rfl dX1_inLane_35 rfl ?_
        refine z_ifnonnull_r C 43 dX1_inLane_36 (by decide) ?_
        refine z_aload_n C 0 rfl dX1_inLane_43 rfl ?_
        refine z_getN C k_A ((hA.mv hun36 no_k).2.1 a0 ha1) 0 (by decide) rfl q1172 dX1_inLane_44 ?_
        have e1 : oInLane (qS st rch bx wt ins hld unt Y ap ab hr ln sa mv nw lf) (vN v1) (vN v2) = (0, (nI a0), (qS st rch bx wt ins hld unt Y ap ab hr ln sa mv nw lf)) := by unfold oInLane; rw [if_neg (fun h => h hl9), if_pos hh9, hq]; rfl
        exact z_iret C hQ (nI a0) rfl ⟨by rw [e1], by rw [e1], by rw [e1]; exact (show cR D _ x (qS st rch bx wt ins hld unt Y ap ab hr ln sa mv nw lf) from ⟨_, _, _, _, _, _, _, _, _, _, _, _, _, _, _, _, _, _, _, _, _, _, _, _, (hun36.get (fun h => h) hX), (hY.mv hun36 no_k), (hB.mv hun36 no_k), (hA.mv hun36 no_k), (hT.mv hun36 no_k)⟩)⟩ (by omega) (by omega) dX1_inLane_47
set_option maxHeartbeats 4000000 in
set_option maxRecDepth 100000 in
theorem mX1_isFree {l : Launch} {D : ZD} {V : ZV} {kk x y yb yh rr bb al t d cap : Nat} {fb : Nat → Option Nat} {fh fr : Nat → Int32} {fB : Nat → Option Nat} {ba : Nat → Nat} {hc : Nat → Int32} {uc : Nat → Nat} {fa : Nat → Option Nat} {ma : Int32} {aa sl : Nat → Nat} {Lb : List Nat} {Ct : List (Nat × Nat)} {mb : Int32} {kc : Nat → List Nat} {st : Nat} {rch : Nat → Nat} {bx : Nat} {wt : Nat → Nat} {ins : Nat → Bool} {hld : Nat → Int32} {unt : Nat → Nat} {Y : YD} {ap : Nat} {ab hr ln : Nat → Nat} {sa : Nat → Int32} {mv : Int32} {nw : Nat} {lf : Int64} (hX : V x = some (.inr (0, [.ref y, .ref rr, .ref bb, .ref al, .ref t, .int (nI st), .int (nI bx), .int (nI (fC ins bx)), .int mv, .int (nI nw), .long lf]))) (hY : cY D V y yb yh rr fb fh fr ba bx st rch Y) (hB : cB D V bb fB ba bx wt ins hld unt hc uc) (hA : cA D V al d cap fa ma ba ap ab hr ln sa aa sl) (hT : cT V t Lb Ct mb kc ap hr ln sa aa sl) (hI : qI kk (qS st rch bx wt ins hld unt Y ap ab hr ln sa mv nw lf)) {h : Nat} (hh : h < 1000) : ZM l D yX1_isFree (ws_ yX1_isFree cX1_isFree 4 (some .boolean)) 5 3 6 eB V [.ref x, .int (nI h)] (fun r V' => zUnc V V' (fun _ => False) ∧ r = qFree (qS st rch bx wt ins hld unt Y ap ab hr ln sa mv nw lf) h) zno_x := by
  refine z_enter (by decide +kernel) [(0, .ref x), (1, .int (nI h))] rfl (Nat.le_of_ble_eq_true rfl) (zcat_cons rfl (zcat_cons rfl zcat_nil)) (fun Γ C hQ => ?_)
  have hst : st ≤ 4 := hI.1.1
  have hbx : bx ≤ 20 := hI.1.2.1
  have hrc : ∀ s, s < st → rch s ≤ 4 := fun s hs => (hI.1.2.2.1 s hs).2
  have hwt : ∀ b, b < bx → wt b < 1000 := fun b hb => by have h9 : wt b ≤ 30 := (hI.1.2.2.2 b hb).2; omega
  have hg : yGood st bx ins Y := hI.2.1.1
  have hht : ∀ s, s < st → (Y s).length ≤ rch s := hI.2.1.2.1
  have hf8 : fC ins bx ≤ 8 := hI.2.1.2.2
  have hu1 : ∀ b, unt b ≤ 1000 := hI.2.2.1.2.1
  have hhl : ∀ b, b < bx → hld b = nI 45 ∨ hld b = nI 112 ∨ hld b = nI 108 := hI.2.2.1.2.2
  have hap : ap ≤ 30 := hI.2.2.2.1.1
  have haa : ∀ a, a < ap → ab a < bx ∧ hr a ≤ 999 ∧ ln a < 3 ∧ (sa a = nI 98 ∨ sa a = nI 99 ∨ sa a = nI 103 ∨ sa a = nI 100 ∨ sa a = nI 109) := hI.2.2.2.1.2.1
  have hnw : nw ≤ 999 := hI.2.2.2.2
  have hY4 : ∀ s, (Y s).length ≤ 4 := hg.1.1
  have hmm : ∀ s, ∀ c ∈ Y s, c < bx := fun s c hc => (hg.2.2 s c hc).1
  have hU1 : zUnc V V (fun _ => False) := zUnc.rf
  refine z_iconst C (v := (nI 0)) dX1_isFree_0 rfl ?_
  refine z_istore_n C [(2, .int (nI 0)), (0, .ref x), (1, .int (nI h))] dX1_isFree_1 rfl (by decide) rfl ?_
  refine z_iconst C (v := (nI 0)) dX1_isFree_2 rfl ?_
  refine z_istore_n C [(3, .int (nI 0)), (2, .int (nI 0)), (0, .ref x), (1, .int (nI h))] dX1_isFree_3 rfl (by decide) rfl ?_
  refine z_iload_n C 0 rfl dX1_isFree_4 rfl ?_
  refine z_iconst C (v := (nI 3)) dX1_isFree_5 rfl ?_
  refine z_icmp_geN C 44 (by omega) (by omega) dX1_isFree_6 (by decide) (fun c6 => ?_) (fun c6 => ?_)
  · skip
    exfalso; omega
  · skip
    refine z_iload_n C 1 rfl dX1_isFree_9 rfl ?_
    refine z_if_neN C 32 (by omega) dX1_isFree_10 (by decide) (fun c10 => ?_) (fun c10 => ?_)
    · skip
      exfalso; omega
    · skip
      refine z_aload_n C 2 rfl dX1_isFree_13 rfl ?_
      refine z_get C k_Q hX 4 (by decide) rfl q189 dX1_isFree_14 ?_
      refine z_new C k_S q1141 q1142 q91 [.int (nI 0), .int (nI 0)] k0_S (by simp only [zr]; omega) (by simp only [zr]; omega) dX1_isFree_17 (fun q2 hq3 => z_nV (fun V4 hV5 => ?_))
      have hY6 := hY.mv (nw_u hV5 hq3) no_k
      have hB7 := hB.mv (nw_u hV5 hq3) no_k
      have hA8 := hA.mv (nw_u hV5 hq3) no_k
      have hT9 := hT.mv (nw_u hV5 hq3) no_k
      have hf11 := zUnc.none hU1 (fun h => h) hq3
      have hU10 := zUnc.new hU1 hV5 hq3
      have g12 := zup hV5 (zne_new hX hq3) hX
      have g13 : V4 q2 = some (.inr (6, [.int (nI 0), .int (nI 0)])) := zself hV5
      refine z_dup C dX1_isFree_20 rfl ?_
      refine z_iload_n C 3 rfl dX1_isFree_21 rfl ?_
      refine z_iload_n C 0 rfl dX1_isFree_22 rfl ?_
      refine z_callI C (rt := none) (As := [.int (nI h), .int (nI 0)]) (mX7_init g13) q1145 q91 q1143 q1144 rfl hd_X7_init rfl (Nat.le_of_ble_eq_true rfl) (by decide) (by decide) (by omega) (by omega) rfl dX1_isFree_23 (fun _ _ h => h.elim) (fun r14 V15 hP16 => ?_)
      obtain ⟨hsl17, hu18⟩ := hP16
      refine z_st (st' := [.ref q2, .ref t]) rfl ?_
      have hun19 := zUnc.tr hU10 hu18 (fun a h => Or.inr (by rw [show a = q2 from h]; exact hf11))
      obtain ⟨ft20, ht21⟩ := (hT.mv hun19 no_k).1.ob
      refine z_callV C k_TM ht21 (As := [.ref q2]) (mJ4_containsKey_S (hT.mv hun19 no_k).1 hsl17 (cT_cmp (hA.mv hun19 no_k).2.2 (hT.mv hun19 no_k) (fun a ha => ⟨by have := (haa a ha).2.1; omega, by have := (haa a ha).2.2.1; omega⟩) hsl17 (by omega) (by omega)) (hT.mv hun19 no_k).2.1) (lw_V q1155 q1156 q1157 q64 q1158) rfl hd_J4_containsKey rfl (Nat.le_of_ble_eq_true rfl) (by decide) (by decide) (by omega) (by omega) rfl dX1_isFree_26 (fun _ _ h => h.elim) (fun r22 V23 hP24 => ?_)
      have hbn25 := bin_has (hT.mv hun19 no_k) hI.2.2.2.1.2.2.2 hP24.2
      rw [hP24.1, hbn25]
      refine z_st (st' := [.int (zb (!(qBin (qS st rch bx wt ins hld unt Y ap ab hr ln sa mv nw lf) 0 h).isNone))]) rfl ?_
      refine z_if_neB C 36 dX1_isFree_29 (by decide) (fun c29 => ?_) (fun c29 => ?_)
      · skip
        refine z_iconst C (v := (nI 0)) dX1_isFree_36 rfl ?_
        refine z_istore_n C [(2, .int (nI 0)), (3, .int (nI 0)), (0, .ref x), (1, .int (nI h))] dX1_isFree_37 rfl (by decide) rfl ?_
        refine z_iincN C 1 1 [(3, .int (nI (0 + 1))), (2, .int (nI 0)), (0, .ref x), (1, .int (nI h))] rfl dX1_isFree_38 rfl (by decide) rfl ?_
        refine z_goto C 4 dX1_isFree_41 (by decide) ?_
        refine z_iload_n C 0 rfl dX1_isFree_4 rfl ?_
        refine z_iconst C (v := (nI 3)) dX1_isFree_5 rfl ?_
        refine z_icmp_geN C 44 (by omega) (by omega) dX1_isFree_6 (by decide) (fun c6_26 => ?_) (fun c6_26 => ?_)
        · skip
          exfalso; omega
        · skip
          refine z_iload_n C 1 rfl dX1_isFree_9 rfl ?_
          refine z_if_neN C 32 (by omega) dX1_isFree_10 (by decide) (fun c10_27 => ?_) (fun c10_27 => ?_)
          · skip
            exfalso; omega
          · skip
            refine z_aload_n C 2 rfl dX1_isFree_13 rfl ?_
            refine z_get C k_Q (hun19.get (fun h => h) hX) 4 (by decide) rfl q189 dX1_isFree_14 ?_
            refine z_new C k_S q1141 q1142 q91 [.int (nI 0), .int (nI 0)] k0_S (by simp only [zr]; omega) (by simp only [zr]; omega) dX1_isFree_17 (fun q28 hq29 => z_nV (fun V30 hV31 => ?_))
            have hY32 := (hY.mv hun19 no_k).mv (nw_u hV31 hq29) no_k
            have hB33 := (hB.mv hun19 no_k).mv (nw_u hV31 hq29) no_k
            have hA34 := (hA.mv hun19 no_k).mv (nw_u hV31 hq29) no_k
            have hT35 := (hT.mv hun19 no_k).mv (nw_u hV31 hq29) no_k
            have hf37 := zUnc.none hun19 (fun h => h) hq29
            have hU36 := zUnc.new hun19 hV31 hq29
            have g38 := zup hV31 (zne_new (hun19.get (fun h => h) hX) hq29) (hun19.get (fun h => h) hX)
            have nx39 : q2 ≠ q28 := (zne_new hsl17 hq29)
            have g40 := zup hV31 (zne_new hsl17 hq29) hsl17
            have g41 := zup hV31 (zne_new ht21 hq29) ht21
            have g42 : V30 q28 = some (.inr (6, [.int (nI 0), .int (nI 0)])) := zself hV31
            refine z_dup C dX1_isFree_20 rfl ?_
            refine z_iload_n C 3 rfl dX1_isFree_21 rfl ?_
            refine z_iload_n C 0 rfl dX1_isFree_22 rfl ?_
            refine z_callI C (rt := none) (As := [.int (nI h), .int (nI (0 + 1))]) (mX7_init g42) q1145 q91 q1143 q1144 rfl hd_X7_init rfl (Nat.le_of_ble_eq_true rfl) (by decide) (by decide) (by omega) (by omega) rfl dX1_isFree_23 (fun _ _ h => h.elim) (fun r43 V44 hP45 => ?_)
            obtain ⟨hsl46, hu47⟩ := hP45
            refine z_st (st' := [.ref q28, .ref t]) rfl ?_
            have hun48 := zUnc.tr hU36 hu47 (fun a h => Or.inr (by rw [show a = q28 from h]; exact hf37))
            obtain ⟨ft49, ht50⟩ := (hT.mv hun48 no_k).1.ob
            refine z_callV C k_TM ht50 (As := [.ref q28]) (mJ4_containsKey_S (hT.mv hun48 no_k).1 hsl46 (cT_cmp (hA.mv hun48 no_k).2.2 (hT.mv hun48 no_k) (fun a ha => ⟨by have := (haa a ha).2.1; omega, by have := (haa a ha).2.2.1; omega⟩) hsl46 (by omega) (by omega)) (hT.mv hun48 no_k).2.1) (lw_V q1155 q1156 q1157 q64 q1158) rfl hd_J4_containsKey rfl (Nat.le_of_ble_eq_true rfl) (by decide) (by decide) (by omega) (by omega) rfl dX1_isFree_26 (fun _ _ h => h.elim) (fun r51 V52 hP53 => ?_)
            have hbn54 := bin_has (hT.mv hun48 no_k) hI.2.2.2.1.2.2.2 hP53.2
            rw [hP53.1, hbn54]
            refine z_st (st' := [.int (zb (!(qBin (qS st rch bx wt ins hld unt Y ap ab hr ln sa mv nw lf) (0 + 1) h).isNone))]) rfl ?_
            refine z_if_neB C 36 dX1_isFree_29 (by decide) (fun c29_55 => ?_) (fun c29_55 => ?_)
            · skip
              refine z_iconst C (v := (nI 0)) dX1_isFree_36 rfl ?_
              refine z_istore_n C [(2, .int (nI 0)), (3, .int (nI (0 + 1))), (0, .ref x), (1, .int (nI h))] dX1_isFree_37 rfl (by decide) rfl ?_
              refine z_iincN C 1 1 [(3, .int (nI ((0 + 1) + 1))), (2, .int (nI 0)), (0, .ref x), (1, .int (nI h))] rfl dX1_isFree_38 rfl (by decide) rfl ?_
              refine z_goto C 4 dX1_isFree_41 (by decide) ?_
              refine z_iload_n C 0 rfl dX1_isFree_4 rfl ?_
              refine z_iconst C (v := (nI 3)) dX1_isFree_5 rfl ?_
              refine z_icmp_geN C 44 (by omega) (by omega) dX1_isFree_6 (by decide) (fun c6_56 => ?_) (fun c6_56 => ?_)
              · skip
                exfalso; omega
              · skip
                refine z_iload_n C 1 rfl dX1_isFree_9 rfl ?_
                refine z_if_neN C 32 (by omega) dX1_isFree_10 (by decide) (fun c10_57 => ?_) (fun c10_57 => ?_)
                · skip
                  exfalso; omega
                · skip
                  refine z_aload_n C 2 rfl dX1_isFree_13 rfl ?_
                  refine z_get C k_Q (hun48.get (fun h => h) hX) 4 (by decide) rfl q189 dX1_isFree_14 ?_
                  refine z_new C k_S q1141 q1142 q91 [.int (nI 0), .int (nI 0)] k0_S (by simp only [zr]; omega) (by simp only [zr]; omega) dX1_isFree_17 (fun q58 hq59 => z_nV (fun V60 hV61 => ?_))
                  have hY62 := (hY.mv hun48 no_k).mv (nw_u hV61 hq59) no_k
                  have hB63 := (hB.mv hun48 no_k).mv (nw_u hV61 hq59) no_k
                  have hA64 := (hA.mv hun48 no_k).mv (nw_u hV61 hq59) no_k
                  have hT65 := (hT.mv hun48 no_k).mv (nw_u hV61 hq59) no_k
                  have hf67 := zUnc.none hun48 (fun h => h) hq59
                  have hU66 := zUnc.new hun48 hV61 hq59
                  have g68 := zup hV61 (zne_new (hun48.get (fun h => h) hX) hq59) (hun48.get (fun h => h) hX)
                  have nx69 : q28 ≠ q58 := (zne_new hsl46 hq59)
                  have g70 := zup hV61 (zne_new hsl46 hq59) hsl46
                  have g71 := zup hV61 (zne_new ht50 hq59) ht50
                  have g72 : V60 q58 = some (.inr (6, [.int (nI 0), .int (nI 0)])) := zself hV61
                  refine z_dup C dX1_isFree_20 rfl ?_
                  refine z_iload_n C 3 rfl dX1_isFree_21 rfl ?_
                  refine z_iload_n C 0 rfl dX1_isFree_22 rfl ?_
                  refine z_callI C (rt := none) (As := [.int (nI h), .int (nI ((0 + 1) + 1))]) (mX7_init g72) q1145 q91 q1143 q1144 rfl hd_X7_init rfl (Nat.le_of_ble_eq_true rfl) (by decide) (by decide) (by omega) (by omega) rfl dX1_isFree_23 (fun _ _ h => h.elim) (fun r73 V74 hP75 => ?_)
                  obtain ⟨hsl76, hu77⟩ := hP75
                  refine z_st (st' := [.ref q58, .ref t]) rfl ?_
                  have hun78 := zUnc.tr hU66 hu77 (fun a h => Or.inr (by rw [show a = q58 from h]; exact hf67))
                  obtain ⟨ft79, ht80⟩ := (hT.mv hun78 no_k).1.ob
                  refine z_callV C k_TM ht80 (As := [.ref q58]) (mJ4_containsKey_S (hT.mv hun78 no_k).1 hsl76 (cT_cmp (hA.mv hun78 no_k).2.2 (hT.mv hun78 no_k) (fun a ha => ⟨by have := (haa a ha).2.1; omega, by have := (haa a ha).2.2.1; omega⟩) hsl76 (by omega) (by omega)) (hT.mv hun78 no_k).2.1) (lw_V q1155 q1156 q1157 q64 q1158) rfl hd_J4_containsKey rfl (Nat.le_of_ble_eq_true rfl) (by decide) (by decide) (by omega) (by omega) rfl dX1_isFree_26 (fun _ _ h => h.elim) (fun r81 V82 hP83 => ?_)
                  have hbn84 := bin_has (hT.mv hun78 no_k) hI.2.2.2.1.2.2.2 hP83.2
                  rw [hP83.1, hbn84]
                  refine z_st (st' := [.int (zb (!(qBin (qS st rch bx wt ins hld unt Y ap ab hr ln sa mv nw lf) ((0 + 1) + 1) h).isNone))]) rfl ?_
                  refine z_if_neB C 36 dX1_isFree_29 (by decide) (fun c29_85 => ?_) (fun c29_85 => ?_)
                  · skip
                    refine z_iconst C (v := (nI 0)) dX1_isFree_36 rfl ?_
                    refine z_istore_n C [(2, .int (nI 0)), (3, .int (nI ((0 + 1) + 1))), (0, .ref x), (1, .int (nI h))] dX1_isFree_37 rfl (by decide) rfl ?_
                    refine z_iincN C 1 1 [(3, .int (nI (((0 + 1) + 1) + 1))), (2, .int (nI 0)), (0, .ref x), (1, .int (nI h))] rfl dX1_isFree_38 rfl (by decide) rfl ?_
                    refine z_goto C 4 dX1_isFree_41 (by decide) ?_
                    refine z_iload_n C 0 rfl dX1_isFree_4 rfl ?_
                    refine z_iconst C (v := (nI 3)) dX1_isFree_5 rfl ?_
                    refine z_icmp_geN C 44 (by omega) (by omega) dX1_isFree_6 (by decide) (fun c6_86 => ?_) (fun c6_86 => ?_)
                    · skip
                      refine z_iload_n C 1 rfl dX1_isFree_44 rfl ?_
                      have j0 : (qBin (qS st rch bx wt ins hld unt Y ap ab hr ln sa mv nw lf) 0 h).isNone = false := by simpa using c29
                      have j1 : (qBin (qS st rch bx wt ins hld unt Y ap ab hr ln sa mv nw lf) 1 h).isNone = false := by simpa using c29_55
                      have j2 : (qBin (qS st rch bx wt ins hld unt Y ap ab hr ln sa mv nw lf) 2 h).isNone = false := by simpa using c29_85
                      exact z_zret C hQ false rfl rfl ⟨hun78, by unfold qFree; rw [j0, j1, j2]; rfl⟩ (by omega) (by omega) dX1_isFree_45
                    · skip
                      exfalso; omega
                  · skip
                    refine z_iconst C (v := (nI 1)) dX1_isFree_32 rfl ?_
                    refine z_goto C 37 dX1_isFree_33 (by decide) ?_
                    refine z_istore_n C [(2, .int (nI 1)), (3, .int (nI ((0 + 1) + 1))), (0, .ref x), (1, .int (nI h))] dX1_isFree_37 rfl (by decide) rfl ?_
                    refine z_iincN C 1 1 [(3, .int (nI (((0 + 1) + 1) + 1))), (2, .int (nI 1)), (0, .ref x), (1, .int (nI h))] rfl dX1_isFree_38 rfl (by decide) rfl ?_
                    refine z_goto C 4 dX1_isFree_41 (by decide) ?_
                    refine z_iload_n C 0 rfl dX1_isFree_4 rfl ?_
                    refine z_iconst C (v := (nI 3)) dX1_isFree_5 rfl ?_
                    refine z_icmp_geN C 44 (by omega) (by omega) dX1_isFree_6 (by decide) (fun c6_87 => ?_) (fun c6_87 => ?_)
                    · skip
                      refine z_iload_n C 1 rfl dX1_isFree_44 rfl ?_
                      have j0 : (qBin (qS st rch bx wt ins hld unt Y ap ab hr ln sa mv nw lf) 0 h).isNone = false := by simpa using c29
                      have j1 : (qBin (qS st rch bx wt ins hld unt Y ap ab hr ln sa mv nw lf) 1 h).isNone = false := by simpa using c29_55
                      have j2 : (qBin (qS st rch bx wt ins hld unt Y ap ab hr ln sa mv nw lf) 2 h).isNone = true := by simpa using c29_85
                      exact z_zret C hQ true rfl rfl ⟨hun78, by unfold qFree; rw [j0, j1, j2]; rfl⟩ (by omega) (by omega) dX1_isFree_45
                    · skip
                      exfalso; omega
            · skip
              refine z_iconst C (v := (nI 1)) dX1_isFree_32 rfl ?_
              refine z_goto C 37 dX1_isFree_33 (by decide) ?_
              refine z_istore_n C [(2, .int (nI 1)), (3, .int (nI (0 + 1))), (0, .ref x), (1, .int (nI h))] dX1_isFree_37 rfl (by decide) rfl ?_
              refine z_iincN C 1 1 [(3, .int (nI ((0 + 1) + 1))), (2, .int (nI 1)), (0, .ref x), (1, .int (nI h))] rfl dX1_isFree_38 rfl (by decide) rfl ?_
              refine z_goto C 4 dX1_isFree_41 (by decide) ?_
              refine z_iload_n C 0 rfl dX1_isFree_4 rfl ?_
              refine z_iconst C (v := (nI 3)) dX1_isFree_5 rfl ?_
              refine z_icmp_geN C 44 (by omega) (by omega) dX1_isFree_6 (by decide) (fun c6_88 => ?_) (fun c6_88 => ?_)
              · skip
                exfalso; omega
              · skip
                refine z_iload_n C 1 rfl dX1_isFree_9 rfl ?_
                refine z_if_neN C 32 (by omega) dX1_isFree_10 (by decide) (fun c10_89 => ?_) (fun c10_89 => ?_)
                · skip
                  refine z_iconst C (v := (nI 1)) dX1_isFree_32 rfl ?_
                  refine z_goto C 37 dX1_isFree_33 (by decide) ?_
                  refine z_istore_n C [(2, .int (nI 1)), (3, .int (nI ((0 + 1) + 1))), (0, .ref x), (1, .int (nI h))] dX1_isFree_37 rfl (by decide) rfl ?_
                  refine z_iincN C 1 1 [(3, .int (nI (((0 + 1) + 1) + 1))), (2, .int (nI 1)), (0, .ref x), (1, .int (nI h))] rfl dX1_isFree_38 rfl (by decide) rfl ?_
                  refine z_goto C 4 dX1_isFree_41 (by decide) ?_
                  refine z_iload_n C 0 rfl dX1_isFree_4 rfl ?_
                  refine z_iconst C (v := (nI 3)) dX1_isFree_5 rfl ?_
                  refine z_icmp_geN C 44 (by omega) (by omega) dX1_isFree_6 (by decide) (fun c6_90 => ?_) (fun c6_90 => ?_)
                  · skip
                    refine z_iload_n C 1 rfl dX1_isFree_44 rfl ?_
                    have j0 : (qBin (qS st rch bx wt ins hld unt Y ap ab hr ln sa mv nw lf) 0 h).isNone = false := by simpa using c29
                    have j1 : (qBin (qS st rch bx wt ins hld unt Y ap ab hr ln sa mv nw lf) 1 h).isNone = true := by simpa using c29_55
                    exact z_zret C hQ true rfl rfl ⟨hun48, by unfold qFree; rw [j0, j1]; simp⟩ (by omega) (by omega) dX1_isFree_45
                  · skip
                    exfalso; omega
                · skip
                  exfalso; omega
      · skip
        refine z_iconst C (v := (nI 1)) dX1_isFree_32 rfl ?_
        refine z_goto C 37 dX1_isFree_33 (by decide) ?_
        refine z_istore_n C [(2, .int (nI 1)), (3, .int (nI 0)), (0, .ref x), (1, .int (nI h))] dX1_isFree_37 rfl (by decide) rfl ?_
        refine z_iincN C 1 1 [(3, .int (nI (0 + 1))), (2, .int (nI 1)), (0, .ref x), (1, .int (nI h))] rfl dX1_isFree_38 rfl (by decide) rfl ?_
        refine z_goto C 4 dX1_isFree_41 (by decide) ?_
        refine z_iload_n C 0 rfl dX1_isFree_4 rfl ?_
        refine z_iconst C (v := (nI 3)) dX1_isFree_5 rfl ?_
        refine z_icmp_geN C 44 (by omega) (by omega) dX1_isFree_6 (by decide) (fun c6_91 => ?_) (fun c6_91 => ?_)
        · skip
          exfalso; omega
        · skip
          refine z_iload_n C 1 rfl dX1_isFree_9 rfl ?_
          refine z_if_neN C 32 (by omega) dX1_isFree_10 (by decide) (fun c10_92 => ?_) (fun c10_92 => ?_)
          · skip
            refine z_iconst C (v := (nI 1)) dX1_isFree_32 rfl ?_
            refine z_goto C 37 dX1_isFree_33 (by decide) ?_
            refine z_istore_n C [(2, .int (nI 1)), (3, .int (nI (0 + 1))), (0, .ref x), (1, .int (nI h))] dX1_isFree_37 rfl (by decide) rfl ?_
            refine z_iincN C 1 1 [(3, .int (nI ((0 + 1) + 1))), (2, .int (nI 1)), (0, .ref x), (1, .int (nI h))] rfl dX1_isFree_38 rfl (by decide) rfl ?_
            refine z_goto C 4 dX1_isFree_41 (by decide) ?_
            refine z_iload_n C 0 rfl dX1_isFree_4 rfl ?_
            refine z_iconst C (v := (nI 3)) dX1_isFree_5 rfl ?_
            refine z_icmp_geN C 44 (by omega) (by omega) dX1_isFree_6 (by decide) (fun c6_93 => ?_) (fun c6_93 => ?_)
            · skip
              exfalso; omega
            · skip
              refine z_iload_n C 1 rfl dX1_isFree_9 rfl ?_
              refine z_if_neN C 32 (by omega) dX1_isFree_10 (by decide) (fun c10_94 => ?_) (fun c10_94 => ?_)
              · skip
                refine z_iconst C (v := (nI 1)) dX1_isFree_32 rfl ?_
                refine z_goto C 37 dX1_isFree_33 (by decide) ?_
                refine z_istore_n C [(2, .int (nI 1)), (3, .int (nI ((0 + 1) + 1))), (0, .ref x), (1, .int (nI h))] dX1_isFree_37 rfl (by decide) rfl ?_
                refine z_iincN C 1 1 [(3, .int (nI (((0 + 1) + 1) + 1))), (2, .int (nI 1)), (0, .ref x), (1, .int (nI h))] rfl dX1_isFree_38 rfl (by decide) rfl ?_
                refine z_goto C 4 dX1_isFree_41 (by decide) ?_
                refine z_iload_n C 0 rfl dX1_isFree_4 rfl ?_
                refine z_iconst C (v := (nI 3)) dX1_isFree_5 rfl ?_
                refine z_icmp_geN C 44 (by omega) (by omega) dX1_isFree_6 (by decide) (fun c6_95 => ?_) (fun c6_95 => ?_)
                · skip
                  refine z_iload_n C 1 rfl dX1_isFree_44 rfl ?_
                  have j0 : (qBin (qS st rch bx wt ins hld unt Y ap ab hr ln sa mv nw lf) 0 h).isNone = true := by simpa using c29
                  exact z_zret C hQ true rfl rfl ⟨hun19, by unfold qFree; rw [j0]; simp⟩ (by omega) (by omega) dX1_isFree_45
                · skip
                  exfalso; omega
              · skip
                exfalso; omega
          · skip
            exfalso; omega
