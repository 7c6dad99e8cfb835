/-! MODEL: its public calls, over the state -/
set_option maxRecDepth 100000
/-- the model's object m, its arrays A, stand for S, with code cd -/
def mR (D : ZD) (V : ZV) (m : Nat) (A : Nat → Nat) (F : Nat → Nat → Int32) (cd : Int32) (S : QS) : Prop :=
  MX D V m A F cd (qnw S) (qst S) (qbx S) (qmv S) (qap S) (qlf S) ∧ mE F (qst S) (qbx S) (qrch S) (qwt S) (qins S) (qhld S) ∧
  (∀ b, b < 20 → F 4 b = nI (qunt S b)) ∧ mY F 0 (qY S) ∧ ∀ a, a < qap S → F 8 a = nI (qab S a) ∧ F 9 a = nI (qhr S a) ∧ F 10 a = nI (qln S a) ∧ F 11 a = qsa S a
theorem in_bool (v lo hi : Int32) (h1 : ¬ v < lo) (h2 : ¬ hi < v) : true = decide (lo ≤ v ∧ v ≤ hi) := by
  symm; rw [decide_eq_true_eq]
  rw [Int32.lt_iff_toInt_lt] at h1 h2
  rw [Int32.le_iff_toInt_le, Int32.le_iff_toInt_le]
  omega
theorem in_bool1 (v lo hi : Int32) (h1 : v < lo ∨ hi < v) : false = decide (lo ≤ v ∧ v ≤ hi) := by
  symm; rw [decide_eq_false_iff_not]
  rw [Int32.lt_iff_toInt_lt, Int32.lt_iff_toInt_lt] at h1
  rw [Int32.le_iff_toInt_le, Int32.le_iff_toInt_le]
  omega
theorem mY_len {F : Nat → Nat → Int32} {Y : YD} (h : mY F 0 Y) (s : Nat) (hs : s < 4) : F 5 s = nI (Y s).length := by
  have h9 := h.1 s hs; simpa using h9
theorem mY_box {F : Nat → Nat → Int32} {Y : YD} (h : mY F 0 Y) (s k b : Nat) (hs : s < 4) (hk : (Y s)[k]? = some b) : F 6 (4 * s + k) = nI b := by
  have h9 := h.2 s k b hs hk; simpa using h9
theorem fC_succ (p : Nat → Bool) (n : Nat) : fC p (n + 1) = fC p n + (if p n = true then 1 else 0) := rfl
theorem fC_t {p : Nat → Bool} {n : Nat} (h : p n = true) : fC p (n + 1) = fC p n + 1 := by rw [fC_succ, if_pos h]
theorem fC_f {p : Nat → Bool} {n : Nat} (h : p n = false) : fC p (n + 1) = fC p n + 0 := by rw [fC_succ, h]; rfl
theorem nI_m1n (n : Nat) : nI (n + 1) - nI 1 = nI n := by rw [nI_add1]; exact Int32.add_sub_cancel _ _
theorem mE_stk {F : Nat → Nat → Int32} {st bx : Nat} {rch wt : Nat → Nat} {ins : Nat → Bool} {hld : Nat → Int32} (h : mE F st bx rch wt ins hld) (r : Nat) : mE (va_up F 0 (va_up (F 0) st (nI r))) (st + 1) bx (va_up rch st r) wt ins hld := by
  refine ⟨fun s hs => ?_, h.2.1, h.2.2.1, h.2.2.2⟩
  rw [zvs]
  by_cases e : s = st
  · subst e; rw [zvs, zvs]
  · rw [zvn e, zvn e]; exact h.1 s (by omega)
theorem oRes {o : OR} {k : Nat} {x : Int32} {S : QS} (h : o = (k, x, S)) : x = o.2.1 := by rw [h]
theorem mA_sa {F F2 : Nat → Nat → Int32} {ap : Nat} {ab hr ln : Nat → Nat} {sa : Nat → Int32} (h : ∀ a, a < ap → F 8 a = nI (ab a) ∧ F 9 a = nI (hr a) ∧ F 10 a = nI (ln a) ∧ F 11 a = sa a) (x : Nat) (v : Int32)
    (h8 : F2 8 = F 8) (h9 : F2 9 = F 9) (h10 : F2 10 = F 10) (h11 : F2 11 = va_up (F 11) x v) : ∀ a, a < ap → F2 8 a = nI (ab a) ∧ F2 9 a = nI (hr a) ∧ F2 10 a = nI (ln a) ∧ F2 11 a = va_up sa x v a := fun a ha => by
  obtain ⟨k1, k2, k3, k4⟩ := h a ha
  refine ⟨by rw [h8]; exact k1, by rw [h9]; exact k2, by rw [h10]; exact k3, ?_⟩
  rw [h11]
  by_cases e : a = x
  · subst e; rw [zvs, zvs]
  · rw [zvn e, zvn e]; exact k4
theorem qI_hld {k st : Nat} {rch : Nat → Nat} {bx : Nat} {wt : Nat → Nat} {ins : Nat → Bool} {hld : Nat → Int32} {unt : Nat → Nat} {Y : YD} {ap : Nat} {ab hr ln : Nat → Nat} {sa : Nat → Int32} {mv : Int32} {nw : Nat} {lf : Int64} {b u : Nat} {v : Int32}
    (h : qI k (qS st rch bx wt ins hld unt Y ap ab hr ln sa mv nw lf)) (hb : b < bx) (hv : v = nI 112 ∨ v = nI 108) (hu : u ≤ 1000) : qI k (qS st rch bx wt ins (va_up hld b v) (va_up unt b u) Y ap ab hr ln sa mv nw lf) := by
  refine ⟨h.1, h.2.1, ⟨fun c hc => ?_, fun c => ?_, fun c hc => ?_⟩, h.2.2.2⟩
  · show va_up unt b u c = 0
    have hc : bx ≤ c := hc
    rw [zvn (by omega)]; exact h.2.2.1.1 c hc
  · show va_up unt b u c ≤ 1000
    by_cases e : c = b
    · subst e; rw [zvs]; exact hu
    · rw [zvn e]; exact h.2.2.1.2.1 c
  · show va_up hld b v c = nI 45 ∨ va_up hld b v c = nI 112 ∨ va_up hld b v c = nI 108
    by_cases e : c = b
    · subst e; rw [zvs]; exact Or.inr hv
    · rw [zvn e]; exact h.2.2.1.2.2 c hc
theorem mA_on {F F2 : Nat → Nat → Int32} {y ap : Nat} {ab hr ln : Nat → Nat} {sa : Nat → Int32} (h : mOn F F2 y) (hA : ∀ a, a < ap → F 8 a = nI (ab a) ∧ F 9 a = nI (hr a) ∧ F 10 a = nI (ln a) ∧ F 11 a = sa a) : ∀ a, a < ap → F2 8 a = nI (ab a) ∧ F2 9 a = nI (hr a) ∧ F2 10 a = nI (ln a) ∧ F2 11 a = sa a := fun a ha => by
  rw [h.1 8 (by decide) (by decide), h.1 9 (by decide) (by decide), h.1 10 (by decide) (by decide), h.1 11 (by decide) (by decide)]; exact hA a ha
theorem mA_off {F F2 : Nat → Nat → Int32} {ap : Nat} {ab hr ln : Nat → Nat} {sa : Nat → Int32} (h : mOff F F2) (hA : ∀ a, a < ap → F 8 a = nI (ab a) ∧ F 9 a = nI (hr a) ∧ F 10 a = nI (ln a) ∧ F 11 a = sa a) : ∀ a, a < ap → F2 8 a = nI (ab a) ∧ F2 9 a = nI (hr a) ∧ F2 10 a = nI (ln a) ∧ F2 11 a = sa a := fun a ha => by
  rw [h 8 (by decide) (by decide) (by decide), h 9 (by decide) (by decide) (by decide), h 10 (by decide) (by decide) (by decide), h 11 (by decide) (by decide) (by decide)]; exact hA a ha
theorem qI_sa {k st : Nat} {rch : Nat → Nat} {bx : Nat} {wt : Nat → Nat} {ins : Nat → Bool} {hld : Nat → Int32} {unt : Nat → Nat} {Y : YD} {ap : Nat} {ab hr ln : Nat → Nat} {sa : Nat → Int32} {mv : Int32} {nw : Nat} {lf : Int64} {a : Nat} {v : Int32}
    (h : qI k (qS st rch bx wt ins hld unt Y ap ab hr ln sa mv nw lf)) (hv : v = nI 99 ∨ v = nI 103 ∨ v = nI 100 ∨ v = nI 109) : qI k (qS st rch bx wt ins hld unt Y ap ab hr ln (va_up sa a v) mv nw lf) := by
  have hn : ∀ c, va_up sa a v c = nI 98 → c ≠ a ∧ sa c = nI 98 := fun c e => by
    by_cases q : c = a
    · subst q; rw [zvs] at e; rcases hv with z | z | z | z <;> rw [z] at e <;> exact absurd e (by decide)
    · rw [zvn q] at e; exact ⟨q, e⟩
  refine ⟨h.1, h.2.1, h.2.2.1, ⟨h.2.2.2.1.1, fun c hc => ?_, fun c hc e => h.2.2.2.1.2.2.1 c hc (hn c e).2, fun c d hc hd e1 e2 => h.2.2.2.1.2.2.2 c d hc hd (hn c e1).2 (hn d e2).2⟩, h.2.2.2.2⟩
  obtain ⟨k1, k2, k3, k4⟩ := h.2.2.2.1.2.1 c hc
  refine ⟨k1, k2, k3, ?_⟩
  show va_up sa a v c = nI 98 ∨ va_up sa a v c = nI 99 ∨ va_up sa a v c = nI 103 ∨ va_up sa a v c = nI 100 ∨ va_up sa a v c = nI 109
  by_cases q : c = a
  · subst q; rw [zvs]; exact Or.inr hv
  · rw [zvn q]; exact k4

set_option maxHeartbeats 4000000 in
set_option maxRecDepth 100000 in
theorem mX3_in {l : Launch} {D : ZD} {V : ZV} {v lo hi : Int32} : ZM l D yX3_in (ws_ yX3_in cX3_in 3 (some .boolean)) 1 0 0 eB V [.int v, .int lo, .int hi] (fun r V' => V' = V ∧ r = decide (lo ≤ v ∧ v ≤ hi)) zno_x := by
  refine z_enter (by decide +kernel) [(0, .int v), (1, .int lo), (2, .int hi)] rfl (Nat.le_of_ble_eq_true rfl) (zcat_cons rfl (zcat_cons rfl (zcat_cons rfl zcat_nil))) (fun Γ C hQ => ?_)
  refine z_iload_n C 0 rfl dX3_in_0 rfl ?_
  refine z_iload_n C 1 rfl dX3_in_1 rfl ?_
  refine z_icmp_lt C 14 dX3_in_2 (by decide) (fun c2 => ?_) (fun c2 => ?_)
  · skip
    refine z_iconst C (v := (nI 0)) dX3_in_14 rfl ?_
    exact z_zret C hQ false rfl rfl ⟨rfl, in_bool1 _ _ _ (Or.inl c2)⟩ (by decide) (by decide) dX3_in_15
  · skip
    refine z_iload_n C 0 rfl dX3_in_5 rfl ?_
    refine z_iload_n C 2 rfl dX3_in_6 rfl ?_
    refine z_icmp_gt C 14 dX3_in_7 (by decide) (fun c7 => ?_) (fun c7 => ?_)
    · skip
      refine z_iconst C (v := (nI 0)) dX3_in_14 rfl ?_
      exact z_zret C hQ false rfl rfl ⟨rfl, in_bool1 _ _ _ (Or.inr c7)⟩ (by decide) (by decide) dX3_in_15
    · skip
      refine z_iconst C (v := (nI 1)) dX3_in_10 rfl ?_
      refine z_goto C 15 dX3_in_11 (by decide) ?_
      exact z_zret C hQ true rfl rfl ⟨rfl, in_bool _ _ _ c2 c7⟩ (by decide) (by decide) dX3_in_15
set_option maxHeartbeats 4000000 in
set_option maxRecDepth 100000 in
theorem mX3_fails {l : Launch} {D : ZD} {V : ZV} {m : Nat} {A : Nat → Nat} {F : Nat → Nat → Int32} {cd : Int32} {nw st bx : Nat} {mv : Int32} {ap : Nat} {lf : Int64} (hM : MX D V m A F cd nw st bx mv ap lf) (hst : st ≤ 4) (hbx : bx ≤ 20) {c : Int32} : ZM l D yX3_fails (ws_ yX3_fails cX3_fails 2 (some .int)) 1 0 0 eI V [.ref m, .int c] (fun r V' => MX D V' m A F c nw st bx mv ap lf ∧ r = 0) zno_x := by
  refine z_enter (by decide +kernel) [(0, .ref m), (1, .int c)] rfl (Nat.le_of_ble_eq_true rfl) (zcat_cons rfl (zcat_cons rfl zcat_nil)) (fun Γ C hQ => ?_)
  refine z_aload_n C 0 rfl dX3_fails_0 rfl ?_
  refine z_iload_n C 1 rfl dX3_fails_1 rfl ?_
  refine z_put C k_M hM.1 0 (by decide) [.int c, .int (nI nw), .int (nI st), .ref (A 0), .int (nI bx), .ref (A 1), .ref (A 2), .ref (A 3), .ref (A 4), .ref (A 5), .ref (A 6), .ref (A 7), .int mv, .int (nI ap), .ref (A 8), .ref (A 9), .ref (A 10), .ref (A 11), .long lf] rfl (Nat.le_of_ble_eq_true rfl) rfl rfl rfl q1387 dX3_fails_2 (z_nV (fun V1 hV2 => ?_))
  have hM3 := MX.ob (cd2 := c) (nw2 := nw) (st2 := st) (bx2 := bx) (mv2 := mv) (ap2 := ap) (lf2 := lf) hM hV2
  refine z_iconst C (v := (nI 0)) dX3_fails_5 rfl ?_
  exact z_iret C hQ (nI 0) rfl ⟨hM3, rfl⟩ (by decide) (by decide) dX3_fails_6
set_option maxHeartbeats 4000000 in
set_option maxRecDepth 100000 in
theorem mX3_isBox {l : Launch} {D : ZD} {V : ZV} {kk m : Nat} {A : Nat → Nat} {F : Nat → Nat → Int32} {cd : Int32} {st : Nat} {rch : Nat → Nat} {bx : Nat} {wt : Nat → Nat} {ins : Nat → Bool} {hld : Nat → Int32} {unt : Nat → Nat} {Y : YD} {ap : Nat} {ab hr ln : Nat → Nat} {sa : Nat → Int32} {mv : Int32} {nw : Nat} {lf : Int64} (hR : mR D V m A F cd (qS st rch bx wt ins hld unt Y ap ab hr ln sa mv nw lf)) (hI : qI kk (qS st rch bx wt ins hld unt Y ap ab hr ln sa mv nw lf)) {v1 : Int32} : ZM l D yX3_isBox (ws_ yX3_isBox cX3_isBox 2 (some .boolean)) 2 0 0 eB V [.ref m, .int v1] (fun r V' => V' = V ∧ r = qIs (qS st rch bx wt ins hld unt Y ap ab hr ln sa mv nw lf) (vN v1)) zno_x := by
  refine z_enter (by decide +kernel) [(0, .ref m), (1, .int v1)] rfl (Nat.le_of_ble_eq_true rfl) (zcat_cons rfl (zcat_cons rfl zcat_nil)) (fun Γ C hQ => ?_)
  have hM : MX D V m A F cd nw st bx mv ap lf := hR.1
  have hE : mE F st bx rch wt ins hld := hR.2.1
  have hU : ∀ b, b < 20 → F 4 b = nI (unt b) := hR.2.2.1
  have hy : mY F 0 Y := hR.2.2.2.1
  have hA : ∀ a, a < ap → F 8 a = nI (ab a) ∧ F 9 a = nI (hr a) ∧ F 10 a = nI (ln a) ∧ F 11 a = sa a := hR.2.2.2.2
  have hst : st ≤ 4 := hI.1.1
  have hbx : bx ≤ 20 := hI.1.2.1
  have hrc : ∀ s, s < st → rch s ≤ 4 := fun s hs => (hI.1.2.2.1 s hs).2
  have hwt : ∀ b, b < bx → wt b < 1000 := fun b hb => by have h9 : wt b ≤ 30 := (hI.1.2.2.2 b hb).2; omega
  have hg : yGood st bx ins Y := hI.2.1.1
  have hht : ∀ s, s < st → (Y s).length ≤ rch s := hI.2.1.2.1
  have hu1 : ∀ b, unt b ≤ 1000 := hI.2.2.1.2.1
  have hhl : ∀ b, b < bx → hld b = nI 45 ∨ hld b = nI 112 ∨ hld b = nI 108 := hI.2.2.1.2.2
  have hap : ap ≤ 30 := hI.2.2.2.1.1
  have haa : ∀ a, a < ap → ab a < bx ∧ hr a ≤ 999 ∧ ln a < 3 ∧ (sa a = nI 98 ∨ sa a = nI 99 ∨ sa a = nI 103 ∨ sa a = nI 100 ∨ sa a = nI 109) := hI.2.2.2.1.2.1
  have hnw : nw ≤ 999 := hI.2.2.2.2
  have hY4 : ∀ s, (Y s).length ≤ 4 := hg.1.1
  have hmm : ∀ s, ∀ c ∈ Y s, c < bx := fun s c hc => (hg.2.2 s c hc).1
  refine z_iload_n C 1 rfl dX3_isBox_0 rfl ?_
  refine z_iconst C (v := (nI 0)) dX3_isBox_1 rfl ?_
  refine z_aload_n C 0 rfl dX3_isBox_2 rfl ?_
  refine z_get C k_M hM.1 4 (by decide) rfl q1391 dX3_isBox_3 ?_
  refine z_iconst C (v := (nI 1)) dX3_isBox_6 rfl ?_
  refine z_isub C dX3_isBox_7 ?_
  refine z_callS C (As := [.int v1, .int (nI 0), .int ((nI bx) - (nI 1))]) (mX3_in) (lw_S q1455 q1456 q65 q1457) hd_X3_in rfl (Nat.le_of_ble_eq_true rfl) (by decide) (by decide) (by decide) (by decide) rfl dX3_isBox_8 (fun _ _ h => h.elim) (fun r1 V2 hP3 => ?_)
  have hq4 : r1 = decide (0 ≤ vN v1 ∧ vN v1 < bx) := hP3.2.trans (in_lt (by omega) (by omega))
  rw [hP3.1, hq4]
  refine z_st (st' := [.int (zb (decide (0 ≤ vN v1 ∧ vN v1 < bx)))]) rfl ?_
  refine z_if_eqB C 27 dX3_isBox_11 (by decide) (fun c11 => ?_) (fun c11 => ?_)
  · skip
    have hbb : ¬ vN v1 < bx := by have := c11; simp at this; omega
    refine z_iconst C (v := (nI 0)) dX3_isBox_27 rfl ?_
    exact z_zret C hQ false rfl rfl ⟨rfl, by unfold qIs qbx; simp [hbb]⟩ (by decide) (by decide) dX3_isBox_28
  · skip
    have hbb : vN v1 < bx := by have := c11; simp at this; exact this
    have hv5 := vN_of (v := v1) hbb (by omega)
    have e6 : (.int v1 : Value) = .int (nI (vN v1)) := (congrArg Value.int hv5)
    refine z_lv (lv' := [(0, .ref m), (1, .int (nI (vN v1)))]) (by rw [e6]) ?_
    refine z_aload_n C 0 rfl dX3_isBox_14 rfl ?_
    refine z_get C k_M hM.1 6 (by decide) rfl q1393 dX3_isBox_15 ?_
    refine z_iload_n C 1 rfl dX3_isBox_18 rfl ?_
    have ga7 : V (A 2) = some (.inl (D.arr 3, 20, .inl (F 2))) := hM.2.1 2 (by decide)
    refine z_zald C ga7 (by omega) (by omega) (v := (zb (ins (vN v1)))) (hE.2.2.1 (vN v1) (by omega)) dX3_isBox_19 ?_
    refine z_if_eqB C 27 dX3_isBox_20 (by decide) (fun c20 => ?_) (fun c20 => ?_)
    · skip
      refine z_iconst C (v := (nI 0)) dX3_isBox_27 rfl ?_
      exact z_zret C hQ false rfl rfl ⟨rfl, by show false = (decide (vN v1 < bx) && ins (vN v1)); rw [decide_eq_true hbb, c20]; rfl⟩ (by decide) (by decide) dX3_isBox_28
    · skip
      refine z_iconst C (v := (nI 1)) dX3_isBox_23 rfl ?_
      refine z_goto C 28 dX3_isBox_24 (by decide) ?_
      exact z_zret C hQ true rfl rfl ⟨rfl, by show true = (decide (vN v1 < bx) && ins (vN v1)); rw [decide_eq_true hbb, c20]; rfl⟩ (by decide) (by decide) dX3_isBox_28
set_option maxHeartbeats 4000000 in
set_option maxRecDepth 100000 in
theorem mX3_isStack {l : Launch} {D : ZD} {V : ZV} {kk m : Nat} {A : Nat → Nat} {F : Nat → Nat → Int32} {cd : Int32} {st : Nat} {rch : Nat → Nat} {bx : Nat} {wt : Nat → Nat} {ins : Nat → Bool} {hld : Nat → Int32} {unt : Nat → Nat} {Y : YD} {ap : Nat} {ab hr ln : Nat → Nat} {sa : Nat → Int32} {mv : Int32} {nw : Nat} {lf : Int64} (hR : mR D V m A F cd (qS st rch bx wt ins hld unt Y ap ab hr ln sa mv nw lf)) (hI : qI kk (qS st rch bx wt ins hld unt Y ap ab hr ln sa mv nw lf)) {v1 : Int32} : ZM l D yX3_isStack (ws_ yX3_isStack cX3_isStack 2 (some .boolean)) 2 0 0 eB V [.ref m, .int v1] (fun r V' => V' = V ∧ r = decide (vN v1 < st)) zno_x := by
  refine z_enter (by decide +kernel) [(0, .ref m), (1, .int v1)] rfl (Nat.le_of_ble_eq_true rfl) (zcat_cons rfl (zcat_cons rfl zcat_nil)) (fun Γ C hQ => ?_)
  have hM : MX D V m A F cd nw st bx mv ap lf := hR.1
  have hE : mE F st bx rch wt ins hld := hR.2.1
  have hU : ∀ b, b < 20 → F 4 b = nI (unt b) := hR.2.2.1
  have hy : mY F 0 Y := hR.2.2.2.1
  have hA : ∀ a, a < ap → F 8 a = nI (ab a) ∧ F 9 a = nI (hr a) ∧ F 10 a = nI (ln a) ∧ F 11 a = sa a := hR.2.2.2.2
  have hst : st ≤ 4 := hI.1.1
  have hbx : bx ≤ 20 := hI.1.2.1
  have hrc : ∀ s, s < st → rch s ≤ 4 := fun s hs => (hI.1.2.2.1 s hs).2
  have hwt : ∀ b, b < bx → wt b < 1000 := fun b hb => by have h9 : wt b ≤ 30 := (hI.1.2.2.2 b hb).2; omega
  have hg : yGood st bx ins Y := hI.2.1.1
  have hht : ∀ s, s < st → (Y s).length ≤ rch s := hI.2.1.2.1
  have hu1 : ∀ b, unt b ≤ 1000 := hI.2.2.1.2.1
  have hhl : ∀ b, b < bx → hld b = nI 45 ∨ hld b = nI 112 ∨ hld b = nI 108 := hI.2.2.1.2.2
  have hap : ap ≤ 30 := hI.2.2.2.1.1
  have haa : ∀ a, a < ap → ab a < bx ∧ hr a ≤ 999 ∧ ln a < 3 ∧ (sa a = nI 98 ∨ sa a = nI 99 ∨ sa a = nI 103 ∨ sa a = nI 100 ∨ sa a = nI 109) := hI.2.2.2.1.2.1
  have hnw : nw ≤ 999 := hI.2.2.2.2
  have hY4 : ∀ s, (Y s).length ≤ 4 := hg.1.1
  have hmm : ∀ s, ∀ c ∈ Y s, c < bx := fun s c hc => (hg.2.2 s c hc).1
  refine z_iload_n C 1 rfl dX3_isStack_0 rfl ?_
  refine z_iconst C (v := (nI 0)) dX3_isStack_1 rfl ?_
  refine z_aload_n C 0 rfl dX3_isStack_2 rfl ?_
  refine z_get C k_M hM.1 2 (by decide) rfl q1389 dX3_isStack_3 ?_
  refine z_iconst C (v := (nI 1)) dX3_isStack_6 rfl ?_
  refine z_isub C dX3_isStack_7 ?_
  refine z_callS C (As := [.int v1, .int (nI 0), .int ((nI st) - (nI 1))]) (mX3_in) (lw_S q1455 q1456 q65 q1457) hd_X3_in rfl (Nat.le_of_ble_eq_true rfl) (by decide) (by decide) (by decide) (by decide) rfl dX3_isStack_8 (fun _ _ h => h.elim) (fun r1 V2 hP3 => ?_)
  have hq4 : r1 = decide (0 ≤ vN v1 ∧ vN v1 < st) := hP3.2.trans (in_lt (by omega) (by omega))
  rw [hP3.1, hq4]
  refine z_st (st' := [.int (zb (decide (0 ≤ vN v1 ∧ vN v1 < st)))]) rfl ?_
  exact z_zret C hQ (decide (0 ≤ vN v1 ∧ vN v1 < st)) rfl (zb_nar _) ⟨rfl, by simp⟩ (by decide) (by decide) dX3_isStack_11
set_option maxHeartbeats 4000000 in
set_option maxRecDepth 100000 in
theorem mX3_insideNow {l : Launch} {D : ZD} {V : ZV} {kk m : Nat} {A : Nat → Nat} {F : Nat → Nat → Int32} {cd : Int32} {st : Nat} {rch : Nat → Nat} {bx : Nat} {wt : Nat → Nat} {ins : Nat → Bool} {hld : Nat → Int32} {unt : Nat → Nat} {Y : YD} {ap : Nat} {ab hr ln : Nat → Nat} {sa : Nat → Int32} {mv : Int32} {nw : Nat} {lf : Int64} (hR : mR D V m A F cd (qS st rch bx wt ins hld unt Y ap ab hr ln sa mv nw lf)) (hI : qI kk (qS st rch bx wt ins hld unt Y ap ab hr ln sa mv nw lf))  : ZM l D yX3_insideNow (ws_ yX3_insideNow cX3_insideNow 3 (some .int)) 1 0 0 eN V [.ref m] (fun r V' => V' = V ∧ r = fC ins bx) zno_x := by
  refine z_enter (by decide +kernel) [(0, .ref m)] rfl (Nat.le_of_ble_eq_true rfl) (zcat_cons rfl zcat_nil) (fun Γ C hQ => ?_)
  have hM : MX D V m A F cd nw st bx mv ap lf := hR.1
  have hE : mE F st bx rch wt ins hld := hR.2.1
  have hU : ∀ b, b < 20 → F 4 b = nI (unt b) := hR.2.2.1
  have hy : mY F 0 Y := hR.2.2.2.1
  have hA : ∀ a, a < ap → F 8 a = nI (ab a) ∧ F 9 a = nI (hr a) ∧ F 10 a = nI (ln a) ∧ F 11 a = sa a := hR.2.2.2.2
  have hst : st ≤ 4 := hI.1.1
  have hbx : bx ≤ 20 := hI.1.2.1
  have hrc : ∀ s, s < st → rch s ≤ 4 := fun s hs => (hI.1.2.2.1 s hs).2
  have hwt : ∀ b, b < bx → wt b < 1000 := fun b hb => by have h9 : wt b ≤ 30 := (hI.1.2.2.2 b hb).2; omega
  have hg : yGood st bx ins Y := hI.2.1.1
  have hht : ∀ s, s < st → (Y s).length ≤ rch s := hI.2.1.2.1
  have hu1 : ∀ b, unt b ≤ 1000 := hI.2.2.1.2.1
  have hhl : ∀ b, b < bx → hld b = nI 45 ∨ hld b = nI 112 ∨ hld b = nI 108 := hI.2.2.1.2.2
  have hap : ap ≤ 30 := hI.2.2.2.1.1
  have haa : ∀ a, a < ap → ab a < bx ∧ hr a ≤ 999 ∧ ln a < 3 ∧ (sa a = nI 98 ∨ sa a = nI 99 ∨ sa a = nI 103 ∨ sa a = nI 100 ∨ sa a = nI 109) := hI.2.2.2.1.2.1
  have hnw : nw ≤ 999 := hI.2.2.2.2
  have hY4 : ∀ s, (Y s).length ≤ 4 := hg.1.1
  have hmm : ∀ s, ∀ c ∈ Y s, c < bx := fun s c hc => (hg.2.2 s c hc).1
  refine z_iconst C (v := (nI 0)) dX3_insideNow_0 rfl ?_
  refine z_istore_n C [(1, .int (nI 0)), (0, .ref m)] dX3_insideNow_1 rfl (by decide) rfl ?_
  refine z_iconst C (v := (nI 0)) dX3_insideNow_2 rfl ?_
  refine z_istore_n C [(2, .int (nI 0)), (1, .int (nI 0)), (0, .ref m)] dX3_insideNow_3 rfl (by decide) rfl ?_
  refine z_pick [(1, .int (nI 0)), (2, .int (nI 0)), (0, .ref m)] [1, 0, 2] rfl ?_
  have e1 : (.int (nI 0) : Value) = .int (nI (fC ins 0)) := rfl
  refine z_lv (lv' := [(1, .int (nI (fC ins 0))), (2, .int (nI 0)), (0, .ref m)]) (by rw [e1]) ?_
  have loop2 : ∀ (n_loop2 : Nat) (k : Nat), k ≤ bx → bx - k < n_loop2 → ZW l D Γ (zr 1 0 0) 4 [(1, .int (nI (fC ins k))), (2, .int (nI k)), (0, .ref m)] [] V 0 0 := by
    intro n_loop2
    induction n_loop2 with
    | zero => intro k _ hm; exact absurd hm (Nat.not_lt_zero _)
    | succ n_loop2 ih_loop2 =>
      intro k hloop2_0 hm
      have hck := fC_le ins k
      refine z_iload_n C 1 rfl dX3_insideNow_4 rfl ?_
      refine z_aload_n C 2 rfl dX3_insideNow_5 rfl ?_
      refine z_get C k_M hM.1 4 (by decide) rfl q1391 dX3_insideNow_6 ?_
      refine z_icmp_geN C 35 (by omega) (by omega) dX3_insideNow_9 (by decide) (fun c9 => ?_) (fun c9 => ?_)
      · skip
        obtain rfl : k = bx := by omega
        refine z_iload_n C 0 rfl dX3_insideNow_35 rfl ?_
        exact z_iret C hQ (fC ins k) rfl ⟨rfl, rfl⟩ (by decide) (by decide) dX3_insideNow_36
      · skip
        refine z_iload_n C 0 rfl dX3_insideNow_12 rfl ?_
        refine z_aload_n C 2 rfl dX3_insideNow_13 rfl ?_
        refine z_get C k_M hM.1 6 (by decide) rfl q1393 dX3_insideNow_14 ?_
        refine z_iload_n C 1 rfl dX3_insideNow_17 rfl ?_
        have ga3 : V (A 2) = some (.inl (D.arr 3, 20, .inl (F 2))) := hM.2.1 2 (by decide)
        refine z_zald C ga3 (by omega) (by omega) (v := (zb (ins k))) (hE.2.2.1 k (by omega)) dX3_insideNow_18 ?_
        refine z_if_eqB C 26 dX3_insideNow_19 (by decide) (fun c19 => ?_) (fun c19 => ?_)
        · skip
          refine z_iconst C (v := (nI 0)) dX3_insideNow_26 rfl ?_
          refine z_iaddN C dX3_insideNow_27 ?_
          refine z_istore_n C [(1, .int (nI ((fC ins k) + 0))), (2, .int (nI k)), (0, .ref m)] dX3_insideNow_28 rfl (by decide) rfl ?_
          refine z_iincN C 1 1 [(2, .int (nI (k + 1))), (1, .int (nI ((fC ins k) + 0))), (0, .ref m)] rfl dX3_insideNow_29 rfl (by decide) rfl ?_
          refine z_goto C 4 dX3_insideNow_32 (by decide) ?_
          refine z_pick [(1, .int (nI ((fC ins k) + 0))), (2, .int (nI (k + 1))), (0, .ref m)] [1, 0, 2] rfl ?_
          have e4 : (.int (nI ((fC ins k) + 0)) : Value) = .int (nI (fC ins (k + 1))) := (by rw [fC_f (by simpa using c19)])
          refine z_lv (lv' := [(1, .int (nI (fC ins (k + 1)))), (2, .int (nI (k + 1))), (0, .ref m)]) (by rw [e4]) ?_
          exact ih_loop2 (k + 1) (by omega) (by omega)
        · skip
          refine z_iconst C (v := (nI 1)) dX3_insideNow_22 rfl ?_
          refine z_goto C 27 dX3_insideNow_23 (by decide) ?_
          refine z_iaddN C dX3_insideNow_27 ?_
          refine z_istore_n C [(1, .int (nI ((fC ins k) + 1))), (2, .int (nI k)), (0, .ref m)] dX3_insideNow_28 rfl (by decide) rfl ?_
          refine z_iincN C 1 1 [(2, .int (nI (k + 1))), (1, .int (nI ((fC ins k) + 1))), (0, .ref m)] rfl dX3_insideNow_29 rfl (by decide) rfl ?_
          refine z_goto C 4 dX3_insideNow_32 (by decide) ?_
          refine z_pick [(1, .int (nI ((fC ins k) + 1))), (2, .int (nI (k + 1))), (0, .ref m)] [1, 0, 2] rfl ?_
          have e5 : (.int (nI ((fC ins k) + 1)) : Value) = .int (nI (fC ins (k + 1))) := (by rw [fC_t (by simpa using c19)])
          refine z_lv (lv' := [(1, .int (nI (fC ins (k + 1)))), (2, .int (nI (k + 1))), (0, .ref m)]) (by rw [e5]) ?_
          exact ih_loop2 (k + 1) (by omega) (by omega)
  exact loop2 _ 0 (Nat.zero_le _) (Nat.lt_succ_self _)
set_option maxHeartbeats 4000000 in
set_option maxRecDepth 100000 in
theorem mX3_addStack {l : Launch} {D : ZD} {V : ZV} {kk m : Nat} {A : Nat → Nat} {F : Nat → Nat → Int32} {cd : Int32} {st : Nat} {rch : Nat → Nat} {bx : Nat} {wt : Nat → Nat} {ins : Nat → Bool} {hld : Nat → Int32} {unt : Nat → Nat} {Y : YD} {ap : Nat} {ab hr ln : Nat → Nat} {sa : Nat → Int32} {mv : Int32} {nw : Nat} {lf : Int64} (hR : mR D V m A F cd (qS st rch bx wt ins hld unt Y ap ab hr ln sa mv nw lf)) (hI : qI kk (qS st rch bx wt ins hld unt Y ap ab hr ln sa mv nw lf)) {v1 : Int32} : ZM l D yX3_addStack (ws_ yX3_addStack cX3_addStack 2 (some .int)) 2 0 0 eI V [.ref m, .int v1] (fun r V' => ∃ F2, mR D V' m A F2 (nI (oAddStack (qS st rch bx wt ins hld unt Y ap ab hr ln sa mv nw lf) (vN v1)).1) (oAddStack (qS st rch bx wt ins hld unt Y ap ab hr ln sa mv nw lf) (vN v1)).2.2 ∧ ((oAddStack (qS st rch bx wt ins hld unt Y ap ab hr ln sa mv nw lf) (vN v1)).1 = 0 → r = (oAddStack (qS st rch bx wt ins hld unt Y ap ab hr ln sa mv nw lf) (vN v1)).2.1)) zno_x := by
  refine z_enter (by decide +kernel) [(0, .ref m), (1, .int v1)] rfl (Nat.le_of_ble_eq_true rfl) (zcat_cons rfl (zcat_cons rfl zcat_nil)) (fun Γ C hQ => ?_)
  have hM : MX D V m A F cd nw st bx mv ap lf := hR.1
  have hE : mE F st bx rch wt ins hld := hR.2.1
  have hU : ∀ b, b < 20 → F 4 b = nI (unt b) := hR.2.2.1
  have hy : mY F 0 Y := hR.2.2.2.1
  have hA : ∀ a, a < ap → F 8 a = nI (ab a) ∧ F 9 a = nI (hr a) ∧ F 10 a = nI (ln a) ∧ F 11 a = sa a := hR.2.2.2.2
  have hst : st ≤ 4 := hI.1.1
  have hbx : bx ≤ 20 := hI.1.2.1
  have hrc : ∀ s, s < st → rch s ≤ 4 := fun s hs => (hI.1.2.2.1 s hs).2
  have hwt : ∀ b, b < bx → wt b < 1000 := fun b hb => by have h9 : wt b ≤ 30 := (hI.1.2.2.2 b hb).2; omega
  have hg : yGood st bx ins Y := hI.2.1.1
  have hht : ∀ s, s < st → (Y s).length ≤ rch s := hI.2.1.2.1
  have hu1 : ∀ b, unt b ≤ 1000 := hI.2.2.1.2.1
  have hhl : ∀ b, b < bx → hld b = nI 45 ∨ hld b = nI 112 ∨ hld b = nI 108 := hI.2.2.1.2.2
  have hap : ap ≤ 30 := hI.2.2.2.1.1
  have haa : ∀ a, a < ap → ab a < bx ∧ hr a ≤ 999 ∧ ln a < 3 ∧ (sa a = nI 98 ∨ sa a = nI 99 ∨ sa a = nI 103 ∨ sa a = nI 100 ∨ sa a = nI 109) := hI.2.2.2.1.2.1
  have hnw : nw ≤ 999 := hI.2.2.2.2
  have hY4 : ∀ s, (Y s).length ≤ 4 := hg.1.1
  have hmm : ∀ s, ∀ c ∈ Y s, c < bx := fun s c hc => (hg.2.2 s c hc).1
  refine z_aload_n C 0 rfl dX3_addStack_0 rfl ?_
  refine z_iconst C (v := (nI 0)) dX3_addStack_1 rfl ?_
  refine z_put C k_M hM.1 0 (by decide) [.int (nI 0), .int (nI nw), .int (nI st), .ref (A 0), .int (nI bx), .ref (A 1), .ref (A 2), .ref (A 3), .ref (A 4), .ref (A 5), .ref (A 6), .ref (A 7), .int mv, .int (nI ap), .ref (A 8), .ref (A 9), .ref (A 10), .ref (A 11), .long lf] rfl (Nat.le_of_ble_eq_true rfl) rfl rfl rfl q1387 dX3_addStack_2 (z_nV (fun V1 hV2 => ?_))
  have hM3 := MX.ob (cd2 := (nI 0)) (nw2 := nw) (st2 := st) (bx2 := bx) (mv2 := mv) (ap2 := ap) (lf2 := lf) hM hV2
  refine z_iload_n C 1 rfl dX3_addStack_5 rfl ?_
  refine z_iconst C (v := (nI 1)) dX3_addStack_6 rfl ?_
  refine z_iconst C (v := (nI 4)) dX3_addStack_7 rfl ?_
  refine z_callS C (As := [.int v1, .int (nI 1), .int (nI 4)]) (mX3_in) (lw_S q1455 q1456 q65 q1457) hd_X3_in rfl (Nat.le_of_ble_eq_true rfl) (by decide) (by decide) (by decide) (by decide) rfl dX3_addStack_8 (fun _ _ h => h.elim) (fun r4 V5 hP6 => ?_)
  have hq7 : r4 = decide (1 ≤ vN v1 ∧ vN v1 ≤ 4) := hP6.2.trans (in_le (by omega) (by omega))
  rw [hP6.1, hq7]
  refine z_st (st' := [.int (zb (decide (1 ≤ vN v1 ∧ vN v1 ≤ 4)))]) rfl ?_
  refine z_if_neB C 20 dX3_addStack_11 (by decide) (fun c11 => ?_) (fun c11 => ?_)
  · skip
    have h1 : 1 ≤ vN v1 ∧ vN v1 ≤ 4 := by have := c11; simpa using this
    have hv8 := vN_of (v := v1) (show vN v1 < 5 by omega) (by omega)
    have e9 : (.int v1 : Value) = .int (nI (vN v1)) := (congrArg Value.int hv8)
    refine z_lv (lv' := [(0, .ref m), (1, .int (nI (vN v1)))]) (by rw [e9]) ?_
    refine z_aload_n C 0 rfl dX3_addStack_20 rfl ?_
    refine z_get C k_M hM3.1 2 (by decide) rfl q1389 dX3_addStack_21 ?_
    refine z_iconst C (v := (nI 4)) dX3_addStack_24 rfl ?_
    refine z_icmp_neN C 34 (by omega) (by omega) dX3_addStack_25 (by decide) (fun c25 => ?_) (fun c25 => ?_)
    · skip
      have h2 : st < 4 := by omega
      have e1 : oAddStack (qS st rch bx wt ins hld unt Y ap ab hr ln sa mv nw lf) (vN v1) = (0, nI st, qS (st + 1) (va_up rch st (vN v1)) bx wt ins hld unt Y ap ab hr ln sa mv nw lf) := (if_neg (not_not_intro h1)).trans (if_neg (show ¬ st = 4 by omega))
      refine z_aload_n C 0 rfl dX3_addStack_34 rfl ?_
      refine z_get C k_M hM3.1 3 (by decide) rfl q1390 dX3_addStack_35 ?_
      refine z_aload_n C 0 rfl dX3_addStack_38 rfl ?_
      refine z_get C k_M hM3.1 2 (by decide) rfl q1389 dX3_addStack_39 ?_
      refine z_iload_n C 1 rfl dX3_addStack_42 rfl ?_
      have ga10 : V1 (A 0) = some (.inl (D.arr 0, 4, .inl (F 0))) := hM3.2.1 0 (by decide)
      refine z_iast C ga10 (by omega) (by omega) dX3_addStack_43 (z_nV (fun V11 hV12 => ?_))
      have hM13 := MX.st hM3 0 (by decide) (f := va_up (F 0) st (nI (vN v1))) hV12
      refine z_aload_n C 0 rfl dX3_addStack_44 rfl ?_
      refine z_dup C dX3_addStack_45 rfl ?_
      refine z_get C k_M hM13.1 2 (by decide) rfl q1389 dX3_addStack_46 ?_
      refine z_iconst C (v := (nI 1)) dX3_addStack_49 rfl ?_
      refine z_iaddN C dX3_addStack_50 ?_
      refine z_put C k_M hM13.1 2 (by decide) [.int (nI 0), .int (nI nw), .int (nI (st + 1)), .ref (A 0), .int (nI bx), .ref (A 1), .ref (A 2), .ref (A 3), .ref (A 4), .ref (A 5), .ref (A 6), .ref (A 7), .int mv, .int (nI ap), .ref (A 8), .ref (A 9), .ref (A 10), .ref (A 11), .long lf] rfl (Nat.le_of_ble_eq_true rfl) rfl rfl rfl q1389 dX3_addStack_51 (z_nV (fun V14 hV15 => ?_))
      have hM16 := MX.ob (cd2 := (nI 0)) (nw2 := nw) (st2 := (st + 1)) (bx2 := bx) (mv2 := mv) (ap2 := ap) (lf2 := lf) hM13 hV15
      refine z_aload_n C 0 rfl dX3_addStack_54 rfl ?_
      refine z_get C k_M hM16.1 2 (by decide) rfl q1389 dX3_addStack_55 ?_
      refine z_iconst C (v := (nI 1)) dX3_addStack_58 rfl ?_
      refine z_isub C dX3_addStack_59 ?_
      exact z_iret C hQ ((nI (st + 1)) - (nI 1)) rfl ⟨_, by rw [e1]; exact ⟨hM16, mE_stk hE (vN v1), hU, hy, hA⟩, fun _ => by rw [e1]; exact nI_m1n _⟩ (by decide) (by decide) dX3_addStack_60
    · skip
      have e1 : oAddStack (qS st rch bx wt ins hld unt Y ap ab hr ln sa mv nw lf) (vN v1) = (2, 0, (qS st rch bx wt ins hld unt Y ap ab hr ln sa mv nw lf)) := (if_neg (not_not_intro h1)).trans (if_pos c25)
      refine z_aload_n C 0 rfl dX3_addStack_28 rfl ?_
      refine z_iconst C (v := (nI 2)) dX3_addStack_29 rfl ?_
      refine z_callV C k_M hM3.1 (As := [.int (nI 2)]) (mX3_fails hM3 hst hbx) (lw_V q1458 q1460 qs31 q65 q1461) rfl hd_X3_fails rfl (Nat.le_of_ble_eq_true rfl) (by decide) (by decide) (by decide) (by decide) rfl dX3_addStack_30 (fun _ _ h => h.elim) (fun r17 V18 hP19 => ?_)
      obtain ⟨hM20, rfl⟩ := hP19
      refine z_st (st' := [.int 0]) rfl ?_
      exact z_iret C hQ 0 rfl ⟨F, by rw [e1]; exact (show mR D _ m A _ _ (qS st rch bx wt ins hld unt Y ap ab hr ln sa mv nw lf) from ⟨hM20, hE, hU, hy, hA⟩), fun _ => oRes e1⟩ (by decide) (by decide) dX3_addStack_33
  · skip
    have e1 : oAddStack (qS st rch bx wt ins hld unt Y ap ab hr ln sa mv nw lf) (vN v1) = (1, 0, (qS st rch bx wt ins hld unt Y ap ab hr ln sa mv nw lf)) := if_pos (by have := c11; simp at this; omega)
    refine z_aload_n C 0 rfl dX3_addStack_14 rfl ?_
    refine z_iconst C (v := (nI 1)) dX3_addStack_15 rfl ?_
    refine z_callV C k_M hM3.1 (As := [.int (nI 1)]) (mX3_fails hM3 hst hbx) (lw_V q1458 q1460 qs31 q65 q1461) rfl hd_X3_fails rfl (Nat.le_of_ble_eq_true rfl) (by decide) (by decide) (by decide) (by decide) rfl dX3_addStack_16 (fun _ _ h => h.elim) (fun r21 V22 hP23 => ?_)
    obtain ⟨hM24, rfl⟩ := hP23
    refine z_st (st' := [.int 0]) rfl ?_
    exact z_iret C hQ 0 rfl ⟨F, by rw [e1]; exact (show mR D _ m A _ _ (qS st rch bx wt ins hld unt Y ap ab hr ln sa mv nw lf) from ⟨hM24, hE, hU, hy, hA⟩), fun _ => oRes e1⟩ (by decide) (by decide) dX3_addStack_19
