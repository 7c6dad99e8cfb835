/-! TREE: the map as a list of keys and values -/
set_option maxRecDepth 100000
def tN (V : ZV) (t : Nat) (L : List Nat) (ky vl : Nat → Nat) (sz : Nat) (mc : Int32) : Prop :=
  ∃ rt lf rg pa cl ps lo hi, tI L rt lf rg pa ps lo hi ∧ tW V t L rt lf rg pa cl ky vl sz mc
def tG (ky vl : Nat → Nat) (a : Nat) : Nat × Nat := (ky a, vl a)
/-- the map t: cells L, contents C in the order of the keys -/
def tM (V : ZV) (t : Nat) (L : List Nat) (C : List (Nat × Nat)) (mc : Int32) : Prop := ∃ ky vl, tN V t L ky vl L.length mc ∧ C = L.map (tG ky vl)
/-- sorted -/
def tSo (kc : Nat → List Nat) (C : List (Nat × Nat)) : Prop := ∀ (i j : Nat) (p q : Nat × Nat), C[i]? = some p → C[j]? = some q → i < j → lexL (kc p.1) (kc q.1)
def cI {α : Type} (C : List α) (j : Nat) (x : α) : List α := C.take j ++ x :: C.drop j
def cD {α : Type} (C : List α) (j : Nat) : List α := C.take j ++ C.drop (j + 1)
theorem cI_map {ky vl : Nat → Nat} {L : List Nat} {j e k v : Nat} (he : e ∉ L) : (lI L j e).map (tG (va_up ky e k) (va_up vl e v)) = cI (L.map (tG ky vl)) j (k, v) := by
  have key : ∀ M : List Nat, (∀ a ∈ M, a ∈ L) → M.map (tG (va_up ky e k) (va_up vl e v)) = M.map (tG ky vl) := fun M hM => by
    refine List.map_congr_left (fun a ha => ?_)
    have hne : a ≠ e := fun q => he (by rw [← q]; exact hM a ha)
    unfold tG; rw [zvn hne, zvn hne]
  unfold lI cI
  rw [List.map_append, List.map_cons, key _ (fun a ha => List.mem_of_mem_take ha), key _ (fun a ha => List.mem_of_mem_drop ha), ← List.map_take, ← List.map_drop]
  unfold tG; rw [zvs, zvs]
theorem cD_map {ky vl : Nat → Nat} {L : List Nat} {j : Nat} : (lD L j).map (tG ky vl) = cD (L.map (tG ky vl)) j := by
  unfold lD cD
  rw [List.map_append, ← List.map_take, ← List.map_drop]
theorem up_sw {α : Type} {f : Nat → α} {p e : Nat} {x y : α} (h : p ≠ e) : va_up (va_up f p x) e y = va_up (va_up f e y) p x := by
  funext a
  by_cases h1 : a = e
  · rw [h1, zvs, zvn (Ne.symm h), zvs]
  · rw [zvn h1]
    by_cases h2 : a = p
    · rw [h2, zvs, zvs]
    · rw [zvn h2, zvn h2, zvn h1]
section TWB
variable {V V1 : ZV} {t : Nat} {L : List Nat} {rt : Option Nat} {lf rg pa : Nat → Option Nat} {cl : Nat → Bool} {ky vl : Nat → Nat} {sz : Nat} {mc : Int32} {ps lo hi : Nat → Nat}
theorem tW.ins (h : tW V t L rt lf rg pa cl ky vl sz mc) {e j k v p : Nat} (he : V e = some (.inr (12, [.ref k, .ref v, .null, .null, .ref p, .int (zb true)]))) (hn : e ∉ L) :
    tW V t (lI L j e) rt (va_up lf e none) (va_up rg e none) (va_up pa e (some p)) (va_up cl e true) (va_up ky e k) (va_up vl e v) sz mc := by
  refine ⟨h.1, fun a ha => ?_⟩
  rcases (lI_mem a).mp ha with q | q
  · subst q; rw [zvs, zvs, zvs, zvs, zvs, zvs]; exact he
  · have hne : a ≠ e := fun z => hn (by rw [← z]; exact q)
    rw [zvn hne, zvn hne, zvn hne, zvn hne, zvn hne, zvn hne]; exact h.2 a q
theorem tW.one (e k v : Nat) (h : V t = some (.inr (9, [.null, .null, .null, .ref e, .int (nI sz), .int mc, .null, .null, .null]))) (he : V e = some (.inr (12, [.ref k, .ref v, .null, .null, .null, .int (zb true)]))) :
    tW V t [e] (some e) (fun _ => none) (fun _ => none) (fun _ => none) (fun _ => true) (fun _ => k) (fun _ => v) sz mc :=
  ⟨h, fun a ha => by rw [List.mem_singleton] at ha; subst ha; exact he⟩
theorem tI_one (e : Nat) : tI [e] (some e) (fun _ => none) (fun _ => none) (fun _ => none) (fun _ => 0) (fun _ => 0) (fun _ => 1) := by
  refine ⟨fun i a hi => ?_, ⟨fun r hr => ?_, fun h => by cases h⟩, fun a ha => ⟨fun _ => rfl, fun b h => by cases h⟩, fun a ha => ⟨fun _ => rfl, fun b h => by cases h⟩, fun a ha => ⟨fun _ => ?_, fun p h => by cases h⟩⟩
  · have := (List.getElem?_eq_some_iff.mp hi).1
    simp at this
    subst this
    simp
  · cases hr; simp
  · rw [List.mem_singleton] at ha; rw [ha]
theorem tW.sub (h : tW V t L rt lf rg pa cl ky vl sz mc) {L2 : List Nat} (hs : ∀ a ∈ L2, a ∈ L) : tW V t L2 rt lf rg pa cl ky vl sz mc := ⟨h.1, fun a ha => h.2 a (hs a ha)⟩
/-- keys before the place i are smaller than c, keys from j on greater -/
def gS (L : List Nat) (ps : Nat → Nat) (f : Nat → List Nat) (c : List Nat) (i j : Nat) : Prop := (∀ b ∈ L, ps b < i → lexL (f b) c) ∧ (∀ b ∈ L, j ≤ ps b → lexL c (f b))
theorem gS_0 (hI : tI L rt lf rg pa ps lo hi) {f : Nat → List Nat} {c : List Nat} {r : Nat} (hr : rt = some r) : gS L ps f c (lo r) (hi r) := by
  obtain ⟨q1, q2, q3, q4⟩ := hI.2.1.1 r hr
  refine ⟨fun b hb h => by rw [q3] at h; omega, fun b hb h => ?_⟩
  obtain ⟨d1, d2, d3, d4⟩ := hI.m hb
  rw [q4] at h; omega
theorem gS_e (hI : tI L rt lf rg pa ps lo hi) {f : Nat → List Nat} {c : List Nat} (hr : rt = none) : gS L ps f c 0 0 := by
  have hL := hI.2.1.2 hr
  subst hL
  exact ⟨fun b hb => absurd hb (by simp), fun b hb => absurd hb (by simp)⟩
theorem gS_l (hI : tI L rt lf rg pa ps lo hi) {f : Nat → List Nat} {c : List Nat} {a i j : Nat} (hS : ∀ a ∈ L, ∀ b ∈ L, ps a < ps b → lexL (f a) (f b)) (ha : a ∈ L) (g : gS L ps f c i j) (h : lexL c (f a)) : gS L ps f c i (ps a) :=
  ⟨g.1, fun b hb hj => by
    rcases Nat.lt_or_ge (ps a) (ps b) with q | q
    · exact lexL_tr h (hS a ha b hb q)
    · rw [hI.inj hb ha (by omega)]; exact h⟩
theorem gS_r (hI : tI L rt lf rg pa ps lo hi) {f : Nat → List Nat} {c : List Nat} {a i j : Nat} (hS : ∀ a ∈ L, ∀ b ∈ L, ps a < ps b → lexL (f a) (f b)) (ha : a ∈ L) (g : gS L ps f c i j) (h : lexL (f a) c) : gS L ps f c (ps a + 1) j :=
  ⟨fun b hb hj => by
    rcases Nat.lt_or_ge (ps b) (ps a) with q | q
    · exact lexL_tr (hS b hb a ha q) h
    · rw [hI.inj hb ha (by omega)]; exact h, g.2⟩
theorem gS_no {f : Nat → List Nat} {c : List Nat} {j : Nat} (g : gS L ps f c j j) : ∀ b ∈ L, f b ≠ c := fun b hb e => by
  rcases Nat.lt_or_ge (ps b) j with q | q
  · exact lexL_irr c (by have := g.1 b hb q; rwa [e] at this)
  · exact lexL_irr c (by have := g.2 b hb q; rwa [e] at this)
theorem gS_goL (hI : tI L rt lf rg pa ps lo hi) {f : Nat → List Nat} {c : List Nat} {a b : Nat} (hS : ∀ a ∈ L, ∀ b ∈ L, ps a < ps b → lexL (f a) (f b)) (ha : a ∈ L) (g : gS L ps f c (lo a) (hi a)) (h : lexL c (f a)) (e : lf a = some b) : b ∈ L ∧ gS L ps f c (lo b) (hi b) ∧ hi b - lo b < hi a - lo a := by
  obtain ⟨b1, b2, b3, b4⟩ := (hI.2.2.1 a ha).2 b e
  refine ⟨b1, by rw [b3, b4]; exact gS_l hI hS ha g h, (hI.mp b1 b2).2.1⟩
theorem gS_goR (hI : tI L rt lf rg pa ps lo hi) {f : Nat → List Nat} {c : List Nat} {a b : Nat} (hS : ∀ a ∈ L, ∀ b ∈ L, ps a < ps b → lexL (f a) (f b)) (ha : a ∈ L) (g : gS L ps f c (lo a) (hi a)) (h : lexL (f a) c) (e : rg a = some b) : b ∈ L ∧ gS L ps f c (lo b) (hi b) ∧ hi b - lo b < hi a - lo a := by
  obtain ⟨b1, b2, b3, b4⟩ := (hI.2.2.2.1 a ha).2 b e
  refine ⟨b1, by rw [b3, b4]; exact gS_r hI hS ha g h, (hI.mp b1 b2).2.1⟩
theorem gS_enL (hI : tI L rt lf rg pa ps lo hi) {f : Nat → List Nat} {c : List Nat} {a : Nat} (hS : ∀ a ∈ L, ∀ b ∈ L, ps a < ps b → lexL (f a) (f b)) (ha : a ∈ L) (g : gS L ps f c (lo a) (hi a)) (h : lexL c (f a)) (e : lf a = none) : gS L ps f c (ps a) (ps a) := by
  have := gS_l hI hS ha g h
  rw [(hI.2.2.1 a ha).1 e] at this; exact this
theorem gS_enR (hI : tI L rt lf rg pa ps lo hi) {f : Nat → List Nat} {c : List Nat} {a : Nat} (hS : ∀ a ∈ L, ∀ b ∈ L, ps a < ps b → lexL (f a) (f b)) (ha : a ∈ L) (g : gS L ps f c (lo a) (hi a)) (h : lexL (f a) c) (e : rg a = none) : gS L ps f c (ps a + 1) (ps a + 1) := by
  have := gS_r hI hS ha g h
  rw [(hI.2.2.2.1 a ha).1 e] at this; exact this
/-- from the contents to the cells -/
theorem tG_at (hI : tI L rt lf rg pa ps lo hi) {a : Nat} (ha : a ∈ L) : (L.map (tG ky vl))[ps a]? = some (ky a, vl a) := by
  rw [List.getElem?_map, (hI.m ha).1]; rfl
theorem tG_in {i : Nat} {q : Nat × Nat} (h : (L.map (tG ky vl))[i]? = some q) : ∃ a, L[i]? = some a ∧ q = (ky a, vl a) := by
  rw [List.getElem?_map] at h
  rcases e : L[i]? with _ | a
  · rw [e] at h; cases h
  · rw [e] at h; exact ⟨a, rfl, (Option.some.inj h).symm⟩
theorem tSo.up {kc : Nat → List Nat} (h : tSo kc (L.map (tG ky vl))) (hI : tI L rt lf rg pa ps lo hi) : ∀ a ∈ L, ∀ b ∈ L, ps a < ps b → lexL (kc (ky a)) (kc (ky b)) := fun a ha b hb hp =>
  h (ps a) (ps b) _ _ (tG_at hI ha) (tG_at hI hb) hp
theorem gS.C {kc : Nat → List Nat} {c : List Nat} {j : Nat} (h : gS L ps (fun a => kc (ky a)) c j j) (hI : tI L rt lf rg pa ps lo hi) : ∀ (i : Nat) (q : Nat × Nat), (L.map (tG ky vl))[i]? = some q → (i < j → lexL (kc q.1) c) ∧ (j ≤ i → lexL c (kc q.1)) := fun i q hq => by
  obtain ⟨a, ha, rfl⟩ := tG_in hq
  have hp := (hI.1 i a ha).1
  exact ⟨fun hi => h.1 a (List.mem_of_getElem? ha) (by omega), fun hi => h.2 a (List.mem_of_getElem? ha) (by omega)⟩
theorem tSet (hI : tI L rt lf rg pa ps lo hi) {a v : Nat} (ha : a ∈ L) : L.map (tG ky (va_up vl a v)) = (L.map (tG ky vl)).set (ps a) (ky a, v) := by
  refine List.ext_getElem? (fun i => ?_)
  rw [List.getElem?_set, List.getElem?_map, List.length_map]
  obtain ⟨a1, a2, a3, a4⟩ := hI.m ha
  by_cases h : ps a = i
  · rw [if_pos h, if_pos (by omega), ← h, a1]
    show some (tG ky (va_up vl a v) a) = _
    unfold tG; rw [zvs]
  · rw [if_neg h, List.getElem?_map]
    rcases e : L[i]? with _ | b
    · rfl
    · have hb := (hI.1 i b e).1
      have hne : b ≠ a := fun q => h (by rw [← q]; exact hb)
      show some (tG ky (va_up vl a v) b) = some (tG ky vl b)
      unfold tG; rw [zvn hne]
end TWB
/-! an entry taken out, written step by step -/
section DL
variable {L : List Nat} {lf pa : Nat → Option Nat} {e q c : Nat} {o : Option Nat}
theorem del_1 (hq : ∀ a ∈ L, lf a = some e → a = q) (h : lf q = some e) : ∀ a ∈ L, a ≠ e → va_up lf q o a = dL lf e o a := fun a ha hae => by
  unfold dL
  by_cases k : a = q
  · rw [k, zvs, if_pos h]
  · rw [zvn k, if_neg (fun z => k (hq a ha z))]
theorem del_2 (hq : ∀ a ∈ L, lf a = some e → a = q) (h : lf q = some e) {x : Option Nat} : ∀ a ∈ L, a ≠ e → va_up (va_up lf q o) e x a = dL lf e o a := fun a ha hae => by
  rw [zvn hae]; exact del_1 hq h a ha hae
theorem del_0 (hq : ∀ a ∈ L, lf a ≠ some e) {x : Option Nat} : ∀ a ∈ L, a ≠ e → va_up lf e x a = dL lf e o a := fun a ha hae => by
  unfold dL; rw [zvn hae, if_neg (hq a ha)]
theorem del_00 (hq : ∀ a ∈ L, lf a ≠ some e) : ∀ a ∈ L, a ≠ e → lf a = dL lf e o a := fun a ha hae => by
  unfold dL; rw [if_neg (hq a ha)]
theorem del_p {y x : Option Nat} (hy : pa e = y) : ∀ a ∈ L, a ≠ e → va_up (va_up pa c y) e x a = dP pa e (some c) a := fun a ha hae => by
  unfold dP; rw [zvn hae]
  by_cases k : a = c
  · rw [k, zvs, if_pos rfl, hy]
  · rw [zvn k, if_neg (fun z => k (Option.some.inj z).symm)]
theorem del_p0 {x : Option Nat} : ∀ a ∈ L, a ≠ e → va_up pa e x a = dP pa e none a := fun a ha hae => by
  unfold dP; rw [zvn hae, if_neg (by simp)]
theorem dT_0 {rt : Option Nat} (h : rt = some e) : o = dT rt e o := by unfold dT; rw [if_pos h]
theorem dT_1 {rt : Option Nat} (h : rt ≠ some e) : rt = dT rt e o := by unfold dT; rw [if_neg h]
end DL
theorem tI.rtn {L : List Nat} {rt : Option Nat} {lf rg pa : Nat → Option Nat} {ps lo hi : Nat → Nat} (h : tI L rt lf rg pa ps lo hi) {e q : Nat} (k : pa e = some q) : rt ≠ some e := fun z => by
  have := (h.2.1.1 e z).2.1
  rw [k] at this; cases this

set_option maxHeartbeats 4000000 in
set_option maxRecDepth 100000 in
theorem mJ17_requireNonNull {l : Launch} {D : ZD} {V : ZV} {a : Nat} : ZM l D yJ17_requireNonNull (ws_ yJ17_requireNonNull cJ17_requireNonNull 1 (some (.object "java/lang/Object"))) 1 0 0 eR V [.ref a] (fun r V' => V' = V ∧ r = a) zno_x := by
  refine z_enter (by decide +kernel) [(0, .ref a)] rfl (Nat.le_of_ble_eq_true rfl) (zcat_cons rfl zcat_nil) (fun Γ C hQ => ?_)
  refine z_aload_n C 0 rfl dJ17_requireNonNull_0 rfl ?_
  refine z_ifnonnull_r C 12 dJ17_requireNonNull_1 (by decide) ?_
  refine z_aload_n C 0 rfl dJ17_requireNonNull_12 rfl ?_
  exact z_aret C hQ a rfl (Or.inl ⟨_, rfl⟩) ⟨rfl, rfl⟩ (by decide) (by decide) dJ17_requireNonNull_13
set_option maxHeartbeats 4000000 in
set_option maxRecDepth 100000 in
theorem mJ24_getKey {l : Launch} {D : ZD} {V : ZV} {e k v : Nat} {x2 x3 x4 x5 : Value} (he : V e = some (.inr (12, [.ref k, .ref v, x2, x3, x4, x5]))) : ZM l D yJ24_getKey (ws_ yJ24_getKey cJ24_getKey 1 (some (.object "java/lang/Object"))) 1 0 0 eR V [.ref e] (fun r V' => V' = V ∧ r = k) zno_x := by
  refine z_enter (by decide +kernel) [(0, .ref e)] rfl (Nat.le_of_ble_eq_true rfl) (zcat_cons rfl zcat_nil) (fun Γ C hQ => ?_)
  refine z_aload_n C 0 rfl dJ24_getKey_0 rfl ?_
  refine z_get C k_E he 0 (by decide) rfl q1032 dJ24_getKey_1 ?_
  exact z_aret C hQ k rfl (Or.inl ⟨_, rfl⟩) ⟨rfl, rfl⟩ (by decide) (by decide) dJ24_getKey_4
set_option maxHeartbeats 4000000 in
set_option maxRecDepth 100000 in
theorem mJ24_getValue {l : Launch} {D : ZD} {V : ZV} {e k v : Nat} {x2 x3 x4 x5 : Value} (he : V e = some (.inr (12, [.ref k, .ref v, x2, x3, x4, x5]))) : ZM l D yJ24_getValue (ws_ yJ24_getValue cJ24_getValue 1 (some (.object "java/lang/Object"))) 1 0 0 eR V [.ref e] (fun r V' => V' = V ∧ r = v) zno_x := by
  refine z_enter (by decide +kernel) [(0, .ref e)] rfl (Nat.le_of_ble_eq_true rfl) (zcat_cons rfl zcat_nil) (fun Γ C hQ => ?_)
  refine z_aload_n C 0 rfl dJ24_getValue_0 rfl ?_
  refine z_get C k_E he 1 (by decide) rfl q1034 dJ24_getValue_1 ?_
  exact z_aret C hQ v rfl (Or.inl ⟨_, rfl⟩) ⟨rfl, rfl⟩ (by decide) (by decide) dJ24_getValue_4
set_option maxHeartbeats 4000000 in
set_option maxRecDepth 100000 in
theorem mJ24_init {l : Launch} {D : ZD} {V : ZV} {e k v : Nat} {o : Option Nat} (he : V e = some (.inr (12, [.null, .null, .null, .null, .null, .int (nI 0)]))) : ZM l D yJ24_init (ws_ yJ24_init cJ24_init 4 none) 1 0 0 eU V [.ref e, .ref k, .ref v, va_rf o] (fun r V' => V' e = some (.inr (12, [.ref k, .ref v, .null, .null, va_rf o, .int (zb true)])) ∧ zUnc V V' (fun a => a = e)) zno_x := by
  refine z_enter (by decide +kernel) [(0, .ref e), (1, .ref k), (2, .ref v), (3, va_rf o)] (by cases o <;> rfl) (by cases o <;> exact Nat.le_of_ble_eq_true rfl) (zcat_cons rfl (zcat_cons rfl (zcat_cons rfl (zcat_cons (va_rf_cat _) zcat_nil)))) (fun Γ C hQ => ?_)
  have hU1 : zUnc V V (fun z_ => z_ = e) := zUnc.rf
  refine z_aload_n C 0 rfl dJ24_init_0 rfl ?_
  refine z_objInit C q1031 q103 q104 dJ24_init_1 (by decide) (by decide) ?_
  refine z_aload_n C 0 rfl dJ24_init_4 rfl ?_
  refine z_iconst C (v := (nI 1)) dJ24_init_5 rfl ?_
  refine z_st (st' := [.int (zb true), .ref e]) rfl ?_
  refine z_put C k_E he 5 (by decide) [.null, .null, .null, .null, .null, .int (zb true)] rfl (Nat.le_of_ble_eq_true rfl) (zb_nar _) (zb_fit _) rfl q1040 dJ24_init_6 (z_nV (fun V2 hV3 => ?_))
  have hU4 := zUnc.up (S := (fun z_ => z_ = e)) hU1 hV3 rfl
  have g5 : V2 e = some (.inr (12, [.null, .null, .null, .null, .null, .int (zb true)])) := zself hV3
  refine z_aload_n C 0 rfl dJ24_init_9 rfl ?_
  refine z_aload_n C 1 rfl dJ24_init_10 rfl ?_
  refine z_put C k_E g5 0 (by decide) [.ref k, .null, .null, .null, .null, .int (zb true)] rfl (Nat.le_of_ble_eq_true rfl) rfl rfl rfl q1032 dJ24_init_11 (z_nV (fun V6 hV7 => ?_))
  have hU8 := zUnc.up (S := (fun z_ => z_ = e)) hU4 hV7 rfl
  have g9 : V6 e = some (.inr (12, [.ref k, .null, .null, .null, .null, .int (zb true)])) := zself hV7
  refine z_aload_n C 0 rfl dJ24_init_14 rfl ?_
  refine z_aload_n C 2 rfl dJ24_init_15 rfl ?_
  refine z_put C k_E g9 1 (by decide) [.ref k, .ref v, .null, .null, .null, .int (zb true)] rfl (Nat.le_of_ble_eq_true rfl) rfl rfl rfl q1034 dJ24_init_16 (z_nV (fun V10 hV11 => ?_))
  have hU12 := zUnc.up (S := (fun z_ => z_ = e)) hU8 hV11 rfl
  have g13 : V10 e = some (.inr (12, [.ref k, .ref v, .null, .null, .null, .int (zb true)])) := zself hV11
  refine z_aload_n C 0 rfl dJ24_init_19 rfl ?_
  refine z_aload_nQ C 3 (r := o) rfl dJ24_init_20 rfl ?_
  refine z_put C k_E g13 4 (by decide) [.ref k, .ref v, .null, .null, va_rf o, .int (zb true)] rfl (Nat.le_of_ble_eq_true rfl) rfl (va_fitO _) rfl q1038 dJ24_init_21 (z_nV (fun V14 hV15 => ?_))
  have hU16 := zUnc.up (S := (fun z_ => z_ = e)) hU12 hV15 rfl
  have g17 : V14 e = some (.inr (12, [.ref k, .ref v, .null, .null, va_rf o, .int (zb true)])) := zself hV15
  exact z_vret C hQ () rfl ⟨g17, hU16⟩ (by decide) (by decide) dJ24_init_24
set_option maxHeartbeats 4000000 in
set_option maxRecDepth 100000 in
theorem mJ3_init {l : Launch} {D : ZD} {V : ZV} {a : Nat} : ZM l D yJ3_init (ws_ yJ3_init cJ3_init 1 none) 1 0 0 eU V [.ref a] (fun r V' => V' = V) zno_x := by
  refine z_enter (by decide +kernel) [(0, .ref a)] rfl (Nat.le_of_ble_eq_true rfl) (zcat_cons rfl zcat_nil) (fun Γ C hQ => ?_)
  refine z_aload_n C 0 rfl dJ3_init_0 rfl ?_
  refine z_objInit C q160 q103 q104 dJ3_init_1 (by decide) (by decide) ?_
  exact z_vret C hQ () rfl rfl (by decide) (by decide) dJ3_init_4
set_option maxHeartbeats 4000000 in
set_option maxRecDepth 100000 in
theorem mJ4_init {l : Launch} {D : ZD} {V : ZV} {t : Nat} (ht : V t = some (.inr (9, [.null, .null, .null, .null, .int (nI 0), .int (nI 0), .null, .null, .null]))) : ZM l D yJ4_init (ws_ yJ4_init cJ4_init 1 none) 2 0 0 eU V [.ref t] (fun r V' => tM V' t [] [] (nI 0) ∧ zUnc V V' (fun a => a = t)) zno_x := by
  refine z_enter (by decide +kernel) [(0, .ref t)] rfl (Nat.le_of_ble_eq_true rfl) (zcat_cons rfl zcat_nil) (fun Γ C hQ => ?_)
  have hU1 : zUnc V V (fun z_ => z_ = t) := zUnc.rf
  refine z_aload_n C 0 rfl dJ4_init_0 rfl ?_
  refine z_callI C (rt := none) (As := []) (mJ3_init) q159 q63 q157 q158 rfl hd_J3_init rfl (Nat.le_of_ble_eq_true rfl) (by decide) (by decide) (by decide) (by decide) rfl dJ4_init_1 (fun _ _ h => h.elim) (fun r2 V3 hP4 => ?_)
  rw [hP4]
  refine z_st (st' := []) rfl ?_
  refine z_aload_n C 0 rfl dJ4_init_4 rfl ?_
  refine z_iconst C (v := (nI 0)) dJ4_init_5 rfl ?_
  refine z_put C k_TM ht 4 (by decide) [.null, .null, .null, .null, .int (nI 0), .int (nI 0), .null, .null, .null] rfl (Nat.le_of_ble_eq_true rfl) rfl rfl rfl q163 dJ4_init_6 (z_nV (fun V5 hV6 => ?_))
  have hU7 := zUnc.up (S := (fun z_ => z_ = t)) hU1 hV6 rfl
  have g8 : V5 t = some (.inr (9, [.null, .null, .null, .null, .int (nI 0), .int (nI 0), .null, .null, .null])) := zself hV6
  refine z_aload_n C 0 rfl dJ4_init_9 rfl ?_
  refine z_iconst C (v := (nI 0)) dJ4_init_10 rfl ?_
  refine z_put C k_TM g8 5 (by decide) [.null, .null, .null, .null, .int (nI 0), .int (nI 0), .null, .null, .null] rfl (Nat.le_of_ble_eq_true rfl) rfl rfl rfl q164 dJ4_init_11 (z_nV (fun V9 hV10 => ?_))
  have hU11 := zUnc.up (S := (fun z_ => z_ = t)) hU7 hV10 rfl
  have g12 : V9 t = some (.inr (9, [.null, .null, .null, .null, .int (nI 0), .int (nI 0), .null, .null, .null])) := zself hV10
  refine z_aload_n C 0 rfl dJ4_init_14 rfl ?_
  refine z_null C dJ4_init_15 ?_
  refine z_putF C k_TM g12 2 (by decide) [.null, .null, .null, .null, .int (nI 0), .int (nI 0), .null, .null, .null] rfl (Nat.le_of_ble_eq_true rfl) rfl rfl rfl rfl rfl q161 dJ4_init_16 (z_nV (fun V13 hV14 => ?_))
  have hU15 := zUnc.up (S := (fun z_ => z_ = t)) hU11 hV14 rfl
  have g16 : V13 t = some (.inr (9, [.null, .null, .null, .null, .int (nI 0), .int (nI 0), .null, .null, .null])) := zself hV14
  exact z_vret C hQ () rfl ⟨⟨fun _ => 0, fun _ => 0, ⟨none, fun _ => none, fun _ => none, fun _ => none, fun _ => true, fun _ => 0, fun _ => 0, fun _ => 0, ⟨fun i a h => by simp at h, ⟨fun r h => absurd h (by simp), fun _ => rfl⟩, fun a h => absurd h (by simp), fun a h => absurd h (by simp), fun a h => absurd h (by simp)⟩, g16, fun a h => absurd h (by simp)⟩, rfl⟩, hU15⟩ (by decide) (by decide) dJ4_init_19
set_option maxHeartbeats 4000000 in
set_option maxRecDepth 100000 in
theorem mJ4_addEntry {l : Launch} {D : ZD} {V : ZV} {t : Nat} {L : List Nat} {rt : Option Nat} {lf rg pa : Nat → Option Nat} {cl : Nat → Bool} {ky vl : Nat → Nat} {sz : Nat} {mc : Int32} (hW : tW V t L rt lf rg pa cl ky vl sz mc) {ps lo hi : Nat → Nat} (hI : tI L rt lf rg pa ps lo hi) {k v p : Nat} {b : Bool} (hp : p ∈ L) (hb : (b = true ∧ lf p = none) ∨ (b = false ∧ rg p = none)) : ZM l D yJ4_addEntry (ws_ yJ4_addEntry cJ4_addEntry 6 none) 3 1 6 eU V [.ref t, .ref k, .ref v, .ref p, .int (zb b)] (fun r V' => ∃ e, V e = none ∧ tN V' t (lI L (if b = true then ps p else ps p + 1) e) (va_up ky e k) (va_up vl e v) (sz + 1) (mc + nI 1) ∧ zUnc V V' (tC t L)) zno_x := by
  refine z_enter (by decide +kernel) [(0, .ref t), (1, .ref k), (2, .ref v), (3, .ref p), (4, .int (zb b))] rfl (Nat.le_of_ble_eq_true rfl) (zcat_cons rfl (zcat_cons rfl (zcat_cons rfl (zcat_cons rfl (zcat_cons rfl zcat_nil))))) (fun Γ C hQ => ?_)
  have hU0 : zUnc V V (tC t L) := zUnc.rf
  refine z_new C k_E q1026 q1027 q90 [.null, .null, .null, .null, .null, .int (nI 0)] k0_E (by decide) (by decide) dJ4_addEntry_0 (fun q1 hq2 => z_nV (fun V3 hV4 => ?_))
  have hno6 := tW.no hW hq2
  have hW5 := tW.new hW hq2 hV4
  have hf7 := zUnc.none hU0 hno6 hq2
  have hU8 := zUnc.new hU0 hV4 hq2
  have g9 : V3 q1 = some (.inr (12, [.null, .null, .null, .null, .null, .int (nI 0)])) := zself hV4
  refine z_dup C dJ4_addEntry_3 rfl ?_
  refine z_aload_n C 1 rfl dJ4_addEntry_4 rfl ?_
  refine z_aload_n C 2 rfl dJ4_addEntry_5 rfl ?_
  refine z_aload_n C 3 rfl dJ4_addEntry_6 rfl ?_
  refine z_callI C (rt := none) (As := [.ref k, .ref v, .ref p]) (mJ24_init (o := some p) g9) q1030 q90 q1028 q1029 rfl hd_J24_init rfl (Nat.le_of_ble_eq_true rfl) (by decide) (by decide) (by decide) (by decide) rfl dJ4_addEntry_7 (fun _ _ h => h.elim) (fun r10 V11 hP12 => ?_)
  obtain ⟨he1, heu⟩ := hP12
  refine z_st (st' := [.ref q1]) rfl ?_
  have hW13 := tW.mv hW5 heu (fun a ha z => hno6 (by rw [← show a = q1 from z]; exact ha))
  have hU14 := zUnc.tr (S := tC t L) hU8 heu (fun a h => Or.inr (by rw [show a = q1 from h]; exact hf7))
  have nx15 : q1 ≠ p := fun z => hno6 (Or.inr (by rw [z]; exact hp))
  have hn9 : q1 ∉ L := fun z => hno6 (Or.inr z)
  refine z_astore C [(5, .ref q1), (0, .ref t), (1, .ref k), (2, .ref v), (3, .ref p), (4, .int (zb b))] dJ4_addEntry_10 (by decide) rfl ?_
  refine z_iload C 5 rfl dJ4_addEntry_12 ?_
  refine z_if_eqB C 26 dJ4_addEntry_14 (by decide) (fun c14 => ?_) (fun c14 => ?_)
  · skip
    have k16 : b = false := c14
    refine z_aload_n C 4 rfl dJ4_addEntry_26 rfl ?_
    refine z_aload C 0 rfl dJ4_addEntry_27 ?_
    refine z_put C k_E (hW13.2 p hp) 3 (by decide) [.ref (ky p), .ref (vl p), va_rf (lf p), .ref q1, va_rf (pa p), .int (zb (cl p))] rfl (Nat.le_of_ble_eq_true rfl) rfl rfl rfl q1037 dJ4_addEntry_29 (z_nV (fun V17 hV18 => ?_))
    have hW19 := tW.urg hW13 hp (some q1) hV18
    have hU20 := zUnc.up (S := tC t L) hU14 hV18 (Or.inr hp)
    have g21 := zup hV18 nx15 he1
    refine z_aload_n C 1 rfl dJ4_addEntry_32 rfl ?_
    refine z_aload C 0 rfl dJ4_addEntry_33 ?_
    have hc9 : rg p = none := by rcases hb with ⟨h, _⟩ | ⟨_, h⟩; rw [k16] at h; cases h; exact h
    have hWi := tW.ins (j := (ps p + 1)) hW19 g21 hn9
    rw [up_sw (Ne.symm nx15)] at hWi
    have hIi := tI_insR hI hp hc9 hn9
    refine z_callV C k_TM hW19.1 (As := [.ref q1]) (mJ4_fixAfterInsertion hWi hIi ((lI_mem q1).mpr (Or.inl rfl))) (lw_V q1059 q1061 qs19 q64 q1062) rfl hd_J4_fixAfterInsertion rfl (Nat.le_of_ble_eq_true rfl) (by decide) (by decide) (by decide) (by decide) rfl dJ4_addEntry_35 (fun _ _ h => h.elim) (fun r22 V23 hP24 => ?_)
    obtain ⟨rt2, lf2, rg2, pa2, cl2, lo2, hi2, hW2, hI2, hU2⟩ := hP24
    refine z_st (st' := []) rfl ?_
    have hU3 := zUnc.tr (S := tC t L) hU20 hU2 (fun a h => by rcases h with h | h; exact Or.inl (Or.inl h); rcases (lI_mem a).mp h with h | h; exact Or.inr (by rw [h]; exact hf7); exact Or.inl (Or.inr h))
    refine z_aload_n C 1 rfl dJ4_addEntry_38 rfl ?_
    refine z_dup C dJ4_addEntry_39 rfl ?_
    refine z_get C k_TM hW2.1 4 (by decide) rfl q163 dJ4_addEntry_40 ?_
    refine z_iconst C (v := (nI 1)) dJ4_addEntry_43 rfl ?_
    refine z_iaddN C dJ4_addEntry_44 ?_
    refine z_put C k_TM hW2.1 4 (by decide) [.null, .null, .null, va_rf rt2, .int (nI (sz + 1)), .int mc, .null, .null, .null] rfl (Nat.le_of_ble_eq_true rfl) rfl rfl rfl q163 dJ4_addEntry_45 (z_nV (fun V25 hV26 => ?_))
    have hW27 := tW.map hW2 rt2 (sz + 1) mc hV26
    have hU28 := zUnc.up (S := tC t L) hU3 hV26 (Or.inl rfl)
    refine z_aload_n C 1 rfl dJ4_addEntry_48 rfl ?_
    refine z_dup C dJ4_addEntry_49 rfl ?_
    refine z_get C k_TM hW27.1 5 (by decide) rfl q164 dJ4_addEntry_50 ?_
    refine z_iconst C (v := (nI 1)) dJ4_addEntry_53 rfl ?_
    refine z_iadd C dJ4_addEntry_54 ?_
    refine z_put C k_TM hW27.1 5 (by decide) [.null, .null, .null, va_rf rt2, .int (nI (sz + 1)), .int (mc + (nI 1)), .null, .null, .null] rfl (Nat.le_of_ble_eq_true rfl) rfl rfl rfl q164 dJ4_addEntry_55 (z_nV (fun V29 hV30 => ?_))
    have hW31 := tW.map hW27 rt2 (sz + 1) (mc + (nI 1)) hV30
    have hU32 := zUnc.up (S := tC t L) hU28 hV30 (Or.inl rfl)
    exact z_vret C hQ () rfl ⟨q1, hf7, by rw [k16]; exact ⟨_, _, _, _, _, _, _, _, hI2, hW31⟩, hU32⟩ (by decide) (by decide) dJ4_addEntry_58
  · skip
    have k33 : b = true := c14
    refine z_aload_n C 4 rfl dJ4_addEntry_17 rfl ?_
    refine z_aload C 0 rfl dJ4_addEntry_18 ?_
    refine z_put C k_E (hW13.2 p hp) 2 (by decide) [.ref (ky p), .ref (vl p), .ref q1, va_rf (rg p), va_rf (pa p), .int (zb (cl p))] rfl (Nat.le_of_ble_eq_true rfl) rfl rfl rfl q1036 dJ4_addEntry_20 (z_nV (fun V34 hV35 => ?_))
    have hW36 := tW.ulf hW13 hp (some q1) hV35
    have hU37 := zUnc.up (S := tC t L) hU14 hV35 (Or.inr hp)
    have g38 := zup hV35 nx15 he1
    refine z_goto C 32 dJ4_addEntry_23 (by decide) ?_
    refine z_aload_n C 1 rfl dJ4_addEntry_32 rfl ?_
    refine z_aload C 0 rfl dJ4_addEntry_33 ?_
    have hc9 : lf p = none := by rcases hb with ⟨_, h⟩ | ⟨h, _⟩; exact h; rw [k33] at h; cases h
    have hWi := tW.ins (j := (ps p)) hW36 g38 hn9
    rw [up_sw (Ne.symm nx15)] at hWi
    have hIi := tI_insL hI hp hc9 hn9
    refine z_callV C k_TM hW36.1 (As := [.ref q1]) (mJ4_fixAfterInsertion hWi hIi ((lI_mem q1).mpr (Or.inl rfl))) (lw_V q1059 q1061 qs19 q64 q1062) rfl hd_J4_fixAfterInsertion rfl (Nat.le_of_ble_eq_true rfl) (by decide) (by decide) (by decide) (by decide) rfl dJ4_addEntry_35 (fun _ _ h => h.elim) (fun r39 V40 hP41 => ?_)
    obtain ⟨rt2, lf2, rg2, pa2, cl2, lo2, hi2, hW2, hI2, hU2⟩ := hP41
    refine z_st (st' := []) rfl ?_
    have hU3 := zUnc.tr (S := tC t L) hU37 hU2 (fun a h => by rcases h with h | h; exact Or.inl (Or.inl h); rcases (lI_mem a).mp h with h | h; exact Or.inr (by rw [h]; exact hf7); exact Or.inl (Or.inr h))
    refine z_aload_n C 1 rfl dJ4_addEntry_38 rfl ?_
    refine z_dup C dJ4_addEntry_39 rfl ?_
    refine z_get C k_TM hW2.1 4 (by decide) rfl q163 dJ4_addEntry_40 ?_
    refine z_iconst C (v := (nI 1)) dJ4_addEntry_43 rfl ?_
    refine z_iaddN C dJ4_addEntry_44 ?_
    refine z_put C k_TM hW2.1 4 (by decide) [.null, .null, .null, va_rf rt2, .int (nI (sz + 1)), .int mc, .null, .null, .null] rfl (Nat.le_of_ble_eq_true rfl) rfl rfl rfl q163 dJ4_addEntry_45 (z_nV (fun V42 hV43 => ?_))
    have hW44 := tW.map hW2 rt2 (sz + 1) mc hV43
    have hU45 := zUnc.up (S := tC t L) hU3 hV43 (Or.inl rfl)
    refine z_aload_n C 1 rfl dJ4_addEntry_48 rfl ?_
    refine z_dup C dJ4_addEntry_49 rfl ?_
    refine z_get C k_TM hW44.1 5 (by decide) rfl q164 dJ4_addEntry_50 ?_
    refine z_iconst C (v := (nI 1)) dJ4_addEntry_53 rfl ?_
    refine z_iadd C dJ4_addEntry_54 ?_
    refine z_put C k_TM hW44.1 5 (by decide) [.null, .null, .null, va_rf rt2, .int (nI (sz + 1)), .int (mc + (nI 1)), .null, .null, .null] rfl (Nat.le_of_ble_eq_true rfl) rfl rfl rfl q164 dJ4_addEntry_55 (z_nV (fun V46 hV47 => ?_))
    have hW48 := tW.map hW44 rt2 (sz + 1) (mc + (nI 1)) hV47
    have hU49 := zUnc.up (S := tC t L) hU45 hV47 (Or.inl rfl)
    exact z_vret C hQ () rfl ⟨q1, hf7, by rw [k33]; exact ⟨_, _, _, _, _, _, _, _, hI2, hW48⟩, hU49⟩ (by decide) (by decide) dJ4_addEntry_58
set_option maxHeartbeats 4000000 in
set_option maxRecDepth 100000 in
theorem mJ4_getFirstEntry {l : Launch} {D : ZD} {V : ZV} {t : Nat} {L : List Nat} {rt : Option Nat} {lf rg pa : Nat → Option Nat} {cl : Nat → Bool} {ky vl : Nat → Nat} {sz : Nat} {mc : Int32} (hW : tW V t L rt lf rg pa cl ky vl sz mc) {ps lo hi : Nat → Nat} (hI : tI L rt lf rg pa ps lo hi)  : ZM l D yJ4_getFirstEntry (ws_ yJ4_getFirstEntry cJ4_getFirstEntry 2 (some (.object "java/util/TreeMap$Entry"))) 1 0 0 eO V [.ref t] (fun r V' => V' = V ∧ ((r = none ∧ L = []) ∨ ∃ a, r = some a ∧ a ∈ L ∧ ps a = 0)) zno_x := by
  refine z_enter (by decide +kernel) [(0, .ref t)] rfl (Nat.le_of_ble_eq_true rfl) (zcat_cons rfl zcat_nil) (fun Γ C hQ => ?_)
  refine z_aload_n C 0 rfl dJ4_getFirstEntry_0 rfl ?_
  refine z_get C k_TM hW.1 3 (by decide) rfl q162 dJ4_getFirstEntry_1 ?_
  refine z_astore_nQ C (r := rt) [(1, va_rf rt), (0, .ref t)] dJ4_getFirstEntry_4 rfl (by decide) rfl ?_
  refine z_aload_nQ C 0 (r := rt) rfl dJ4_getFirstEntry_5 rfl ?_
  refine z_ifnullQ C 24 dJ4_getFirstEntry_6 (by decide) (fun hn2 => ?_) (fun a1 hs3 => ?_)
  · skip
    refine z_lv (lv' := [(1, .null), (0, .ref t)]) (by rw [hn2]; rfl) ?_
    refine z_aload_nQ C 0 (r := none) rfl dJ4_getFirstEntry_24 rfl ?_
    exact z_aretN C hQ none rfl (Or.inl ⟨_, rfl⟩) ⟨rfl, Or.inl ⟨rfl, hI.2.1.2 hn2⟩⟩ (by decide) (by decide) dJ4_getFirstEntry_25
  · skip
    obtain ⟨hm4, hp5, -, -⟩ := hI.2.1.1 a1 hs3
    refine z_lv (lv' := [(1, .ref a1), (0, .ref t)]) (by rw [hs3]; rfl) ?_
    have hlo := (hI.2.1.1 _ hs3).2.2.1
    refine z_pick [(1, .ref a1)] [0] rfl ?_
    have loop6 : ∀ (n_loop6 : Nat) (a : Nat), a ∈ L → lo a = 0 → hi a - lo a < n_loop6 → ZW l D Γ (zr 1 0 0) 9 [(1, .ref a)] [] V 0 0 := by
      intro n_loop6
      induction n_loop6 with
      | zero => intro a _ _ hm; exact absurd hm (Nat.not_lt_zero _)
      | succ n_loop6 ih_loop6 =>
        intro a hloop6_0 hloop6_1 hm
        refine z_aload_n C 0 rfl dJ4_getFirstEntry_9 rfl ?_
        refine z_get C k_E (hW.2 a hloop6_0) 2 (by decide) rfl q1036 dJ4_getFirstEntry_10 ?_
        refine z_ifnullQ C 24 dJ4_getFirstEntry_13 (by decide) (fun hn8 => ?_) (fun a7 hs9 => ?_)
        · skip
          refine z_aload_n C 0 rfl dJ4_getFirstEntry_24 rfl ?_
          exact z_aret C hQ (some a) rfl (Or.inl ⟨_, rfl⟩) ⟨rfl, Or.inr ⟨a, rfl, hloop6_0, by rw [← (hI.2.2.1 a hloop6_0).1 hn8]; exact hloop6_1⟩⟩ (by decide) (by decide) dJ4_getFirstEntry_25
        · skip
          obtain ⟨hm10, hp11, nx12⟩ := hI.ml hloop6_0 hs9
          refine z_aload_n C 0 rfl dJ4_getFirstEntry_16 rfl ?_
          refine z_get C k_E (hW.2 a hloop6_0) 2 (by decide) rfl q1036 dJ4_getFirstEntry_17 ?_
          refine z_top (v := .ref a7) (congrArg va_rf (show (lf a) = (some a7) from (by rw [hs9]))) ?_
          refine z_astore_n C [(1, .ref a7)] dJ4_getFirstEntry_20 rfl (by decide) rfl ?_
          refine z_goto C 9 dJ4_getFirstEntry_21 (by decide) ?_
          have q0 := (hI.2.2.1 a hloop6_0).2 a7 hs9
          have q1 := (hI.mp hm10 q0.2.1).2.1
          exact ih_loop6 a7 hm10 (by rw [q0.2.2.1]; exact hloop6_1) (by omega)
    exact loop6 _ a1 hm4 hlo (Nat.lt_succ_self _)
set_option maxHeartbeats 4000000 in
set_option maxRecDepth 100000 in
theorem mJ4_successor {l : Launch} {D : ZD} {V : ZV} {t : Nat} {L : List Nat} {rt : Option Nat} {lf rg pa : Nat → Option Nat} {cl : Nat → Bool} {ky vl : Nat → Nat} {sz : Nat} {mc : Int32} (hW : tW V t L rt lf rg pa cl ky vl sz mc) {ps lo hi : Nat → Nat} (hI : tI L rt lf rg pa ps lo hi) {p c : Nat} (hp : p ∈ L) (hr : rg p = some c) : ZM l D yJ4_successor (ws_ yJ4_successor cJ4_successor 3 (some (.object "java/util/TreeMap$Entry"))) 1 0 0 eR V [.ref p] (fun r V' => V' = V ∧ r ∈ L ∧ ps r = ps p + 1 ∧ lf r = none) zno_x := by
  refine z_enter (by decide +kernel) [(0, .ref p)] rfl (Nat.le_of_ble_eq_true rfl) (zcat_cons rfl zcat_nil) (fun Γ C hQ => ?_)
  obtain ⟨hm1, hp2, nx3⟩ := hI.mr hp hr
  have hlo := ((hI.2.2.2.1 p hp).2 c hr).2.2.1
  refine z_aload_n C 0 rfl dJ4_successor_0 rfl ?_
  refine z_ifnonnull_r C 6 dJ4_successor_1 (by decide) ?_
  refine z_aload_n C 0 rfl dJ4_successor_6 rfl ?_
  refine z_get C k_E (hW.2 p hp) 3 (by decide) rfl q1037 dJ4_successor_7 ?_
  refine z_top (v := .ref c) (congrArg va_rf (show (rg p) = (some c) from (by rw [hr]))) ?_
  refine z_ifnull_r C dJ4_successor_10 ?_
  refine z_aload_n C 0 rfl dJ4_successor_13 rfl ?_
  refine z_get C k_E (hW.2 p hp) 3 (by decide) rfl q1037 dJ4_successor_14 ?_
  refine z_top (v := .ref c) (congrArg va_rf (show (rg p) = (some c) from (by rw [hr]))) ?_
  refine z_astore_n C [(1, .ref c), (0, .ref p)] dJ4_successor_17 rfl (by decide) rfl ?_
  refine z_pick [(1, .ref c)] [0] rfl ?_
  have loop4 : ∀ (n_loop4 : Nat) (a : Nat), a ∈ L → lo a = ps p + 1 → hi a - lo a < n_loop4 → ZW l D Γ (zr 1 0 0) 18 [(1, .ref a)] [] V 0 0 := by
    intro n_loop4
    induction n_loop4 with
    | zero => intro a _ _ hm; exact absurd hm (Nat.not_lt_zero _)
    | succ n_loop4 ih_loop4 =>
      intro a hloop4_0 hloop4_1 hm
      refine z_aload_n C 0 rfl dJ4_successor_18 rfl ?_
      refine z_get C k_E (hW.2 a hloop4_0) 2 (by decide) rfl q1036 dJ4_successor_19 ?_
      refine z_ifnullQ C 33 dJ4_successor_22 (by decide) (fun hn6 => ?_) (fun a5 hs7 => ?_)
      · skip
        refine z_aload_n C 0 rfl dJ4_successor_33 rfl ?_
        exact z_aret C hQ a rfl (Or.inl ⟨_, rfl⟩) ⟨rfl, hloop4_0, by rw [← (hI.2.2.1 a hloop4_0).1 hn6]; exact hloop4_1, hn6⟩ (by decide) (by decide) dJ4_successor_34
      · skip
        obtain ⟨hm8, hp9, nx10⟩ := hI.ml hloop4_0 hs7
        refine z_aload_n C 0 rfl dJ4_successor_25 rfl ?_
        refine z_get C k_E (hW.2 a hloop4_0) 2 (by decide) rfl q1036 dJ4_successor_26 ?_
        refine z_top (v := .ref a5) (congrArg va_rf (show (lf a) = (some a5) from (by rw [hs7]))) ?_
        refine z_astore_n C [(1, .ref a5)] dJ4_successor_29 rfl (by decide) rfl ?_
        refine z_goto C 18 dJ4_successor_30 (by decide) ?_
        have q0 := (hI.2.2.1 a hloop4_0).2 a5 hs7
        have q1 := (hI.mp hm8 q0.2.1).2.1
        exact ih_loop4 a5 hm8 (by rw [q0.2.2.1]; exact hloop4_1) (by omega)
  exact loop4 _ c hm1 hlo (Nat.lt_succ_self _)
theorem cD_at {α : Type} {C : List α} {j : Nat} (hj : j < C.length) (i : Nat) : (cD C j)[i]? = if i < j then C[i]? else C[i + 1]? := by
  have hl : (C.take j).length = j := by rw [List.length_take]; omega
  unfold cD
  by_cases h : i < j
  · rw [if_pos h, List.getElem?_append_left (by omega), List.getElem?_take, if_pos h]
  · rw [if_neg h, List.getElem?_append_right (by omega), hl, List.getElem?_drop]
    congr 1; omega
theorem del_p00 {L : List Nat} {pa : Nat → Option Nat} {e : Nat} : ∀ a ∈ L, a ≠ e → pa a = dP pa e none a := fun a ha hae => by
  unfold dP; rw [if_neg (by simp)]
theorem del_succ {L : List Nat} {rt : Option Nat} {lf rg pa : Nat → Option Nat} {ps lo hi : Nat → Nat} {ky vl : Nat → Nat} (hI : tI L rt lf rg pa ps lo hi) {p s : Nat} (hp : p ∈ L) (hs : s ∈ L) (h : ps s = ps p + 1) :
    (lD L (ps s)).map (tG (va_up ky p (ky s)) (va_up vl p (vl s))) = cD (L.map (tG ky vl)) (ps p) := by
  obtain ⟨p1, p2, p3, p4⟩ := hI.m hp
  obtain ⟨s1, s2, s3, s4⟩ := hI.m hs
  refine List.ext_getElem? (fun i => ?_)
  have ot : ∀ k, k ≠ ps p → (L[k]?).map (tG (va_up ky p (ky s)) (va_up vl p (vl s))) = (L[k]?).map (tG ky vl) := fun k hk => by
    rcases e : L[k]? with _ | b
    · rfl
    · have hne : b ≠ p := fun q => hk (by rw [← q]; exact ((hI.1 k b e).1).symm)
      show some (tG _ _ b) = some (tG _ _ b)
      unfold tG; rw [zvn hne, zvn hne]
  rw [cD_at (by rw [List.length_map]; omega), List.getElem?_map, List.getElem?_map, List.getElem?_map, lD_at (by omega)]
  by_cases c1 : i < ps p
  · rw [if_pos (by omega), if_pos c1]; exact ot i (by omega)
  · rw [if_neg c1]
    by_cases c2 : i = ps p
    · rw [if_pos (by omega), c2, p1, ← h, s1]
      show some (tG _ _ p) = some (tG _ _ s)
      unfold tG; rw [zvs, zvs]
    · rw [if_neg (by omega)]; exact ot (i + 1) (by omega)

set_option maxHeartbeats 4000000 in
set_option maxRecDepth 100000 in
theorem mJ4_deleteEntry {l : Launch} {D : ZD} {V : ZV} {t : Nat} {L : List Nat} {rt : Option Nat} {lf rg pa : Nat → Option Nat} {cl : Nat → Bool} {ky vl : Nat → Nat} {sz : Nat} {mc : Int32} (hW : tW V t L rt lf rg pa cl ky vl sz mc) {ps lo hi : Nat → Nat} (hI : tI L rt lf rg pa ps lo hi) {p : Nat} (hp : p ∈ L) (hsz : sz = L.length) : ZM l D yJ4_deleteEntry (ws_ yJ4_deleteEntry cJ4_deleteEntry 3 none) 3 0 0 eU V [.ref t, .ref p] (fun r V' => ∃ L2, tM V' t L2 (cD (L.map (tG ky vl)) (ps p)) (mc + nI 1) ∧ (∀ a ∈ L2, a ∈ L) ∧ zUnc V V' (tC t L)) zno_x := by
  refine z_enter (by decide +kernel) [(0, .ref t), (1, .ref p)] rfl (Nat.le_of_ble_eq_true rfl) (zcat_cons rfl (zcat_cons rfl zcat_nil)) (fun Γ C hQ => ?_)
  have hU0 : zUnc V V (tC t L) := zUnc.rf
  have hpl := (hI.m hp).2.2
  have hszp : 1 ≤ sz := by omega
  refine z_aload_n C 0 rfl dJ4_deleteEntry_0 rfl ?_
  refine z_dup C dJ4_deleteEntry_1 rfl ?_
  refine z_get C k_TM hW.1 5 (by decide) rfl q164 dJ4_deleteEntry_2 ?_
  refine z_iconst C (v := (nI 1)) dJ4_deleteEntry_5 rfl ?_
  refine z_iadd C dJ4_deleteEntry_6 ?_
  refine z_put C k_TM hW.1 5 (by decide) [.null, .null, .null, va_rf rt, .int (nI sz), .int (mc + (nI 1)), .null, .null, .null] rfl (Nat.le_of_ble_eq_true rfl) rfl rfl rfl q164 dJ4_deleteEntry_7 (z_nV (fun V1 hV2 => ?_))
  have hW3 := tW.map hW rt sz (mc + (nI 1)) hV2
  have hU4 := zUnc.up (S := tC t L) hU0 hV2 (Or.inl rfl)
  refine z_aload_n C 0 rfl dJ4_deleteEntry_10 rfl ?_
  refine z_dup C dJ4_deleteEntry_11 rfl ?_
  refine z_get C k_TM hW3.1 4 (by decide) rfl q163 dJ4_deleteEntry_12 ?_
  refine z_iconst C (v := (nI 1)) dJ4_deleteEntry_15 rfl ?_
  refine z_isubN C (by omega) dJ4_deleteEntry_16 ?_
  refine z_put C k_TM hW3.1 4 (by decide) [.null, .null, .null, va_rf rt, .int (nI (sz - 1)), .int (mc + (nI 1)), .null, .null, .null] rfl (Nat.le_of_ble_eq_true rfl) rfl rfl rfl q163 dJ4_deleteEntry_17 (z_nV (fun V5 hV6 => ?_))
  have hW7 := tW.map hW3 rt (sz - 1) (mc + (nI 1)) hV6
  have hU8 := zUnc.up (S := tC t L) hU4 hV6 (Or.inl rfl)
  have hrest : ∀ (V1 : ZV) (ky1 vl1 : Nat → Nat) (e : Nat), tW V1 t L rt lf rg pa cl ky1 vl1 (sz - 1) (mc + nI 1) → zUnc V V1 (tC t L) → e ∈ L → (lf e = none ∨ rg e = none) → (lD L (ps e)).map (tG ky1 vl1) = cD (L.map (tG ky vl)) (ps p) → ZW l D Γ (zr 3 0 0) 57 [(0, .ref t), (1, .ref e)] [] V1 0 0 := by
    intro V1 ky1 vl1 e hhrest_0 hhrest_1 hhrest_2 hhrest_3 hhrest_4
    refine z_aload_n C 1 rfl dJ4_deleteEntry_57 rfl ?_
    refine z_get C k_E (hhrest_0.2 e hhrest_2) 2 (by decide) rfl q1036 dJ4_deleteEntry_58 ?_
    refine z_ifnullQ C 71 dJ4_deleteEntry_61 (by decide) (fun hn10 => ?_) (fun a9 hs11 => ?_)
    · skip
      refine z_aload_n C 1 rfl dJ4_deleteEntry_71 rfl ?_
      refine z_get C k_E (hhrest_0.2 e hhrest_2) 3 (by decide) rfl q1037 dJ4_deleteEntry_72 ?_
      refine z_astore_nQ C (r := (rg e)) [(2, va_rf (rg e)), (0, .ref t), (1, .ref e)] dJ4_deleteEntry_75 rfl (by decide) rfl ?_
      refine z_aload_nQ C 0 (r := (rg e)) rfl dJ4_deleteEntry_76 rfl ?_
      refine z_ifnullQ C 164 dJ4_deleteEntry_77 (by decide) (fun hn13 => ?_) (fun a12 hs14 => ?_)
      · skip
        refine z_lv (lv' := [(2, .null), (0, .ref t), (1, .ref e)]) (by rw [hn13]; rfl) ?_
        refine z_aload_n C 2 rfl dJ4_deleteEntry_164 rfl ?_
        refine z_get C k_E (hhrest_0.2 e hhrest_2) 4 (by decide) rfl q1039 dJ4_deleteEntry_165 ?_
        refine z_ifnonnullQ C 179 dJ4_deleteEntry_168 (by decide) (fun a15 hs17 => ?_) (fun hn16 => ?_)
        · skip
          obtain ⟨hm18, -, nx20, -⟩ := hI.mp hhrest_2 hs17
          refine z_aload_n C 2 rfl dJ4_deleteEntry_179 rfl ?_
          refine z_get C k_E (hhrest_0.2 e hhrest_2) 5 (by decide) rfl q1041 dJ4_deleteEntry_180 ?_
          refine z_iconst C (v := (nI 1)) dJ4_deleteEntry_183 rfl ?_
          refine z_icmp_ne C 192 dJ4_deleteEntry_184 (by decide) (fun c184 => ?_) (fun c184 => ?_)
          · skip
            have k21 : (cl e) = false := zb1f c184
            refine z_aload_n C 2 rfl dJ4_deleteEntry_192 rfl ?_
            refine z_get C k_E (hhrest_0.2 e hhrest_2) 4 (by decide) rfl q1039 dJ4_deleteEntry_193 ?_
            refine z_top (v := .ref a15) (congrArg va_rf (show (pa e) = (some a15) from (by rw [hs17]))) ?_
            refine z_ifnull_r C dJ4_deleteEntry_196 ?_
            refine z_aload_n C 2 rfl dJ4_deleteEntry_199 rfl ?_
            refine z_aload_n C 2 rfl dJ4_deleteEntry_200 rfl ?_
            refine z_get C k_E (hhrest_0.2 e hhrest_2) 4 (by decide) rfl q1039 dJ4_deleteEntry_201 ?_
            refine z_top (v := .ref a15) (congrArg va_rf (show (pa e) = (some a15) from (by rw [hs17]))) ?_
            refine z_get C k_E (hhrest_0.2 a15 hm18) 2 (by decide) rfl q1036 dJ4_deleteEntry_204 ?_
            refine z_acmp_ne C (some e) (lf a15) 221 dJ4_deleteEntry_207 (by decide) (fun c207 => ?_) (fun c207 => ?_)
            · skip
              have k22 : ¬ lf a15 = (some e) := fun z => c207 (Eq.symm z)
              have k23 := hI.sdR hhrest_2 hs17 k22
              obtain ⟨hm24, hp25, nx26⟩ := hI.mr hm18 k23
              refine z_aload_n C 2 rfl dJ4_deleteEntry_221 rfl ?_
              refine z_aload_n C 2 rfl dJ4_deleteEntry_222 rfl ?_
              refine z_get C k_E (hhrest_0.2 e hhrest_2) 4 (by decide) rfl q1039 dJ4_deleteEntry_223 ?_
              refine z_top (v := .ref a15) (congrArg va_rf (show (pa e) = (some a15) from (by rw [hs17]))) ?_
              refine z_get C k_E (hhrest_0.2 a15 hm18) 3 (by decide) rfl q1037 dJ4_deleteEntry_226 ?_
              refine z_top (v := .ref e) (congrArg va_rf (show (rg a15) = (some e) from (by rw [k23]))) ?_
              refine z_acmp_ne C (some e) (some e) 240 dJ4_deleteEntry_229 (by decide) (fun c229 => ?_) (fun c229 => ?_)
              · skip
                exact absurd rfl c229
              · skip
                refine z_aload_n C 2 rfl dJ4_deleteEntry_232 rfl ?_
                refine z_get C k_E (hhrest_0.2 e hhrest_2) 4 (by decide) rfl q1039 dJ4_deleteEntry_233 ?_
                refine z_top (v := .ref a15) (congrArg va_rf (show (pa e) = (some a15) from (by rw [hs17]))) ?_
                refine z_null C dJ4_deleteEntry_236 ?_
                refine z_put C k_E (hhrest_0.2 a15 hm18) 3 (by decide) [.ref (ky1 a15), .ref (vl1 a15), va_rf (lf a15), .null, va_rf (pa a15), .int (zb (cl a15))] rfl (Nat.le_of_ble_eq_true rfl) rfl rfl rfl q1037 dJ4_deleteEntry_237 (z_nV (fun V27 hV28 => ?_))
                have hW29 := tW.urg hhrest_0 hm18 none hV28
                have hU30 := zUnc.up (S := tC t L) hhrest_1 hV28 (Or.inr hm18)
                refine z_aload_n C 2 rfl dJ4_deleteEntry_240 rfl ?_
                refine z_null C dJ4_deleteEntry_241 ?_
                refine z_put C k_E (hW29.2 e hhrest_2) 4 (by decide) [.ref (ky1 e), .ref (vl1 e), va_rf (lf e), va_rf ((va_up rg a15 none) e), .null, .int (zb (cl e))] rfl (Nat.le_of_ble_eq_true rfl) rfl rfl rfl q1039 dJ4_deleteEntry_242 (z_nV (fun V31 hV32 => ?_))
                have hW33 := tW.upa hW29 hhrest_2 none hV32
                have hU34 := zUnc.up (S := tC t L) hU30 hV32 (Or.inr hhrest_2)
                have hsub : ∀ a ∈ lD L (ps e), a ∈ L ∧ a ≠ e := fun a ha => (lD_mem hI hhrest_2 a).mp ha
                have hI9 := tI_del (o := none) hI hhrest_2 (Or.inl ⟨hn10, Eq.symm hn13⟩)
                have hW9 := tW.cg (tW.sub hW33 (fun a ha => (hsub a ha).1)) (dT_1 (o := none) (hI.rtn hs17)) (fun a ha => (del_00 (o := none) (hI.nl hs17 (hI.rl hm18 k23)) a (hsub a ha).1 (hsub a ha).2)) (fun a ha => (del_1 (o := none) (hI.ur hs17) k23 a (hsub a ha).1 (hsub a ha).2)) (fun a ha => (del_p0 a (hsub a ha).1 (hsub a ha).2))
                have hlen9 : (lD L (ps e)).length = L.length - 1 := lD_len (by have := (hI.m hhrest_2).2.2; omega)
                exact z_vret C hQ () rfl ⟨lD L (ps e), ⟨ky1, vl1, ⟨_, _, _, _, _, _, _, _, hI9, by rw [hlen9, ← hsz]; exact hW9⟩, hhrest_4.symm⟩, fun a ha => (hsub a ha).1, hU34⟩ (by decide) (by decide) dJ4_deleteEntry_245
            · skip
              have k35 : lf a15 = (some e) := Eq.symm c207
              obtain ⟨hm36, hp37, nx38⟩ := hI.ml hm18 k35
              refine z_aload_n C 2 rfl dJ4_deleteEntry_210 rfl ?_
              refine z_get C k_E (hhrest_0.2 e hhrest_2) 4 (by decide) rfl q1039 dJ4_deleteEntry_211 ?_
              refine z_top (v := .ref a15) (congrArg va_rf (show (pa e) = (some a15) from (by rw [hs17]))) ?_
              refine z_null C dJ4_deleteEntry_214 ?_
              refine z_put C k_E (hhrest_0.2 a15 hm18) 2 (by decide) [.ref (ky1 a15), .ref (vl1 a15), .null, va_rf (rg a15), va_rf (pa a15), .int (zb (cl a15))] rfl (Nat.le_of_ble_eq_true rfl) rfl rfl rfl q1036 dJ4_deleteEntry_215 (z_nV (fun V39 hV40 => ?_))
              have hW41 := tW.ulf hhrest_0 hm18 none hV40
              have hU42 := zUnc.up (S := tC t L) hhrest_1 hV40 (Or.inr hm18)
              refine z_goto C 240 dJ4_deleteEntry_218 (by decide) ?_
              refine z_aload_n C 2 rfl dJ4_deleteEntry_240 rfl ?_
              refine z_null C dJ4_deleteEntry_241 ?_
              refine z_put C k_E (hW41.2 e hhrest_2) 4 (by decide) [.ref (ky1 e), .ref (vl1 e), va_rf ((va_up lf a15 none) e), va_rf (rg e), .null, .int (zb (cl e))] rfl (Nat.le_of_ble_eq_true rfl) rfl rfl rfl q1039 dJ4_deleteEntry_242 (z_nV (fun V43 hV44 => ?_))
              have hW45 := tW.upa hW41 hhrest_2 none hV44
              have hU46 := zUnc.up (S := tC t L) hU42 hV44 (Or.inr hhrest_2)
              have hsub : ∀ a ∈ lD L (ps e), a ∈ L ∧ a ≠ e := fun a ha => (lD_mem hI hhrest_2 a).mp ha
              have hI9 := tI_del (o := none) hI hhrest_2 (Or.inl ⟨hn10, Eq.symm hn13⟩)
              have hW9 := tW.cg (tW.sub hW45 (fun a ha => (hsub a ha).1)) (dT_1 (o := none) (hI.rtn hs17)) (fun a ha => (del_1 (o := none) (hI.ul hs17) k35 a (hsub a ha).1 (hsub a ha).2)) (fun a ha => (del_00 (o := none) (hI.nr hs17 (hI.lr hm18 k35)) a (hsub a ha).1 (hsub a ha).2)) (fun a ha => (del_p0 a (hsub a ha).1 (hsub a ha).2))
              have hlen9 : (lD L (ps e)).length = L.length - 1 := lD_len (by have := (hI.m hhrest_2).2.2; omega)
              exact z_vret C hQ () rfl ⟨lD L (ps e), ⟨ky1, vl1, ⟨_, _, _, _, _, _, _, _, hI9, by rw [hlen9, ← hsz]; exact hW9⟩, hhrest_4.symm⟩, fun a ha => (hsub a ha).1, hU46⟩ (by decide) (by decide) dJ4_deleteEntry_245
          · skip
            have k47 : (cl e) = true := zb1 c184
            refine z_aload_n C 1 rfl dJ4_deleteEntry_187 rfl ?_
            refine z_aload_n C 2 rfl dJ4_deleteEntry_188 rfl ?_
            have hL2 : 2 ≤ L.length := by have h1 := hI.mp hhrest_2 hs17; have h2 := hI.m hhrest_2; omega
            refine z_callV C k_TM hhrest_0.1 (As := [.ref e]) (mJ4_fixAfterDeletion_l hhrest_0 hI hhrest_2 hn10 hn13) (lw_V q699 q701 qs7 q64 q702) rfl hd_J4_fixAfterDeletion rfl (Nat.le_of_ble_eq_true rfl) (by decide) (by decide) (by decide) (by decide) rfl dJ4_deleteEntry_189 (fun _ _ h => h.elim) (fun r48 V49 hP50 => ?_)
            obtain ⟨rt2, lf2, rg2, pa2, cl2, lo2, hi2, hW2, hI2, hU2, hl2, hr2⟩ := hP50
            refine z_st (st' := []) rfl ?_
            have hU3 := zUnc.tr (S := tC t L) hhrest_1 hU2 (fun _ h => Or.inl h)
            refine z_aload_n C 2 rfl dJ4_deleteEntry_192 rfl ?_
            refine z_get C k_E (hW2.2 e hhrest_2) 4 (by decide) rfl q1039 dJ4_deleteEntry_193 ?_
            refine z_ifnullQ C 245 dJ4_deleteEntry_196 (by decide) (fun hn52 => ?_) (fun a51 hs53 => ?_)
            · skip
              exfalso; have h1 := hI2.2.1.1 e ((hI2.2.2.2.2 e hhrest_2).1 hn52); have h2 := (hI2.2.2.1 e hhrest_2).1 hl2; have h3 := (hI2.2.2.2.1 e hhrest_2).1 hr2; have h4 := hI2.m hhrest_2; have h5 := h1.2.2.1; have h6 := h1.2.2.2; omega
              skip
            · skip
              obtain ⟨hm54, -, nx56, -⟩ := hI2.mp hhrest_2 hs53
              refine z_aload_n C 2 rfl dJ4_deleteEntry_199 rfl ?_
              refine z_aload_n C 2 rfl dJ4_deleteEntry_200 rfl ?_
              refine z_get C k_E (hW2.2 e hhrest_2) 4 (by decide) rfl q1039 dJ4_deleteEntry_201 ?_
              refine z_top (v := .ref a51) (congrArg va_rf (show (pa2 e) = (some a51) from (by rw [hs53]))) ?_
              refine z_get C k_E (hW2.2 a51 hm54) 2 (by decide) rfl q1036 dJ4_deleteEntry_204 ?_
              refine z_acmp_ne C (some e) (lf2 a51) 221 dJ4_deleteEntry_207 (by decide) (fun c207 => ?_) (fun c207 => ?_)
              · skip
                have k57 : ¬ lf2 a51 = (some e) := fun z => c207 (Eq.symm z)
                have k58 := hI2.sdR hhrest_2 hs53 k57
                obtain ⟨hm59, hp60, nx61⟩ := hI2.mr hm54 k58
                refine z_aload_n C 2 rfl dJ4_deleteEntry_221 rfl ?_
                refine z_aload_n C 2 rfl dJ4_deleteEntry_222 rfl ?_
                refine z_get C k_E (hW2.2 e hhrest_2) 4 (by decide) rfl q1039 dJ4_deleteEntry_223 ?_
                refine z_top (v := .ref a51) (congrArg va_rf (show (pa2 e) = (some a51) from (by rw [hs53]))) ?_
                refine z_get C k_E (hW2.2 a51 hm54) 3 (by decide) rfl q1037 dJ4_deleteEntry_226 ?_
                refine z_top (v := .ref e) (congrArg va_rf (show (rg2 a51) = (some e) from (by rw [k58]))) ?_
                refine z_acmp_ne C (some e) (some e) 240 dJ4_deleteEntry_229 (by decide) (fun c229 => ?_) (fun c229 => ?_)
                · skip
                  exact absurd rfl c229
                · skip
                  refine z_aload_n C 2 rfl dJ4_deleteEntry_232 rfl ?_
                  refine z_get C k_E (hW2.2 e hhrest_2) 4 (by decide) rfl q1039 dJ4_deleteEntry_233 ?_
                  refine z_top (v := .ref a51) (congrArg va_rf (show (pa2 e) = (some a51) from (by rw [hs53]))) ?_
                  refine z_null C dJ4_deleteEntry_236 ?_
                  refine z_put C k_E (hW2.2 a51 hm54) 3 (by decide) [.ref (ky1 a51), .ref (vl1 a51), va_rf (lf2 a51), .null, va_rf (pa2 a51), .int (zb (cl2 a51))] rfl (Nat.le_of_ble_eq_true rfl) rfl rfl rfl q1037 dJ4_deleteEntry_237 (z_nV (fun V62 hV63 => ?_))
                  have hW64 := tW.urg hW2 hm54 none hV63
                  have hU65 := zUnc.up (S := tC t L) hU3 hV63 (Or.inr hm54)
                  refine z_aload_n C 2 rfl dJ4_deleteEntry_240 rfl ?_
                  refine z_null C dJ4_deleteEntry_241 ?_
                  refine z_put C k_E (hW64.2 e hhrest_2) 4 (by decide) [.ref (ky1 e), .ref (vl1 e), va_rf (lf2 e), va_rf ((va_up rg2 a51 none) e), .null, .int (zb (cl2 e))] rfl (Nat.le_of_ble_eq_true rfl) rfl rfl rfl q1039 dJ4_deleteEntry_242 (z_nV (fun V66 hV67 => ?_))
                  have hW68 := tW.upa hW64 hhrest_2 none hV67
                  have hU69 := zUnc.up (S := tC t L) hU65 hV67 (Or.inr hhrest_2)
                  have hsub : ∀ a ∈ lD L (ps e), a ∈ L ∧ a ≠ e := fun a ha => (lD_mem hI2 hhrest_2 a).mp ha
                  have hI9 := tI_del (o := none) hI2 hhrest_2 (Or.inl ⟨hl2, Eq.symm hr2⟩)
                  have hW9 := tW.cg (tW.sub hW68 (fun a ha => (hsub a ha).1)) (dT_1 (o := none) (hI2.rtn hs53)) (fun a ha => (del_00 (o := none) (hI2.nl hs53 (hI2.rl hm54 k58)) a (hsub a ha).1 (hsub a ha).2)) (fun a ha => (del_1 (o := none) (hI2.ur hs53) k58 a (hsub a ha).1 (hsub a ha).2)) (fun a ha => (del_p0 a (hsub a ha).1 (hsub a ha).2))
                  have hlen9 : (lD L (ps e)).length = L.length - 1 := lD_len (by have := (hI2.m hhrest_2).2.2; omega)
                  exact z_vret C hQ () rfl ⟨lD L (ps e), ⟨ky1, vl1, ⟨_, _, _, _, _, _, _, _, hI9, by rw [hlen9, ← hsz]; exact hW9⟩, hhrest_4.symm⟩, fun a ha => (hsub a ha).1, hU69⟩ (by decide) (by decide) dJ4_deleteEntry_245
              · skip
                have k70 : lf2 a51 = (some e) := Eq.symm c207
                obtain ⟨hm71, hp72, nx73⟩ := hI2.ml hm54 k70
                refine z_aload_n C 2 rfl dJ4_deleteEntry_210 rfl ?_
                refine z_get C k_E (hW2.2 e hhrest_2) 4 (by decide) rfl q1039 dJ4_deleteEntry_211 ?_
                refine z_top (v := .ref a51) (congrArg va_rf (show (pa2 e) = (some a51) from (by rw [hs53]))) ?_
                refine z_null C dJ4_deleteEntry_214 ?_
                refine z_put C k_E (hW2.2 a51 hm54) 2 (by decide) [.ref (ky1 a51), .ref (vl1 a51), .null, va_rf (rg2 a51), va_rf (pa2 a51), .int (zb (cl2 a51))] rfl (Nat.le_of_ble_eq_true rfl) rfl rfl rfl q1036 dJ4_deleteEntry_215 (z_nV (fun V74 hV75 => ?_))
                have hW76 := tW.ulf hW2 hm54 none hV75
                have hU77 := zUnc.up (S := tC t L) hU3 hV75 (Or.inr hm54)
                refine z_goto C 240 dJ4_deleteEntry_218 (by decide) ?_
                refine z_aload_n C 2 rfl dJ4_deleteEntry_240 rfl ?_
                refine z_null C dJ4_deleteEntry_241 ?_
                refine z_put C k_E (hW76.2 e hhrest_2) 4 (by decide) [.ref (ky1 e), .ref (vl1 e), va_rf ((va_up lf2 a51 none) e), va_rf (rg2 e), .null, .int (zb (cl2 e))] rfl (Nat.le_of_ble_eq_true rfl) rfl rfl rfl q1039 dJ4_deleteEntry_242 (z_nV (fun V78 hV79 => ?_))
                have hW80 := tW.upa hW76 hhrest_2 none hV79
                have hU81 := zUnc.up (S := tC t L) hU77 hV79 (Or.inr hhrest_2)
                have hsub : ∀ a ∈ lD L (ps e), a ∈ L ∧ a ≠ e := fun a ha => (lD_mem hI2 hhrest_2 a).mp ha
                have hI9 := tI_del (o := none) hI2 hhrest_2 (Or.inl ⟨hl2, Eq.symm hr2⟩)
                have hW9 := tW.cg (tW.sub hW80 (fun a ha => (hsub a ha).1)) (dT_1 (o := none) (hI2.rtn hs53)) (fun a ha => (del_1 (o := none) (hI2.ul hs53) k70 a (hsub a ha).1 (hsub a ha).2)) (fun a ha => (del_00 (o := none) (hI2.nr hs53 (hI2.lr hm54 k70)) a (hsub a ha).1 (hsub a ha).2)) (fun a ha => (del_p0 a (hsub a ha).1 (hsub a ha).2))
                have hlen9 : (lD L (ps e)).length = L.length - 1 := lD_len (by have := (hI2.m hhrest_2).2.2; omega)
                exact z_vret C hQ () rfl ⟨lD L (ps e), ⟨ky1, vl1, ⟨_, _, _, _, _, _, _, _, hI9, by rw [hlen9, ← hsz]; exact hW9⟩, hhrest_4.symm⟩, fun a ha => (hsub a ha).1, hU81⟩ (by decide) (by decide) dJ4_deleteEntry_245
        · skip
          refine z_aload_n C 1 rfl dJ4_deleteEntry_171 rfl ?_
          refine z_null C dJ4_deleteEntry_172 ?_
          refine z_put C k_TM hhrest_0.1 3 (by decide) [.null, .null, .null, .null, .int (nI (sz - 1)), .int (mc + nI 1), .null, .null, .null] rfl (Nat.le_of_ble_eq_true rfl) rfl rfl rfl q162 dJ4_deleteEntry_173 (z_nV (fun V82 hV83 => ?_))
          have hW84 := tW.map hhrest_0 none (sz - 1) (mc + nI 1) hV83
          have hU85 := zUnc.up (S := tC t L) hhrest_1 hV83 (Or.inl rfl)
          refine z_goto C 245 dJ4_deleteEntry_176 (by decide) ?_
          have hsub : ∀ a ∈ lD L (ps e), a ∈ L ∧ a ≠ e := fun a ha => (lD_mem hI hhrest_2 a).mp ha
          have hI9 := tI_del (o := none) hI hhrest_2 (Or.inl ⟨hn10, Eq.symm hn13⟩)
          have hW9 := tW.cg (tW.sub hW84 (fun a ha => (hsub a ha).1)) (dT_0 (o := none) ((hI.2.2.2.2 e hhrest_2).1 hn16)) (fun a ha => (del_00 (o := none) (hI.nl0 hn16) a (hsub a ha).1 (hsub a ha).2)) (fun a ha => (del_00 (o := none) (hI.nr0 hn16) a (hsub a ha).1 (hsub a ha).2)) (fun a ha => (del_p00 a (hsub a ha).1 (hsub a ha).2))
          have hlen9 : (lD L (ps e)).length = L.length - 1 := lD_len (by have := (hI.m hhrest_2).2.2; omega)
          exact z_vret C hQ () rfl ⟨lD L (ps e), ⟨ky1, vl1, ⟨_, _, _, _, _, _, _, _, hI9, by rw [hlen9, ← hsz]; exact hW9⟩, hhrest_4.symm⟩, fun a ha => (hsub a ha).1, hU85⟩ (by decide) (by decide) dJ4_deleteEntry_245
      · skip
        obtain ⟨hm86, hp87, nx88⟩ := hI.mr hhrest_2 hs14
        refine z_lv (lv' := [(2, .ref a12), (0, .ref t), (1, .ref e)]) (by rw [hs14]; rfl) ?_
        refine z_aload_n C 0 rfl dJ4_deleteEntry_80 rfl ?_
        refine z_aload_n C 2 rfl dJ4_deleteEntry_81 rfl ?_
        refine z_get C k_E (hhrest_0.2 e hhrest_2) 4 (by decide) rfl q1039 dJ4_deleteEntry_82 ?_
        refine z_put C k_E (hhrest_0.2 a12 hm86) 4 (by decide) [.ref (ky1 a12), .ref (vl1 a12), va_rf (lf a12), va_rf (rg a12), va_rf (pa e), .int (zb (cl a12))] rfl (Nat.le_of_ble_eq_true rfl) rfl (va_fitO _) rfl q1039 dJ4_deleteEntry_85 (z_nV (fun V89 hV90 => ?_))
        have hW91 := tW.upa hhrest_0 hm86 (pa e) hV90
        have hU92 := zUnc.up (S := tC t L) hhrest_1 hV90 (Or.inr hm86)
        refine z_aload_n C 2 rfl dJ4_deleteEntry_88 rfl ?_
        refine z_get C k_E (hW91.2 e hhrest_2) 4 (by decide) rfl q1039 dJ4_deleteEntry_89 ?_
        refine z_top (v := va_rf (pa e)) (congrArg va_rf (show ((va_up pa a12 (pa e)) e) = (pa e) from (by rw [zvn (Ne.symm nx88)]))) ?_
        refine z_ifnonnullQ C 103 dJ4_deleteEntry_92 (by decide) (fun a93 hs95 => ?_) (fun hn94 => ?_)
        · skip
          obtain ⟨hm96, -, nx98, -⟩ := hI.mp hhrest_2 hs95
          refine z_aload_n C 2 rfl dJ4_deleteEntry_103 rfl ?_
          refine z_aload_n C 2 rfl dJ4_deleteEntry_104 rfl ?_
          refine z_get C k_E (hW91.2 e hhrest_2) 4 (by decide) rfl q1039 dJ4_deleteEntry_105 ?_
          refine z_top (v := .ref a93) (congrArg va_rf (show ((va_up pa a12 (pa e)) e) = (some a93) from (by rw [zvn (Ne.symm nx88), hs95]))) ?_
          refine z_get C k_E (hW91.2 a93 hm96) 2 (by decide) rfl q1036 dJ4_deleteEntry_108 ?_
          refine z_acmp_ne C (some e) (lf a93) 125 dJ4_deleteEntry_111 (by decide) (fun c111 => ?_) (fun c111 => ?_)
          · skip
            have k99 : ¬ lf a93 = (some e) := fun z => c111 (Eq.symm z)
            have k100 := hI.sdR hhrest_2 hs95 k99
            obtain ⟨hm101, hp102, nx103⟩ := hI.mr hm96 k100
            refine z_aload_n C 2 rfl dJ4_deleteEntry_125 rfl ?_
            refine z_get C k_E (hW91.2 e hhrest_2) 4 (by decide) rfl q1039 dJ4_deleteEntry_126 ?_
            refine z_top (v := .ref a93) (congrArg va_rf (show ((va_up pa a12 (pa e)) e) = (some a93) from (by rw [zvn (Ne.symm nx88), hs95]))) ?_
            refine z_aload_n C 0 rfl dJ4_deleteEntry_129 rfl ?_
            refine z_put C k_E (hW91.2 a93 hm96) 3 (by decide) [.ref (ky1 a93), .ref (vl1 a93), va_rf (lf a93), .ref a12, va_rf ((va_up pa a12 (pa e)) a93), .int (zb (cl a93))] rfl (Nat.le_of_ble_eq_true rfl) rfl rfl rfl q1037 dJ4_deleteEntry_130 (z_nV (fun V104 hV105 => ?_))
            have hW106 := tW.urg hW91 hm96 (some a12) hV105
            have hU107 := zUnc.up (S := tC t L) hU92 hV105 (Or.inr hm96)
            refine z_aload_n C 2 rfl dJ4_deleteEntry_133 rfl ?_
            refine z_aload_n C 2 rfl dJ4_deleteEntry_134 rfl ?_
            refine z_aload_n C 2 rfl dJ4_deleteEntry_135 rfl ?_
            refine z_null C dJ4_deleteEntry_136 ?_
            refine z_dup_x1 C dJ4_deleteEntry_137 rfl rfl ?_
            refine z_put C k_E (hW106.2 e hhrest_2) 4 (by decide) [.ref (ky1 e), .ref (vl1 e), va_rf (lf e), va_rf ((va_up rg a93 (some a12)) e), .null, .int (zb (cl e))] rfl (Nat.le_of_ble_eq_true rfl) rfl rfl rfl q1039 dJ4_deleteEntry_138 (z_nV (fun V108 hV109 => ?_))
            have hW110 := tW.upa hW106 hhrest_2 none hV109
            have hU111 := zUnc.up (S := tC t L) hU107 hV109 (Or.inr hhrest_2)
            refine z_dup_x1 C dJ4_deleteEntry_141 rfl rfl ?_
            refine z_put C k_E (hW110.2 e hhrest_2) 3 (by decide) [.ref (ky1 e), .ref (vl1 e), va_rf (lf e), .null, va_rf ((va_up (va_up pa a12 (pa e)) e none) e), .int (zb (cl e))] rfl (Nat.le_of_ble_eq_true rfl) rfl rfl rfl q1037 dJ4_deleteEntry_142 (z_nV (fun V112 hV113 => ?_))
            have hW114 := tW.urg hW110 hhrest_2 none hV113
            have hU115 := zUnc.up (S := tC t L) hU111 hV113 (Or.inr hhrest_2)
            refine z_put C k_E (hW114.2 e hhrest_2) 2 (by decide) [.ref (ky1 e), .ref (vl1 e), .null, va_rf ((va_up (va_up rg a93 (some a12)) e none) e), va_rf ((va_up (va_up pa a12 (pa e)) e none) e), .int (zb (cl e))] rfl (Nat.le_of_ble_eq_true rfl) rfl rfl rfl q1036 dJ4_deleteEntry_145 (z_nV (fun V116 hV117 => ?_))
            have hW118 := tW.ulf hW114 hhrest_2 none hV117
            have hU119 := zUnc.up (S := tC t L) hU115 hV117 (Or.inr hhrest_2)
            refine z_aload_n C 2 rfl dJ4_deleteEntry_148 rfl ?_
            refine z_get C k_E (hW118.2 e hhrest_2) 5 (by decide) rfl q1041 dJ4_deleteEntry_149 ?_
            refine z_iconst C (v := (nI 1)) dJ4_deleteEntry_152 rfl ?_
            refine z_icmp_ne C 245 dJ4_deleteEntry_153 (by decide) (fun c153 => ?_) (fun c153 => ?_)
            · skip
              have k120 : (cl e) = false := zb1f c153
              have hsub : ∀ a ∈ lD L (ps e), a ∈ L ∧ a ≠ e := fun a ha => (lD_mem hI hhrest_2 a).mp ha
              have hI9 := tI_del (o := (some a12)) hI hhrest_2 (Or.inl ⟨hn10, Eq.symm hs14⟩)
              have hW9 := tW.cg (tW.sub hW118 (fun a ha => (hsub a ha).1)) (dT_1 (o := (some a12)) (hI.rtn hs95)) (fun a ha => (del_0 (o := (some a12)) (hI.nl hs95 (hI.rl hm96 k100)) a (hsub a ha).1 (hsub a ha).2)) (fun a ha => (del_2 (o := (some a12)) (hI.ur hs95) k100 a (hsub a ha).1 (hsub a ha).2)) (fun a ha => (del_p rfl a (hsub a ha).1 (hsub a ha).2))
              have hlen9 : (lD L (ps e)).length = L.length - 1 := lD_len (by have := (hI.m hhrest_2).2.2; omega)
              exact z_vret C hQ () rfl ⟨lD L (ps e), ⟨ky1, vl1, ⟨_, _, _, _, _, _, _, _, hI9, by rw [hlen9, ← hsz]; exact hW9⟩, hhrest_4.symm⟩, fun a ha => (hsub a ha).1, hU119⟩ (by decide) (by decide) dJ4_deleteEntry_245
            · skip
              have k121 : (cl e) = true := zb1 c153
              refine z_aload_n C 1 rfl dJ4_deleteEntry_156 rfl ?_
              refine z_aload_n C 0 rfl dJ4_deleteEntry_157 rfl ?_
              have hsub : ∀ a ∈ lD L (ps e), a ∈ L ∧ a ≠ e := fun a ha => (lD_mem hI hhrest_2 a).mp ha
              have hI9 := tI_del (o := (some a12)) hI hhrest_2 (Or.inl ⟨hn10, Eq.symm hs14⟩)
              have hW9 := tW.cg (tW.sub hW118 (fun a ha => (hsub a ha).1)) (dT_1 (o := (some a12)) (hI.rtn hs95)) (fun a ha => (del_0 (o := (some a12)) (hI.nl hs95 (hI.rl hm96 k100)) a (hsub a ha).1 (hsub a ha).2)) (fun a ha => (del_2 (o := (some a12)) (hI.ur hs95) k100 a (hsub a ha).1 (hsub a ha).2)) (fun a ha => (del_p rfl a (hsub a ha).1 (hsub a ha).2))
              have hlen9 : (lD L (ps e)).length = L.length - 1 := lD_len (by have := (hI.m hhrest_2).2.2; omega)
              refine z_callV C k_TM hW118.1 (As := [.ref a12]) (mJ4_fixAfterDeletion hW9 hI9 ((lD_mem hI hhrest_2 a12).mpr ⟨hm86, nx88⟩)) (lw_V q699 q701 qs7 q64 q702) rfl hd_J4_fixAfterDeletion rfl (Nat.le_of_ble_eq_true rfl) (by decide) (by decide) (by decide) (by decide) rfl dJ4_deleteEntry_158 (fun _ _ h => h.elim) (fun r122 V123 hP124 => ?_)
              obtain ⟨rt2, lf2, rg2, pa2, cl2, lo2, hi2, hW2, hI2, hU2⟩ := hP124
              refine z_st (st' := []) rfl ?_
              have hU3 := zUnc.tr (S := tC t L) hU119 hU2 (fun a h => by rcases h with h | h; exact Or.inl (Or.inl h); exact Or.inl (Or.inr (hsub a h).1))
              refine z_goto C 245 dJ4_deleteEntry_161 (by decide) ?_
              exact z_vret C hQ () rfl ⟨lD L (ps e), ⟨ky1, vl1, ⟨_, _, _, _, _, _, _, _, hI2, by rw [hlen9, ← hsz]; exact hW2⟩, hhrest_4.symm⟩, fun a ha => (hsub a ha).1, hU3⟩ (by decide) (by decide) dJ4_deleteEntry_245
          · skip
            have k125 : lf a93 = (some e) := Eq.symm c111
            obtain ⟨hm126, hp127, nx128⟩ := hI.ml hm96 k125
            refine z_aload_n C 2 rfl dJ4_deleteEntry_114 rfl ?_
            refine z_get C k_E (hW91.2 e hhrest_2) 4 (by decide) rfl q1039 dJ4_deleteEntry_115 ?_
            refine z_top (v := .ref a93) (congrArg va_rf (show ((va_up pa a12 (pa e)) e) = (some a93) from (by rw [zvn (Ne.symm nx88), hs95]))) ?_
            refine z_aload_n C 0 rfl dJ4_deleteEntry_118 rfl ?_
            refine z_put C k_E (hW91.2 a93 hm96) 2 (by decide) [.ref (ky1 a93), .ref (vl1 a93), .ref a12, va_rf (rg a93), va_rf ((va_up pa a12 (pa e)) a93), .int (zb (cl a93))] rfl (Nat.le_of_ble_eq_true rfl) rfl rfl rfl q1036 dJ4_deleteEntry_119 (z_nV (fun V129 hV130 => ?_))
            have hW131 := tW.ulf hW91 hm96 (some a12) hV130
            have hU132 := zUnc.up (S := tC t L) hU92 hV130 (Or.inr hm96)
            refine z_goto C 133 dJ4_deleteEntry_122 (by decide) ?_
            refine z_aload_n C 2 rfl dJ4_deleteEntry_133 rfl ?_
            refine z_aload_n C 2 rfl dJ4_deleteEntry_134 rfl ?_
            refine z_aload_n C 2 rfl dJ4_deleteEntry_135 rfl ?_
            refine z_null C dJ4_deleteEntry_136 ?_
            refine z_dup_x1 C dJ4_deleteEntry_137 rfl rfl ?_
            refine z_put C k_E (hW131.2 e hhrest_2) 4 (by decide) [.ref (ky1 e), .ref (vl1 e), va_rf ((va_up lf a93 (some a12)) e), va_rf (rg e), .null, .int (zb (cl e))] rfl (Nat.le_of_ble_eq_true rfl) rfl rfl rfl q1039 dJ4_deleteEntry_138 (z_nV (fun V133 hV134 => ?_))
            have hW135 := tW.upa hW131 hhrest_2 none hV134
            have hU136 := zUnc.up (S := tC t L) hU132 hV134 (Or.inr hhrest_2)
            refine z_dup_x1 C dJ4_deleteEntry_141 rfl rfl ?_
            refine z_put C k_E (hW135.2 e hhrest_2) 3 (by decide) [.ref (ky1 e), .ref (vl1 e), va_rf ((va_up lf a93 (some a12)) e), .null, va_rf ((va_up (va_up pa a12 (pa e)) e none) e), .int (zb (cl e))] rfl (Nat.le_of_ble_eq_true rfl) rfl rfl rfl q1037 dJ4_deleteEntry_142 (z_nV (fun V137 hV138 => ?_))
            have hW139 := tW.urg hW135 hhrest_2 none hV138
            have hU140 := zUnc.up (S := tC t L) hU136 hV138 (Or.inr hhrest_2)
            refine z_put C k_E (hW139.2 e hhrest_2) 2 (by decide) [.ref (ky1 e), .ref (vl1 e), .null, va_rf ((va_up rg e none) e), va_rf ((va_up (va_up pa a12 (pa e)) e none) e), .int (zb (cl e))] rfl (Nat.le_of_ble_eq_true rfl) rfl rfl rfl q1036 dJ4_deleteEntry_145 (z_nV (fun V141 hV142 => ?_))
            have hW143 := tW.ulf hW139 hhrest_2 none hV142
            have hU144 := zUnc.up (S := tC t L) hU140 hV142 (Or.inr hhrest_2)
            refine z_aload_n C 2 rfl dJ4_deleteEntry_148 rfl ?_
            refine z_get C k_E (hW143.2 e hhrest_2) 5 (by decide) rfl q1041 dJ4_deleteEntry_149 ?_
            refine z_iconst C (v := (nI 1)) dJ4_deleteEntry_152 rfl ?_
            refine z_icmp_ne C 245 dJ4_deleteEntry_153 (by decide) (fun c153 => ?_) (fun c153 => ?_)
            · skip
              have k145 : (cl e) = false := zb1f c153
              have hsub : ∀ a ∈ lD L (ps e), a ∈ L ∧ a ≠ e := fun a ha => (lD_mem hI hhrest_2 a).mp ha
              have hI9 := tI_del (o := (some a12)) hI hhrest_2 (Or.inl ⟨hn10, Eq.symm hs14⟩)
              have hW9 := tW.cg (tW.sub hW143 (fun a ha => (hsub a ha).1)) (dT_1 (o := (some a12)) (hI.rtn hs95)) (fun a ha => (del_2 (o := (some a12)) (hI.ul hs95) k125 a (hsub a ha).1 (hsub a ha).2)) (fun a ha => (del_0 (o := (some a12)) (hI.nr hs95 (hI.lr hm96 k125)) a (hsub a ha).1 (hsub a ha).2)) (fun a ha => (del_p rfl a (hsub a ha).1 (hsub a ha).2))
              have hlen9 : (lD L (ps e)).length = L.length - 1 := lD_len (by have := (hI.m hhrest_2).2.2; omega)
              exact z_vret C hQ () rfl ⟨lD L (ps e), ⟨ky1, vl1, ⟨_, _, _, _, _, _, _, _, hI9, by rw [hlen9, ← hsz]; exact hW9⟩, hhrest_4.symm⟩, fun a ha => (hsub a ha).1, hU144⟩ (by decide) (by decide) dJ4_deleteEntry_245
            · skip
              have k146 : (cl e) = true := zb1 c153
              refine z_aload_n C 1 rfl dJ4_deleteEntry_156 rfl ?_
              refine z_aload_n C 0 rfl dJ4_deleteEntry_157 rfl ?_
              have hsub : ∀ a ∈ lD L (ps e), a ∈ L ∧ a ≠ e := fun a ha => (lD_mem hI hhrest_2 a).mp ha
              have hI9 := tI_del (o := (some a12)) hI hhrest_2 (Or.inl ⟨hn10, Eq.symm hs14⟩)
              have hW9 := tW.cg (tW.sub hW143 (fun a ha => (hsub a ha).1)) (dT_1 (o := (some a12)) (hI.rtn hs95)) (fun a ha => (del_2 (o := (some a12)) (hI.ul hs95) k125 a (hsub a ha).1 (hsub a ha).2)) (fun a ha => (del_0 (o := (some a12)) (hI.nr hs95 (hI.lr hm96 k125)) a (hsub a ha).1 (hsub a ha).2)) (fun a ha => (del_p rfl a (hsub a ha).1 (hsub a ha).2))
              have hlen9 : (lD L (ps e)).length = L.length - 1 := lD_len (by have := (hI.m hhrest_2).2.2; omega)
              refine z_callV C k_TM hW143.1 (As := [.ref a12]) (mJ4_fixAfterDeletion hW9 hI9 ((lD_mem hI hhrest_2 a12).mpr ⟨hm86, nx88⟩)) (lw_V q699 q701 qs7 q64 q702) rfl hd_J4_fixAfterDeletion rfl (Nat.le_of_ble_eq_true rfl) (by decide) (by decide) (by decide) (by decide) rfl dJ4_deleteEntry_158 (fun _ _ h => h.elim) (fun r147 V148 hP149 => ?_)
              obtain ⟨rt2, lf2, rg2, pa2, cl2, lo2, hi2, hW2, hI2, hU2⟩ := hP149
              refine z_st (st' := []) rfl ?_
              have hU3 := zUnc.tr (S := tC t L) hU144 hU2 (fun a h => by rcases h with h | h; exact Or.inl (Or.inl h); exact Or.inl (Or.inr (hsub a h).1))
              refine z_goto C 245 dJ4_deleteEntry_161 (by decide) ?_
              exact z_vret C hQ () rfl ⟨lD L (ps e), ⟨ky1, vl1, ⟨_, _, _, _, _, _, _, _, hI2, by rw [hlen9, ← hsz]; exact hW2⟩, hhrest_4.symm⟩, fun a ha => (hsub a ha).1, hU3⟩ (by decide) (by decide) dJ4_deleteEntry_245
        · skip
          refine z_aload_n C 1 rfl dJ4_deleteEntry_95 rfl ?_
          refine z_aload_n C 0 rfl dJ4_deleteEntry_96 rfl ?_
          refine z_put C k_TM hW91.1 3 (by decide) [.null, .null, .null, .ref a12, .int (nI (sz - 1)), .int (mc + nI 1), .null, .null, .null] rfl (Nat.le_of_ble_eq_true rfl) rfl rfl rfl q162 dJ4_deleteEntry_97 (z_nV (fun V150 hV151 => ?_))
          have hW152 := tW.map hW91 (some a12) (sz - 1) (mc + nI 1) hV151
          have hU153 := zUnc.up (S := tC t L) hU92 hV151 (Or.inl rfl)
          refine z_goto C 133 dJ4_deleteEntry_100 (by decide) ?_
          refine z_aload_n C 2 rfl dJ4_deleteEntry_133 rfl ?_
          refine z_aload_n C 2 rfl dJ4_deleteEntry_134 rfl ?_
          refine z_aload_n C 2 rfl dJ4_deleteEntry_135 rfl ?_
          refine z_null C dJ4_deleteEntry_136 ?_
          refine z_dup_x1 C dJ4_deleteEntry_137 rfl rfl ?_
          refine z_put C k_E (hW152.2 e hhrest_2) 4 (by decide) [.ref (ky1 e), .ref (vl1 e), va_rf (lf e), va_rf (rg e), .null, .int (zb (cl e))] rfl (Nat.le_of_ble_eq_true rfl) rfl rfl rfl q1039 dJ4_deleteEntry_138 (z_nV (fun V154 hV155 => ?_))
          have hW156 := tW.upa hW152 hhrest_2 none hV155
          have hU157 := zUnc.up (S := tC t L) hU153 hV155 (Or.inr hhrest_2)
          refine z_dup_x1 C dJ4_deleteEntry_141 rfl rfl ?_
          refine z_put C k_E (hW156.2 e hhrest_2) 3 (by decide) [.ref (ky1 e), .ref (vl1 e), va_rf (lf e), .null, va_rf ((va_up (va_up pa a12 (pa e)) e none) e), .int (zb (cl e))] rfl (Nat.le_of_ble_eq_true rfl) rfl rfl rfl q1037 dJ4_deleteEntry_142 (z_nV (fun V158 hV159 => ?_))
          have hW160 := tW.urg hW156 hhrest_2 none hV159
          have hU161 := zUnc.up (S := tC t L) hU157 hV159 (Or.inr hhrest_2)
          refine z_put C k_E (hW160.2 e hhrest_2) 2 (by decide) [.ref (ky1 e), .ref (vl1 e), .null, va_rf ((va_up rg e none) e), va_rf ((va_up (va_up pa a12 (pa e)) e none) e), .int (zb (cl e))] rfl (Nat.le_of_ble_eq_true rfl) rfl rfl rfl q1036 dJ4_deleteEntry_145 (z_nV (fun V162 hV163 => ?_))
          have hW164 := tW.ulf hW160 hhrest_2 none hV163
          have hU165 := zUnc.up (S := tC t L) hU161 hV163 (Or.inr hhrest_2)
          refine z_aload_n C 2 rfl dJ4_deleteEntry_148 rfl ?_
          refine z_get C k_E (hW164.2 e hhrest_2) 5 (by decide) rfl q1041 dJ4_deleteEntry_149 ?_
          refine z_iconst C (v := (nI 1)) dJ4_deleteEntry_152 rfl ?_
          refine z_icmp_ne C 245 dJ4_deleteEntry_153 (by decide) (fun c153 => ?_) (fun c153 => ?_)
          · skip
            have k166 : (cl e) = false := zb1f c153
            have hsub : ∀ a ∈ lD L (ps e), a ∈ L ∧ a ≠ e := fun a ha => (lD_mem hI hhrest_2 a).mp ha
            have hI9 := tI_del (o := (some a12)) hI hhrest_2 (Or.inl ⟨hn10, Eq.symm hs14⟩)
            have hW9 := tW.cg (tW.sub hW164 (fun a ha => (hsub a ha).1)) (dT_0 (o := (some a12)) ((hI.2.2.2.2 e hhrest_2).1 hn94)) (fun a ha => (del_0 (o := (some a12)) (hI.nl0 hn94) a (hsub a ha).1 (hsub a ha).2)) (fun a ha => (del_0 (o := (some a12)) (hI.nr0 hn94) a (hsub a ha).1 (hsub a ha).2)) (fun a ha => (del_p rfl a (hsub a ha).1 (hsub a ha).2))
            have hlen9 : (lD L (ps e)).length = L.length - 1 := lD_len (by have := (hI.m hhrest_2).2.2; omega)
            exact z_vret C hQ () rfl ⟨lD L (ps e), ⟨ky1, vl1, ⟨_, _, _, _, _, _, _, _, hI9, by rw [hlen9, ← hsz]; exact hW9⟩, hhrest_4.symm⟩, fun a ha => (hsub a ha).1, hU165⟩ (by decide) (by decide) dJ4_deleteEntry_245
          · skip
            have k167 : (cl e) = true := zb1 c153
            refine z_aload_n C 1 rfl dJ4_deleteEntry_156 rfl ?_
            refine z_aload_n C 0 rfl dJ4_deleteEntry_157 rfl ?_
            have hsub : ∀ a ∈ lD L (ps e), a ∈ L ∧ a ≠ e := fun a ha => (lD_mem hI hhrest_2 a).mp ha
            have hI9 := tI_del (o := (some a12)) hI hhrest_2 (Or.inl ⟨hn10, Eq.symm hs14⟩)
            have hW9 := tW.cg (tW.sub hW164 (fun a ha => (hsub a ha).1)) (dT_0 (o := (some a12)) ((hI.2.2.2.2 e hhrest_2).1 hn94)) (fun a ha => (del_0 (o := (some a12)) (hI.nl0 hn94) a (hsub a ha).1 (hsub a ha).2)) (fun a ha => (del_0 (o := (some a12)) (hI.nr0 hn94) a (hsub a ha).1 (hsub a ha).2)) (fun a ha => (del_p rfl a (hsub a ha).1 (hsub a ha).2))
            have hlen9 : (lD L (ps e)).length = L.length - 1 := lD_len (by have := (hI.m hhrest_2).2.2; omega)
            refine z_callV C k_TM hW164.1 (As := [.ref a12]) (mJ4_fixAfterDeletion hW9 hI9 ((lD_mem hI hhrest_2 a12).mpr ⟨hm86, nx88⟩)) (lw_V q699 q701 qs7 q64 q702) rfl hd_J4_fixAfterDeletion rfl (Nat.le_of_ble_eq_true rfl) (by decide) (by decide) (by decide) (by decide) rfl dJ4_deleteEntry_158 (fun _ _ h => h.elim) (fun r168 V169 hP170 => ?_)
            obtain ⟨rt2, lf2, rg2, pa2, cl2, lo2, hi2, hW2, hI2, hU2⟩ := hP170
            refine z_st (st' := []) rfl ?_
            have hU3 := zUnc.tr (S := tC t L) hU165 hU2 (fun a h => by rcases h with h | h; exact Or.inl (Or.inl h); exact Or.inl (Or.inr (hsub a h).1))
            refine z_goto C 245 dJ4_deleteEntry_161 (by decide) ?_
            exact z_vret C hQ () rfl ⟨lD L (ps e), ⟨ky1, vl1, ⟨_, _, _, _, _, _, _, _, hI2, by rw [hlen9, ← hsz]; exact hW2⟩, hhrest_4.symm⟩, fun a ha => (hsub a ha).1, hU3⟩ (by decide) (by decide) dJ4_deleteEntry_245
    · skip
      obtain ⟨hm171, hp172, nx173⟩ := hI.ml hhrest_2 hs11
      refine z_aload_n C 1 rfl dJ4_deleteEntry_64 rfl ?_
      refine z_get C k_E (hhrest_0.2 e hhrest_2) 2 (by decide) rfl q1036 dJ4_deleteEntry_65 ?_
      refine z_top (v := .ref a9) (congrArg va_rf (show (lf e) = (some a9) from (by rw [hs11]))) ?_
      refine z_goto C 75 dJ4_deleteEntry_68 (by decide) ?_
      refine z_astore_n C [(2, .ref a9), (0, .ref t), (1, .ref e)] dJ4_deleteEntry_75 rfl (by decide) rfl ?_
      refine z_aload_n C 0 rfl dJ4_deleteEntry_76 rfl ?_
      refine z_ifnull_r C dJ4_deleteEntry_77 ?_
      refine z_aload_n C 0 rfl dJ4_deleteEntry_80 rfl ?_
      refine z_aload_n C 2 rfl dJ4_deleteEntry_81 rfl ?_
      refine z_get C k_E (hhrest_0.2 e hhrest_2) 4 (by decide) rfl q1039 dJ4_deleteEntry_82 ?_
      refine z_put C k_E (hhrest_0.2 a9 hm171) 4 (by decide) [.ref (ky1 a9), .ref (vl1 a9), va_rf (lf a9), va_rf (rg a9), va_rf (pa e), .int (zb (cl a9))] rfl (Nat.le_of_ble_eq_true rfl) rfl (va_fitO _) rfl q1039 dJ4_deleteEntry_85 (z_nV (fun V174 hV175 => ?_))
      have hW176 := tW.upa hhrest_0 hm171 (pa e) hV175
      have hU177 := zUnc.up (S := tC t L) hhrest_1 hV175 (Or.inr hm171)
      refine z_aload_n C 2 rfl dJ4_deleteEntry_88 rfl ?_
      refine z_get C k_E (hW176.2 e hhrest_2) 4 (by decide) rfl q1039 dJ4_deleteEntry_89 ?_
      refine z_top (v := va_rf (pa e)) (congrArg va_rf (show ((va_up pa a9 (pa e)) e) = (pa e) from (by rw [zvn (Ne.symm nx173)]))) ?_
      refine z_ifnonnullQ C 103 dJ4_deleteEntry_92 (by decide) (fun a178 hs180 => ?_) (fun hn179 => ?_)
      · skip
        obtain ⟨hm181, -, nx183, -⟩ := hI.mp hhrest_2 hs180
        refine z_aload_n C 2 rfl dJ4_deleteEntry_103 rfl ?_
        refine z_aload_n C 2 rfl dJ4_deleteEntry_104 rfl ?_
        refine z_get C k_E (hW176.2 e hhrest_2) 4 (by decide) rfl q1039 dJ4_deleteEntry_105 ?_
        refine z_top (v := .ref a178) (congrArg va_rf (show ((va_up pa a9 (pa e)) e) = (some a178) from (by rw [zvn (Ne.symm nx173), hs180]))) ?_
        refine z_get C k_E (hW176.2 a178 hm181) 2 (by decide) rfl q1036 dJ4_deleteEntry_108 ?_
        refine z_acmp_ne C (some e) (lf a178) 125 dJ4_deleteEntry_111 (by decide) (fun c111 => ?_) (fun c111 => ?_)
        · skip
          have k184 : ¬ lf a178 = (some e) := fun z => c111 (Eq.symm z)
          have k185 := hI.sdR hhrest_2 hs180 k184
          obtain ⟨hm186, hp187, nx188⟩ := hI.mr hm181 k185
          refine z_aload_n C 2 rfl dJ4_deleteEntry_125 rfl ?_
          refine z_get C k_E (hW176.2 e hhrest_2) 4 (by decide) rfl q1039 dJ4_deleteEntry_126 ?_
          refine z_top (v := .ref a178) (congrArg va_rf (show ((va_up pa a9 (pa e)) e) = (some a178) from (by rw [zvn (Ne.symm nx173), hs180]))) ?_
          refine z_aload_n C 0 rfl dJ4_deleteEntry_129 rfl ?_
          refine z_put C k_E (hW176.2 a178 hm181) 3 (by decide) [.ref (ky1 a178), .ref (vl1 a178), va_rf (lf a178), .ref a9, va_rf ((va_up pa a9 (pa e)) a178), .int (zb (cl a178))] rfl (Nat.le_of_ble_eq_true rfl) rfl rfl rfl q1037 dJ4_deleteEntry_130 (z_nV (fun V189 hV190 => ?_))
          have hW191 := tW.urg hW176 hm181 (some a9) hV190
          have hU192 := zUnc.up (S := tC t L) hU177 hV190 (Or.inr hm181)
          refine z_aload_n C 2 rfl dJ4_deleteEntry_133 rfl ?_
          refine z_aload_n C 2 rfl dJ4_deleteEntry_134 rfl ?_
          refine z_aload_n C 2 rfl dJ4_deleteEntry_135 rfl ?_
          refine z_null C dJ4_deleteEntry_136 ?_
          refine z_dup_x1 C dJ4_deleteEntry_137 rfl rfl ?_
          refine z_put C k_E (hW191.2 e hhrest_2) 4 (by decide) [.ref (ky1 e), .ref (vl1 e), va_rf (lf e), va_rf ((va_up rg a178 (some a9)) e), .null, .int (zb (cl e))] rfl (Nat.le_of_ble_eq_true rfl) rfl rfl rfl q1039 dJ4_deleteEntry_138 (z_nV (fun V193 hV194 => ?_))
          have hW195 := tW.upa hW191 hhrest_2 none hV194
          have hU196 := zUnc.up (S := tC t L) hU192 hV194 (Or.inr hhrest_2)
          refine z_dup_x1 C dJ4_deleteEntry_141 rfl rfl ?_
          refine z_put C k_E (hW195.2 e hhrest_2) 3 (by decide) [.ref (ky1 e), .ref (vl1 e), va_rf (lf e), .null, va_rf ((va_up (va_up pa a9 (pa e)) e none) e), .int (zb (cl e))] rfl (Nat.le_of_ble_eq_true rfl) rfl rfl rfl q1037 dJ4_deleteEntry_142 (z_nV (fun V197 hV198 => ?_))
          have hW199 := tW.urg hW195 hhrest_2 none hV198
          have hU200 := zUnc.up (S := tC t L) hU196 hV198 (Or.inr hhrest_2)
          refine z_put C k_E (hW199.2 e hhrest_2) 2 (by decide) [.ref (ky1 e), .ref (vl1 e), .null, va_rf ((va_up (va_up rg a178 (some a9)) e none) e), va_rf ((va_up (va_up pa a9 (pa e)) e none) e), .int (zb (cl e))] rfl (Nat.le_of_ble_eq_true rfl) rfl rfl rfl q1036 dJ4_deleteEntry_145 (z_nV (fun V201 hV202 => ?_))
          have hW203 := tW.ulf hW199 hhrest_2 none hV202
          have hU204 := zUnc.up (S := tC t L) hU200 hV202 (Or.inr hhrest_2)
          refine z_aload_n C 2 rfl dJ4_deleteEntry_148 rfl ?_
          refine z_get C k_E (hW203.2 e hhrest_2) 5 (by decide) rfl q1041 dJ4_deleteEntry_149 ?_
          refine z_iconst C (v := (nI 1)) dJ4_deleteEntry_152 rfl ?_
          refine z_icmp_ne C 245 dJ4_deleteEntry_153 (by decide) (fun c153 => ?_) (fun c153 => ?_)
          · skip
            have k205 : (cl e) = false := zb1f c153
            have hsub : ∀ a ∈ lD L (ps e), a ∈ L ∧ a ≠ e := fun a ha => (lD_mem hI hhrest_2 a).mp ha
            have hno9 : rg e = none := by rcases hhrest_3 with h | h; rw [hs11] at h; cases h; exact h
            have hI9 := tI_del (o := (some a9)) hI hhrest_2 (Or.inr ⟨hno9, Eq.symm hs11⟩)
            have hW9 := tW.cg (tW.sub hW203 (fun a ha => (hsub a ha).1)) (dT_1 (o := (some a9)) (hI.rtn hs180)) (fun a ha => (del_0 (o := (some a9)) (hI.nl hs180 (hI.rl hm181 k185)) a (hsub a ha).1 (hsub a ha).2)) (fun a ha => (del_2 (o := (some a9)) (hI.ur hs180) k185 a (hsub a ha).1 (hsub a ha).2)) (fun a ha => (del_p rfl a (hsub a ha).1 (hsub a ha).2))
            have hlen9 : (lD L (ps e)).length = L.length - 1 := lD_len (by have := (hI.m hhrest_2).2.2; omega)
            exact z_vret C hQ () rfl ⟨lD L (ps e), ⟨ky1, vl1, ⟨_, _, _, _, _, _, _, _, hI9, by rw [hlen9, ← hsz]; exact hW9⟩, hhrest_4.symm⟩, fun a ha => (hsub a ha).1, hU204⟩ (by decide) (by decide) dJ4_deleteEntry_245
          · skip
            have k206 : (cl e) = true := zb1 c153
            refine z_aload_n C 1 rfl dJ4_deleteEntry_156 rfl ?_
            refine z_aload_n C 0 rfl dJ4_deleteEntry_157 rfl ?_
            have hsub : ∀ a ∈ lD L (ps e), a ∈ L ∧ a ≠ e := fun a ha => (lD_mem hI hhrest_2 a).mp ha
            have hno9 : rg e = none := by rcases hhrest_3 with h | h; rw [hs11] at h; cases h; exact h
            have hI9 := tI_del (o := (some a9)) hI hhrest_2 (Or.inr ⟨hno9, Eq.symm hs11⟩)
            have hW9 := tW.cg (tW.sub hW203 (fun a ha => (hsub a ha).1)) (dT_1 (o := (some a9)) (hI.rtn hs180)) (fun a ha => (del_0 (o := (some a9)) (hI.nl hs180 (hI.rl hm181 k185)) a (hsub a ha).1 (hsub a ha).2)) (fun a ha => (del_2 (o := (some a9)) (hI.ur hs180) k185 a (hsub a ha).1 (hsub a ha).2)) (fun a ha => (del_p rfl a (hsub a ha).1 (hsub a ha).2))
            have hlen9 : (lD L (ps e)).length = L.length - 1 := lD_len (by have := (hI.m hhrest_2).2.2; omega)
            refine z_callV C k_TM hW203.1 (As := [.ref a9]) (mJ4_fixAfterDeletion hW9 hI9 ((lD_mem hI hhrest_2 a9).mpr ⟨hm171, nx173⟩)) (lw_V q699 q701 qs7 q64 q702) rfl hd_J4_fixAfterDeletion rfl (Nat.le_of_ble_eq_true rfl) (by decide) (by decide) (by decide) (by decide) rfl dJ4_deleteEntry_158 (fun _ _ h => h.elim) (fun r207 V208 hP209 => ?_)
            obtain ⟨rt2, lf2, rg2, pa2, cl2, lo2, hi2, hW2, hI2, hU2⟩ := hP209
            refine z_st (st' := []) rfl ?_
            have hU3 := zUnc.tr (S := tC t L) hU204 hU2 (fun a h => by rcases h with h | h; exact Or.inl (Or.inl h); exact Or.inl (Or.inr (hsub a h).1))
            refine z_goto C 245 dJ4_deleteEntry_161 (by decide) ?_
            exact z_vret C hQ () rfl ⟨lD L (ps e), ⟨ky1, vl1, ⟨_, _, _, _, _, _, _, _, hI2, by rw [hlen9, ← hsz]; exact hW2⟩, hhrest_4.symm⟩, fun a ha => (hsub a ha).1, hU3⟩ (by decide) (by decide) dJ4_deleteEntry_245
        · skip
          have k210 : lf a178 = (some e) := Eq.symm c111
          obtain ⟨hm211, hp212, nx213⟩ := hI.ml hm181 k210
          refine z_aload_n C 2 rfl dJ4_deleteEntry_114 rfl ?_
          refine z_get C k_E (hW176.2 e hhrest_2) 4 (by decide) rfl q1039 dJ4_deleteEntry_115 ?_
          refine z_top (v := .ref a178) (congrArg va_rf (show ((va_up pa a9 (pa e)) e) = (some a178) from (by rw [zvn (Ne.symm nx173), hs180]))) ?_
          refine z_aload_n C 0 rfl dJ4_deleteEntry_118 rfl ?_
          refine z_put C k_E (hW176.2 a178 hm181) 2 (by decide) [.ref (ky1 a178), .ref (vl1 a178), .ref a9, va_rf (rg a178), va_rf ((va_up pa a9 (pa e)) a178), .int (zb (cl a178))] rfl (Nat.le_of_ble_eq_true rfl) rfl rfl rfl q1036 dJ4_deleteEntry_119 (z_nV (fun V214 hV215 => ?_))
          have hW216 := tW.ulf hW176 hm181 (some a9) hV215
          have hU217 := zUnc.up (S := tC t L) hU177 hV215 (Or.inr hm181)
          refine z_goto C 133 dJ4_deleteEntry_122 (by decide) ?_
          refine z_aload_n C 2 rfl dJ4_deleteEntry_133 rfl ?_
          refine z_aload_n C 2 rfl dJ4_deleteEntry_134 rfl ?_
          refine z_aload_n C 2 rfl dJ4_deleteEntry_135 rfl ?_
          refine z_null C dJ4_deleteEntry_136 ?_
          refine z_dup_x1 C dJ4_deleteEntry_137 rfl rfl ?_
          refine z_put C k_E (hW216.2 e hhrest_2) 4 (by decide) [.ref (ky1 e), .ref (vl1 e), va_rf ((va_up lf a178 (some a9)) e), va_rf (rg e), .null, .int (zb (cl e))] rfl (Nat.le_of_ble_eq_true rfl) rfl rfl rfl q1039 dJ4_deleteEntry_138 (z_nV (fun V218 hV219 => ?_))
          have hW220 := tW.upa hW216 hhrest_2 none hV219
          have hU221 := zUnc.up (S := tC t L) hU217 hV219 (Or.inr hhrest_2)
          refine z_dup_x1 C dJ4_deleteEntry_141 rfl rfl ?_
          refine z_put C k_E (hW220.2 e hhrest_2) 3 (by decide) [.ref (ky1 e), .ref (vl1 e), va_rf ((va_up lf a178 (some a9)) e), .null, va_rf ((va_up (va_up pa a9 (pa e)) e none) e), .int (zb (cl e))] rfl (Nat.le_of_ble_eq_true rfl) rfl rfl rfl q1037 dJ4_deleteEntry_142 (z_nV (fun V222 hV223 => ?_))
          have hW224 := tW.urg hW220 hhrest_2 none hV223
          have hU225 := zUnc.up (S := tC t L) hU221 hV223 (Or.inr hhrest_2)
          refine z_put C k_E (hW224.2 e hhrest_2) 2 (by decide) [.ref (ky1 e), .ref (vl1 e), .null, va_rf ((va_up rg e none) e), va_rf ((va_up (va_up pa a9 (pa e)) e none) e), .int (zb (cl e))] rfl (Nat.le_of_ble_eq_true rfl) rfl rfl rfl q1036 dJ4_deleteEntry_145 (z_nV (fun V226 hV227 => ?_))
          have hW228 := tW.ulf hW224 hhrest_2 none hV227
          have hU229 := zUnc.up (S := tC t L) hU225 hV227 (Or.inr hhrest_2)
          refine z_aload_n C 2 rfl dJ4_deleteEntry_148 rfl ?_
          refine z_get C k_E (hW228.2 e hhrest_2) 5 (by decide) rfl q1041 dJ4_deleteEntry_149 ?_
          refine z_iconst C (v := (nI 1)) dJ4_deleteEntry_152 rfl ?_
          refine z_icmp_ne C 245 dJ4_deleteEntry_153 (by decide) (fun c153 => ?_) (fun c153 => ?_)
          · skip
            have k230 : (cl e) = false := zb1f c153
            have hsub : ∀ a ∈ lD L (ps e), a ∈ L ∧ a ≠ e := fun a ha => (lD_mem hI hhrest_2 a).mp ha
            have hno9 : rg e = none := by rcases hhrest_3 with h | h; rw [hs11] at h; cases h; exact h
            have hI9 := tI_del (o := (some a9)) hI hhrest_2 (Or.inr ⟨hno9, Eq.symm hs11⟩)
            have hW9 := tW.cg (tW.sub hW228 (fun a ha => (hsub a ha).1)) (dT_1 (o := (some a9)) (hI.rtn hs180)) (fun a ha => (del_2 (o := (some a9)) (hI.ul hs180) k210 a (hsub a ha).1 (hsub a ha).2)) (fun a ha => (del_0 (o := (some a9)) (hI.nr hs180 (hI.lr hm181 k210)) a (hsub a ha).1 (hsub a ha).2)) (fun a ha => (del_p rfl a (hsub a ha).1 (hsub a ha).2))
            have hlen9 : (lD L (ps e)).length = L.length - 1 := lD_len (by have := (hI.m hhrest_2).2.2; omega)
            exact z_vret C hQ () rfl ⟨lD L (ps e), ⟨ky1, vl1, ⟨_, _, _, _, _, _, _, _, hI9, by rw [hlen9, ← hsz]; exact hW9⟩, hhrest_4.symm⟩, fun a ha => (hsub a ha).1, hU229⟩ (by decide) (by decide) dJ4_deleteEntry_245
          · skip
            have k231 : (cl e) = true := zb1 c153
            refine z_aload_n C 1 rfl dJ4_deleteEntry_156 rfl ?_
            refine z_aload_n C 0 rfl dJ4_deleteEntry_157 rfl ?_
            have hsub : ∀ a ∈ lD L (ps e), a ∈ L ∧ a ≠ e := fun a ha => (lD_mem hI hhrest_2 a).mp ha
            have hno9 : rg e = none := by rcases hhrest_3 with h | h; rw [hs11] at h; cases h; exact h
            have hI9 := tI_del (o := (some a9)) hI hhrest_2 (Or.inr ⟨hno9, Eq.symm hs11⟩)
            have hW9 := tW.cg (tW.sub hW228 (fun a ha => (hsub a ha).1)) (dT_1 (o := (some a9)) (hI.rtn hs180)) (fun a ha => (del_2 (o := (some a9)) (hI.ul hs180) k210 a (hsub a ha).1 (hsub a ha).2)) (fun a ha => (del_0 (o := (some a9)) (hI.nr hs180 (hI.lr hm181 k210)) a (hsub a ha).1 (hsub a ha).2)) (fun a ha => (del_p rfl a (hsub a ha).1 (hsub a ha).2))
            have hlen9 : (lD L (ps e)).length = L.length - 1 := lD_len (by have := (hI.m hhrest_2).2.2; omega)
            refine z_callV C k_TM hW228.1 (As := [.ref a9]) (mJ4_fixAfterDeletion hW9 hI9 ((lD_mem hI hhrest_2 a9).mpr ⟨hm171, nx173⟩)) (lw_V q699 q701 qs7 q64 q702) rfl hd_J4_fixAfterDeletion rfl (Nat.le_of_ble_eq_true rfl) (by decide) (by decide) (by decide) (by decide) rfl dJ4_deleteEntry_158 (fun _ _ h => h.elim) (fun r232 V233 hP234 => ?_)
            obtain ⟨rt2, lf2, rg2, pa2, cl2, lo2, hi2, hW2, hI2, hU2⟩ := hP234
            refine z_st (st' := []) rfl ?_
            have hU3 := zUnc.tr (S := tC t L) hU229 hU2 (fun a h => by rcases h with h | h; exact Or.inl (Or.inl h); exact Or.inl (Or.inr (hsub a h).1))
            refine z_goto C 245 dJ4_deleteEntry_161 (by decide) ?_
            exact z_vret C hQ () rfl ⟨lD L (ps e), ⟨ky1, vl1, ⟨_, _, _, _, _, _, _, _, hI2, by rw [hlen9, ← hsz]; exact hW2⟩, hhrest_4.symm⟩, fun a ha => (hsub a ha).1, hU3⟩ (by decide) (by decide) dJ4_deleteEntry_245
      · skip
        refine z_aload_n C 1 rfl dJ4_deleteEntry_95 rfl ?_
        refine z_aload_n C 0 rfl dJ4_deleteEntry_96 rfl ?_
        refine z_put C k_TM hW176.1 3 (by decide) [.null, .null, .null, .ref a9, .int (nI (sz - 1)), .int (mc + nI 1), .null, .null, .null] rfl (Nat.le_of_ble_eq_true rfl) rfl rfl rfl q162 dJ4_deleteEntry_97 (z_nV (fun V235 hV236 => ?_))
        have hW237 := tW.map hW176 (some a9) (sz - 1) (mc + nI 1) hV236
        have hU238 := zUnc.up (S := tC t L) hU177 hV236 (Or.inl rfl)
        refine z_goto C 133 dJ4_deleteEntry_100 (by decide) ?_
        refine z_aload_n C 2 rfl dJ4_deleteEntry_133 rfl ?_
        refine z_aload_n C 2 rfl dJ4_deleteEntry_134 rfl ?_
        refine z_aload_n C 2 rfl dJ4_deleteEntry_135 rfl ?_
        refine z_null C dJ4_deleteEntry_136 ?_
        refine z_dup_x1 C dJ4_deleteEntry_137 rfl rfl ?_
        refine z_put C k_E (hW237.2 e hhrest_2) 4 (by decide) [.ref (ky1 e), .ref (vl1 e), va_rf (lf e), va_rf (rg e), .null, .int (zb (cl e))] rfl (Nat.le_of_ble_eq_true rfl) rfl rfl rfl q1039 dJ4_deleteEntry_138 (z_nV (fun V239 hV240 => ?_))
        have hW241 := tW.upa hW237 hhrest_2 none hV240
        have hU242 := zUnc.up (S := tC t L) hU238 hV240 (Or.inr hhrest_2)
        refine z_dup_x1 C dJ4_deleteEntry_141 rfl rfl ?_
        refine z_put C k_E (hW241.2 e hhrest_2) 3 (by decide) [.ref (ky1 e), .ref (vl1 e), va_rf (lf e), .null, va_rf ((va_up (va_up pa a9 (pa e)) e none) e), .int (zb (cl e))] rfl (Nat.le_of_ble_eq_true rfl) rfl rfl rfl q1037 dJ4_deleteEntry_142 (z_nV (fun V243 hV244 => ?_))
        have hW245 := tW.urg hW241 hhrest_2 none hV244
        have hU246 := zUnc.up (S := tC t L) hU242 hV244 (Or.inr hhrest_2)
        refine z_put C k_E (hW245.2 e hhrest_2) 2 (by decide) [.ref (ky1 e), .ref (vl1 e), .null, va_rf ((va_up rg e none) e), va_rf ((va_up (va_up pa a9 (pa e)) e none) e), .int (zb (cl e))] rfl (Nat.le_of_ble_eq_true rfl) rfl rfl rfl q1036 dJ4_deleteEntry_145 (z_nV (fun V247 hV248 => ?_))
        have hW249 := tW.ulf hW245 hhrest_2 none hV248
        have hU250 := zUnc.up (S := tC t L) hU246 hV248 (Or.inr hhrest_2)
        refine z_aload_n C 2 rfl dJ4_deleteEntry_148 rfl ?_
        refine z_get C k_E (hW249.2 e hhrest_2) 5 (by decide) rfl q1041 dJ4_deleteEntry_149 ?_
        refine z_iconst C (v := (nI 1)) dJ4_deleteEntry_152 rfl ?_
        refine z_icmp_ne C 245 dJ4_deleteEntry_153 (by decide) (fun c153 => ?_) (fun c153 => ?_)
        · skip
          have k251 : (cl e) = false := zb1f c153
          have hsub : ∀ a ∈ lD L (ps e), a ∈ L ∧ a ≠ e := fun a ha => (lD_mem hI hhrest_2 a).mp ha
          have hno9 : rg e = none := by rcases hhrest_3 with h | h; rw [hs11] at h; cases h; exact h
          have hI9 := tI_del (o := (some a9)) hI hhrest_2 (Or.inr ⟨hno9, Eq.symm hs11⟩)
          have hW9 := tW.cg (tW.sub hW249 (fun a ha => (hsub a ha).1)) (dT_0 (o := (some a9)) ((hI.2.2.2.2 e hhrest_2).1 hn179)) (fun a ha => (del_0 (o := (some a9)) (hI.nl0 hn179) a (hsub a ha).1 (hsub a ha).2)) (fun a ha => (del_0 (o := (some a9)) (hI.nr0 hn179) a (hsub a ha).1 (hsub a ha).2)) (fun a ha => (del_p rfl a (hsub a ha).1 (hsub a ha).2))
          have hlen9 : (lD L (ps e)).length = L.length - 1 := lD_len (by have := (hI.m hhrest_2).2.2; omega)
          exact z_vret C hQ () rfl ⟨lD L (ps e), ⟨ky1, vl1, ⟨_, _, _, _, _, _, _, _, hI9, by rw [hlen9, ← hsz]; exact hW9⟩, hhrest_4.symm⟩, fun a ha => (hsub a ha).1, hU250⟩ (by decide) (by decide) dJ4_deleteEntry_245
        · skip
          have k252 : (cl e) = true := zb1 c153
          refine z_aload_n C 1 rfl dJ4_deleteEntry_156 rfl ?_
          refine z_aload_n C 0 rfl dJ4_deleteEntry_157 rfl ?_
          have hsub : ∀ a ∈ lD L (ps e), a ∈ L ∧ a ≠ e := fun a ha => (lD_mem hI hhrest_2 a).mp ha
          have hno9 : rg e = none := by rcases hhrest_3 with h | h; rw [hs11] at h; cases h; exact h
          have hI9 := tI_del (o := (some a9)) hI hhrest_2 (Or.inr ⟨hno9, Eq.symm hs11⟩)
          have hW9 := tW.cg (tW.sub hW249 (fun a ha => (hsub a ha).1)) (dT_0 (o := (some a9)) ((hI.2.2.2.2 e hhrest_2).1 hn179)) (fun a ha => (del_0 (o := (some a9)) (hI.nl0 hn179) a (hsub a ha).1 (hsub a ha).2)) (fun a ha => (del_0 (o := (some a9)) (hI.nr0 hn179) a (hsub a ha).1 (hsub a ha).2)) (fun a ha => (del_p rfl a (hsub a ha).1 (hsub a ha).2))
          have hlen9 : (lD L (ps e)).length = L.length - 1 := lD_len (by have := (hI.m hhrest_2).2.2; omega)
          refine z_callV C k_TM hW249.1 (As := [.ref a9]) (mJ4_fixAfterDeletion hW9 hI9 ((lD_mem hI hhrest_2 a9).mpr ⟨hm171, nx173⟩)) (lw_V q699 q701 qs7 q64 q702) rfl hd_J4_fixAfterDeletion rfl (Nat.le_of_ble_eq_true rfl) (by decide) (by decide) (by decide) (by decide) rfl dJ4_deleteEntry_158 (fun _ _ h => h.elim) (fun r253 V254 hP255 => ?_)
          obtain ⟨rt2, lf2, rg2, pa2, cl2, lo2, hi2, hW2, hI2, hU2⟩ := hP255
          refine z_st (st' := []) rfl ?_
          have hU3 := zUnc.tr (S := tC t L) hU250 hU2 (fun a h => by rcases h with h | h; exact Or.inl (Or.inl h); exact Or.inl (Or.inr (hsub a h).1))
          refine z_goto C 245 dJ4_deleteEntry_161 (by decide) ?_
          exact z_vret C hQ () rfl ⟨lD L (ps e), ⟨ky1, vl1, ⟨_, _, _, _, _, _, _, _, hI2, by rw [hlen9, ← hsz]; exact hW2⟩, hhrest_4.symm⟩, fun a ha => (hsub a ha).1, hU3⟩ (by decide) (by decide) dJ4_deleteEntry_245
  refine z_aload_n C 1 rfl dJ4_deleteEntry_20 rfl ?_
  refine z_get C k_E (hW7.2 p hp) 2 (by decide) rfl q1036 dJ4_deleteEntry_21 ?_
  refine z_ifnullQ C 57 dJ4_deleteEntry_24 (by decide) (fun hn257 => ?_) (fun a256 hs258 => ?_)
  · skip
    exact hrest V5 ky vl p hW7 hU8 hp (Or.inl hn257) cD_map
  · skip
    obtain ⟨hm259, hp260, nx261⟩ := hI.ml hp hs258
    refine z_aload_n C 1 rfl dJ4_deleteEntry_27 rfl ?_
    refine z_get C k_E (hW7.2 p hp) 3 (by decide) rfl q1037 dJ4_deleteEntry_28 ?_
    refine z_ifnullQ C 57 dJ4_deleteEntry_31 (by decide) (fun hn263 => ?_) (fun a262 hs264 => ?_)
    · skip
      exact hrest V5 ky vl p hW7 hU8 hp (Or.inr hn263) cD_map
    · skip
      obtain ⟨hm265, hp266, nx267⟩ := hI.mr hp hs264
      refine z_aload_n C 1 rfl dJ4_deleteEntry_34 rfl ?_
      refine z_callS C (As := [.ref p]) (mJ4_successor hW7 hI hp hs264) (lw_S q696 q697 q64 q698) hd_J4_successor rfl (Nat.le_of_ble_eq_true rfl) (by decide) (by decide) (by decide) (by decide) rfl dJ4_deleteEntry_35 (fun _ _ h => h.elim) (fun r268 V269 hP270 => ?_)
      obtain ⟨hv9, hm9, hps, hls⟩ := hP270
      rw [hv9]
      refine z_st (st' := [.ref r268]) rfl ?_
      have nsp : r268 ≠ p := fun z => by rw [z] at hps; omega
      refine z_astore_n C [(2, .ref r268), (0, .ref t), (1, .ref p)] dJ4_deleteEntry_38 rfl (by decide) rfl ?_
      refine z_aload_n C 2 rfl dJ4_deleteEntry_39 rfl ?_
      refine z_aload_n C 0 rfl dJ4_deleteEntry_40 rfl ?_
      refine z_get C k_E (hW7.2 r268 hm9) 0 (by decide) rfl q1033 dJ4_deleteEntry_41 ?_
      refine z_put C k_E (hW7.2 p hp) 0 (by decide) [.ref (ky r268), .ref (vl p), va_rf (lf p), va_rf (rg p), va_rf (pa p), .int (zb (cl p))] rfl (Nat.le_of_ble_eq_true rfl) rfl rfl rfl q1033 dJ4_deleteEntry_44 (z_nV (fun V271 hV272 => ?_))
      have hW273 := tW.uky hW7 hp (ky r268) hV272
      have hU274 := zUnc.up (S := tC t L) hU8 hV272 (Or.inr hp)
      refine z_aload_n C 2 rfl dJ4_deleteEntry_47 rfl ?_
      refine z_aload_n C 0 rfl dJ4_deleteEntry_48 rfl ?_
      refine z_get C k_E (hW273.2 r268 hm9) 1 (by decide) rfl q1035 dJ4_deleteEntry_49 ?_
      refine z_put C k_E (hW273.2 p hp) 1 (by decide) [.ref ((va_up ky p (ky r268)) p), .ref (vl r268), va_rf (lf p), va_rf (rg p), va_rf (pa p), .int (zb (cl p))] rfl (Nat.le_of_ble_eq_true rfl) rfl rfl rfl q1035 dJ4_deleteEntry_52 (z_nV (fun V275 hV276 => ?_))
      have hW277 := tW.uvl hW273 hp (vl r268) hV276
      have hU278 := zUnc.up (S := tC t L) hU274 hV276 (Or.inr hp)
      refine z_aload_n C 0 rfl dJ4_deleteEntry_55 rfl ?_
      refine z_astore_n C [(1, .ref r268), (2, .ref r268), (0, .ref t)] dJ4_deleteEntry_56 rfl (by decide) rfl ?_
      refine z_pick [(0, .ref t), (1, .ref r268)] [2, 0] rfl ?_
      exact hrest V275 (va_up ky p (ky r268)) (va_up vl p (vl r268)) r268 hW277 hU278 hm9 (Or.inl hls) (del_succ hI hp hm9 hps)
