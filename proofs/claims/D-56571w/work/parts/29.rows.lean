/-! MORE rows: Math.min, Math.max -/
set_option maxRecDepth 100000
section Z3
variable {l : Launch} {D : ZD} {Γ : ZG} {R : Room} {pc : Nat} {lv : List (Nat × Value)} {st : List Value} {V : ZV} {kc ks : Nat} {own nm : String} {cc : ByteArray} {nL : Nat} {ret : Option FieldType} {tab : List ExceptionTableEntry}
theorem z_mmin (C : zC l D Γ own nm cc nL ret tab) {x y index : Nat} (hx : x < 1000000) (hy : y < 1000000) (hq : Cond.methodLink own index ⟨"java/lang/Math", "min", "(II)I"⟩ ∈ lw_all) (hf : 1 ≤ R.frames) (hl : (st.map fun v => v.category).sum + 13 ≤ R.locals) (hc : kc ≤ R.cells) (hs : ks ≤ R.slots) (d : decode cc pc = .ok (.invokestatic index, 3)) (kk : ZW l D Γ R (pc + 3) lv (.int (nI (min x y)) :: st) V kc ks) : ZW l D Γ R pc lv (.int (nI y) :: .int (nI x) :: st) V kc ks := by
  intro H locs ls ws h
  have e : (if nI y < nI x then nI y else nI x) = nI (min x y) := by
    have hlt : ∀ a b : Nat, a < 1000000 → b < 1000000 → (nI a < nI b ↔ a < b) := fun a b ha hb => by
      rw [Int32.lt_iff_toInt_lt]
      unfold nI
      rw [Int32.toInt_ofNat_of_lt (by omega), Int32.toInt_ofNat_of_lt (by omega)]; omega
    split
    · rename_i h1
      rw [hlt _ _ (by omega) (by omega)] at h1
      congr 1; omega
    · rename_i h1
      rw [hlt _ _ (by omega) (by omega)] at h1
      congr 1; omega
  refine va_mmin C.x C.b h.2.2.2.2.2.1.symm C.ow (C.ts _ hq) (C.ts _ q646) (C.ts _ q78) (C.ts _ q647) hf hl hc hs d ?_
  rw [e]
  exact kk H locs ls ws h
theorem z_mmax (C : zC l D Γ own nm cc nL ret tab) {x y index : Nat} (hx : x < 1000000) (hy : y < 1000000) (hq : Cond.methodLink own index ⟨"java/lang/Math", "max", "(II)I"⟩ ∈ lw_all) (hf : 1 ≤ R.frames) (hl : (st.map fun v => v.category).sum + 13 ≤ R.locals) (hc : kc ≤ R.cells) (hs : ks ≤ R.slots) (d : decode cc pc = .ok (.invokestatic index, 3)) (kk : ZW l D Γ R (pc + 3) lv (.int (nI (max x y)) :: st) V kc ks) : ZW l D Γ R pc lv (.int (nI y) :: .int (nI x) :: st) V kc ks := by
  intro H locs ls ws h
  have e : (if nI x < nI y then nI y else nI x) = nI (max x y) := by
    have hlt : ∀ a b : Nat, a < 1000000 → b < 1000000 → (nI a < nI b ↔ a < b) := fun a b ha hb => by
      rw [Int32.lt_iff_toInt_lt]
      unfold nI
      rw [Int32.toInt_ofNat_of_lt (by omega), Int32.toInt_ofNat_of_lt (by omega)]; omega
    split
    · rename_i h1
      rw [hlt _ _ (by omega) (by omega)] at h1
      congr 1; omega
    · rename_i h1
      rw [hlt _ _ (by omega) (by omega)] at h1
      congr 1; omega
  refine va_mmax C.x C.b h.2.2.2.2.2.1.symm C.ow (C.ts _ hq) (C.ts _ q880) (C.ts _ q78) (C.ts _ q881) hf hl hc hs d ?_
  rw [e]
  exact kk H locs ls ws h
end Z3
theorem nI_shr {a : Nat} (h : a < 2147483648) : (nI a) >>> ((nI 1) &&& 31) = nI (a / 2) := by
  have e1 : (nI 1 &&& 31 : Int32) = 1 := by decide
  rw [e1]
  refine Int32.toInt_inj.mp ?_
  have e2 : (nI a >>> (1 : Int32)).toInt = (nI a).toInt >>> 1 := by
    show ((nI a).toBitVec.sshiftRight 1).toInt = _
    rw [BitVec.toInt_sshiftRight]
    rfl
  rw [e2]
  unfold nI
  rw [Int32.toInt_ofNat_of_lt h, Int32.toInt_ofNat_of_lt (by omega), Int.shiftRight_eq_div_pow]
  omega
theorem nI_ushr {a : Nat} (h : a < 2147483648) : ((nI a).toUInt32 >>> ((nI 1).toUInt32 &&& Int32.toUInt32 31)).toInt32 = nI (a / 2) := by
  have e1 : ((nI 1).toUInt32 &&& Int32.toUInt32 31) = (1 : UInt32) := by decide
  rw [e1]
  have e2 : (nI a).toUInt32 = UInt32.ofNat a := rfl
  rw [e2]
  have e3 : UInt32.ofNat a >>> (1 : UInt32) = UInt32.ofNat (a / 2) := by
    refine UInt32.toNat_inj.mp ?_
    rw [UInt32.toNat_shiftRight, UInt32.toNat_ofNat_of_lt' (by show a < 4294967296; omega), UInt32.toNat_ofNat_of_lt' (by show a / 2 < 4294967296; omega)]
    show a >>> 1 = a / 2
    rw [Nat.shiftRight_eq_div_pow]
  rw [e3]; rfl
