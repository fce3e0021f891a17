/-! System.arraycopy -/
def cpI (f g : Int → Int) (sp dp n : Int) : Int → Int := fun k => if dp ≤ k ∧ k < dp + n then f (sp + (k - dp)) else g k
theorem cpI_in {f g : Int → Int} {sp dp n k : Int} (h1 : dp ≤ k) (h2 : k < dp + n) : cpI f g sp dp n k = f (sp + (k - dp)) := if_pos ⟨h1, h2⟩
theorem cpI_out {f g : Int → Int} {sp dp n k : Int} (h : k < dp ∨ dp + n ≤ k) : cpI f g sp dp n k = g k := if_neg (by omega)
section GCOPY
variable {X : CT} {cs sl : Nat} {M : AH} {pc pc' : Nat} {L : List (Option Value)} {st : List Value} {own : String} {cc : ByteArray} {rt : Option FieldType} {nm : String} {hh : Bool}
theorem ss_nat : Cond.native arraycopyName ∈ TBL := tb1 198 rfl
theorem ss_st : Cond.static arraycopyName ∈ TBL := tb1 197 rfl
theorem g_copyI (hC : Cx X own cc rt nm hh) {idx : Nat} (hw : Cond.methodLink own idx arraycopyName ∈ TBL) {a0 a n0 n1 : Nat} {f g : Int → Int} (h0 : M.1 a0 = some (oI X.K n0 f)) (h1 : M.1 a = some (oI X.K n1 g)) {sp dp n : Int} (b1 : 0 ≤ sp) (b2 : 0 ≤ dp) (b3 : 0 ≤ n) (b4 : sp + n ≤ n0) (b5 : dp + n ≤ n1) (b6 : n0 ≤ 2147483647) (b7 : n1 ≤ 2147483647) (hf : 1 ≤ X.R.frames) (hr : (st.map fun v => v.category).sum + (nativeFrameWords "java/lang/System" "arraycopy" 5 + 11) ≤ X.R.locals) (hd : dn cc pc (.invokestatic idx) 3 pc') (kk : G X cs sl (ups M a (oI X.K n1 (cpI f g sp dp n))) pc' L st) : G X cs sl M pc L (iv n :: iv dp :: .ref a :: iv sp :: .ref a0 :: st) := by
  obtain ⟨hd, rfl⟩ := hd
  intro H locs ls hH hlo hL T hT XX
  have hc0 := at_I.mp (hH.2.2.2 a0 _ h0).2.2
  have hc1 := at_I.mp (hH.2.2.2 a _ h1).2.2
  have hb := base_I hH h1
  obtain ⟨-, k0, hk0, cm0, hkk0⟩ := (aI hC).1 n0 (fun j => .int (Int32.ofInt (f (j : Int))))
  obtain ⟨-, k1, hk1, cm1, hkk1⟩ := (aI hC).1 n1 (fun j => .int (Int32.ofInt (g (j : Int))))
  have e1 : (Int32.ofInt sp).toNatClampNeg = sp.toNat := cl32 b1 (by omega)
  have e2 : (Int32.ofInt dp).toNatClampNeg = dp.toNat := cl32 b2 (by omega)
  have e3 : (Int32.ofInt n).toNatClampNeg = n.toNat := cl32 b3 (by omega)
  obtain ⟨vm', X', step⟩ := XX.arraycopy hC.1 (own_of hC) (hts_of hC _ hw) (hts_of hC _ ss_nat) (hts_of hC _ ss_st) (hts_of hC _ ii_Sys) (src := a0) (dst := a) (srcPos := Int32.ofInt sp) (destPos := Int32.ofInt dp) (n := Int32.ofInt n) (by rw [hT]; exact hc0) (by rw [hT]; exact hc1)
    (fun _ h => by cases h) (fun _ h => by cases h) (fun h => by cases h) (fun h => by cases h) hk0 hk1 hkk0 hkk1 rfl (by rw [i_lt0 ⟨by omega, by omega⟩]; omega) (by rw [i_lt0 ⟨by omega, by omega⟩]; omega) (by rw [i_lt0 ⟨by omega, by omega⟩]; omega)
    (by rw [ti32 ⟨by omega, by omega⟩, ti32 ⟨by omega, by omega⟩, arrV_size]; omega)
    (by rw [ti32 ⟨by omega, by omega⟩, ti32 ⟨by omega, by omega⟩, arrV_size]; omega)
    (fun vm₁ _ i hi => by
      rw [e3] at hi
      have e : (arrV (kI X.K) n0 (fun j => .int (Int32.ofInt (f (j : Int))))).slots.getD ((Int32.ofInt sp).toNatClampNeg + i) .null = .int (Int32.ofInt (f ((((Int32.ofInt sp).toNatClampNeg + i : Nat)) : Int))) := by
        rw [Array.getD_eq_getD_getElem?, arrV_read _ _ (by rw [e1]; omega)]
        rfl
      rw [e]
      exact ⟨rfl, trivial⟩)
    (g := F0 X.m pc ls (iv n :: iv dp :: .ref a :: iv sp :: .ref a0 :: st)) rfl (by rw [ml_of hC]; exact hL.1) (rest := st) rfl (by rw [hC.2.1]; exact hd) hf (by show 2 * 0 + _ + _ ≤ _; omega)
  have e4 : copied (arrV (kI X.K) n0 (fun j => .int (Int32.ofInt (f (j : Int))))) (arrV (kI X.K) n1 (fun j => .int (Int32.ofInt (g (j : Int))))) (Int32.ofInt sp) (Int32.ofInt dp) (Int32.ofInt n) = arrV (kI X.K) n1 (fun j => .int (Int32.ofInt (cpI f g sp dp n (j : Int)))) := by
    refine (va_copied (fun z => .int z) (kI X.K) (kI X.K) (fun j => Int32.ofInt (f (j : Int))) (fun j => Int32.ofInt (g (j : Int))) (by rw [e1, e3]; omega)).trans ?_
    congr 1
    funext k
    rw [e1, e2, e3]
    unfold va_cpy cpI
    by_cases hk : dp.toNat ≤ k ∧ k < dp.toNat + n.toNat
    · rw [if_pos hk, if_pos (by omega)]
      show Value.int (Int32.ofInt (f ((sp.toNat + (k - dp.toNat) : Nat) : Int))) = _
      rw [show ((sp.toNat + (k - dp.toNat) : Nat) : Int) = sp + ((k : Int) - dp) by omega]
    · rw [if_neg hk, if_neg (by omega)]
  rw [e4] at X' step
  have hl : a < T.heap.size := by rw [hT]; exact (Array.getElem?_eq_some_iff.mp hc1).1
  obtain ⟨t, a1, b1'⟩ := kk ((T.setVm vm').setCell a (arrV (kI X.K) n1 (fun j => .int (Int32.ofInt (cpI f g sp dp n (j : Int)))))).heap _ ls (hd_ups hH h1 hb (at_I.mpr (heapAt_setCell_self (s := T.setVm vm') _ hl)) (by rw [size_setCell]; show T.heap.size = _; rw [hT]) (fun q hq => by rw [heapAt_setCell_ne _ (Ne.symm hq)]; show T.heap[q]? = _; rw [hT])) (fun x hx => by
      rcases List.mem_append.mp hx with h | h
      · exact hlo x h
      · obtain ⟨z, -, hz⟩ := List.mem_map.mp h
        rw [← hz]
        exact hb) hL _ rfl X'
  exact ⟨t, step t a1, b1'⟩
end GCOPY
