/-! rows: class objects, arraycopy of references, calls through an interface -/
section GJ
variable {X : CT} {cs sl : Nat} {M : AH} {pc pc' : Nat} {L : List (Option Value)} {st : List Value} {own : String} {cc : ByteArray} {rt : Option FieldType} {nm : String} {hh : Bool}
theorem mi_of (hC : Cx X own cc rt nm hh) {H : Heap} (hH : hd X.K M H) : va_Mi "[Ljava/lang/Object;" (kM X.K) X.s :=
  (ok_of hC).2.2.2.1 { X.s with heap := H } (Vm.Alike.refl _) hH.2.2.1 (by show _ ≤ H.size; rw [hH.1]; exact hH.2.1)
theorem g_ldcM (hC : Cx X own cc rt nm hh) {idx : Nat} (hw : Cond.classLink own idx "[Ljava/lang/Object;" ∈ TBL) (hd : dn cc pc (.ldc idx) 2 pc') (kk : G X cs sl M pc' L (.ref (kM X.K) :: st)) : G X cs sl M pc L st := by
  obtain ⟨hd, rfl⟩ := hd
  intro H locs ls hH hlo hL
  exact va_ldcM hC.1 hC.2.1 (own_of hC) (hts_of hC _ hw) (mi_of hC hH) hd (kk H locs ls hH hlo hL)
theorem g_getC (hC : Cx X own cc rt nm hh) {idx : Nat} (hw : Cond.methodLink own idx ⟨"java/lang/Object", "getClass", "()Ljava/lang/Class;"⟩ ∈ TBL) {a n : Nat} {g : Nat → Option Nat} (hM : M.1 a = some (oR X.K n g)) (hf : 1 ≤ X.R.frames) (hr : (st.map fun v => v.category).sum + 14 ≤ X.R.locals) (hd : dn cc pc (.invokevirtual idx) 3 pc') (kk : G X cs sl M pc' L (.ref (kM X.K) :: st)) : G X cs sl M pc L (.ref a :: st) := by
  obtain ⟨hd, rfl⟩ := hd
  intro H locs ls hH hlo hL
  refine va_getC (C := "[Ljava/lang/Object;") hC.1 hC.2.1 (by rw [ml_of hC]; exact hL.1.symm) (own_of hC) (hts_of hC _ hw) (hts_of hC _ (tb5 39 rfl)) (hts_of hC _ (tb5 38 rfl)) (hts_of hC _ (tb1 173 rfl)) (hts_of hC _ (tb1 186 rfl)) (mi_of hC hH) ⟨_, at_R.mp (hH.2.2.2 a _ hM).2.2, rfl, ?_⟩ hf hr hd (kk H locs ls hH hlo hL)
  exact va_nmO (aR hC).2 (by decide)
def cpR (f g : Nat → Option Nat) (sp dp n : Nat) : Nat → Option Nat := fun k => if dp ≤ k ∧ k < dp + n then f (sp + (k - dp)) else g k
theorem g_copyR (hC : Cx X own cc rt nm hh) {idx : Nat} (hw : Cond.methodLink own idx arraycopyName ∈ TBL) {a0 a n0 n1 : Nat} {f g : Nat → Option Nat} (h0 : M.1 a0 = some (oR X.K n0 f)) (h1 : M.1 a = some (oR X.K n1 g)) (hk1 : kB X.K ≤ a) {sp dp n : Int} (b1 : 0 ≤ sp) (b2 : 0 ≤ dp) (b3 : 0 ≤ n) (b4 : sp + n ≤ n0) (b5 : dp + n ≤ n1) (b6 : n0 ≤ 2147483647) (b7 : n1 ≤ 2147483647)
    {ci : Nat} {C : String} {T : u_T} {N : Nat} {t0 : Nat → FieldType} (ck : CK ci C T N t0) (hca : Cond.castable C "java/lang/Object" ∈ TBL) (hel : ∀ (i y : Nat), sp ≤ i → (i : Int) < sp + n → f i = some y → ∃ fs, M.1 y = some (oO ci fs))
    (hf : 1 ≤ X.R.frames) (hr : (st.map fun v => v.category).sum + (nativeFrameWords "java/lang/System" "arraycopy" 5 + 11) ≤ X.R.locals) (hd : dn cc pc (.invokestatic idx) 3 pc') (kk : G X cs sl (ups M a (oR X.K n1 (cpR f g sp.toNat dp.toNat n.toNat))) pc' L st) : G X cs sl M pc L (iv n :: iv dp :: .ref a :: iv sp :: .ref a0 :: st) := by
  obtain ⟨hd, rfl⟩ := hd
  intro H locs ls hH hlo hL TT hT XX
  have hc0 := at_R.mp (hH.2.2.2 a0 _ h0).2.2
  have hc1 := at_R.mp (hH.2.2.2 a _ h1).2.2
  obtain ⟨-, k0, hk0, cm0, hkk0⟩ := (aR hC).1 n0 (fun j => va_rf (f j))
  obtain ⟨-, k1, hk1', cm1, hkk1⟩ := (aR hC).1 n1 (fun j => va_rf (g j))
  have e1 : (Int32.ofInt sp).toNatClampNeg = sp.toNat := cl32 b1 (by omega)
  have e2 : (Int32.ofInt dp).toNatClampNeg = dp.toNat := cl32 b2 (by omega)
  have e3 : (Int32.ofInt n).toNatClampNeg = n.toNat := cl32 b3 (by omega)
  obtain ⟨vm', X', step⟩ := XX.arraycopy hC.1 (own_of hC) (hts_of hC _ hw) (hts_of hC _ ss_nat) (hts_of hC _ ss_st) (hts_of hC _ ii_Sys) (src := a0) (dst := a) (srcPos := Int32.ofInt sp) (destPos := Int32.ofInt dp) (n := Int32.ofInt n) (by rw [hT]; exact hc0) (by rw [hT]; exact hc1)
    (fun _ h => by cases h) (fun _ h => by cases h) (fun h => by cases h) (fun h => by cases h) hk0 hk1' hkk0 hkk1 rfl (by rw [i_lt0 ⟨by omega, by omega⟩]; omega) (by rw [i_lt0 ⟨by omega, by omega⟩]; omega) (by rw [i_lt0 ⟨by omega, by omega⟩]; omega)
    (by rw [ti32 ⟨by omega, by omega⟩, ti32 ⟨by omega, by omega⟩, arrV_size]; omega)
    (by rw [ti32 ⟨by omega, by omega⟩, ti32 ⟨by omega, by omega⟩, arrV_size]; omega)
    (fun vm₁ hal i hi => by
      rw [e3] at hi
      have e : (arrV (kR X.K) n0 (fun j => va_rf (f j))).slots.getD ((Int32.ofInt sp).toNatClampNeg + i) .null = va_rf (f (sp.toNat + i)) := by
        rw [Array.getD_eq_getD_getElem?, arrV_read _ _ (by rw [e1]; omega), e1]
        rfl
      rw [e]
      cases hy : f (sp.toNat + i) with
      | none => exact ⟨rfl, trivial⟩
      | some y =>
        obtain ⟨fs, hq⟩ := hel (sp.toNat + i) y (by omega) (by omega) hy
        obtain ⟨r, r1, cellV, g1, g2, g3, -⟩ := (hH.2.2.2 y _ hq).2.2
        obtain ⟨hfc, kC, hkC, hkind⟩ := ((ok_of hC).1.1 ci _ ck.1).2
        obtain ⟨kA, comp, q1, q2, q3, -⟩ := (aR hC).2
        cases hk1'.symm.trans q1
        cases hkk1.symm.trans q2
        obtain ⟨kE, hkE, -⟩ := Vm.findClass_spec q3
        obtain ⟨c0, t1, f1, f2, f3⟩ := Cond.castable_spec (hts_of hC _ hca)
        cases hfc.symm.trans f1
        cases q3.symm.trans f2
        obtain ⟨kC', hkC', -⟩ := hal.2.2 _ _ hkC
        obtain ⟨kE', hkE', -⟩ := hal.2.2 _ _ hkE
        refine ⟨rfl, cellV, (show TT.heap[y]? = some cellV by rw [hT]; exact g1), (fun q h => by rw [g3] at h; cases h), ⟨kC', by rw [g2]; exact hkC'⟩, ?_, ?_⟩
        · exact ⟨kE', hkE'⟩
        · show vm₁.assignable _ _ = true
          rw [hal.assignable, g2]
          exact f3)
    (g := F0 X.m pc ls (iv n :: iv dp :: .ref a :: iv sp :: .ref a0 :: st)) rfl (by rw [ml_of hC]; exact hL.1) (rest := st) rfl (by rw [hC.2.1]; exact hd) hf (by show 2 * 0 + _ + _ ≤ _; omega)
  have e4 : copied (arrV (kR X.K) n0 (fun j => va_rf (f j))) (arrV (kR X.K) n1 (fun j => va_rf (g j))) (Int32.ofInt sp) (Int32.ofInt dp) (Int32.ofInt n) = arrV (kR X.K) n1 (fun j => va_rf (cpR f g sp.toNat dp.toNat n.toNat j)) := by
    refine (va_copied va_rf (kR X.K) (kR X.K) f g (by rw [e1, e3]; omega)).trans ?_
    congr 1
    funext k
    rw [e1, e2, e3]
    rfl
  rw [e4] at X' step
  have hl : a < TT.heap.size := by rw [hT]; exact (Array.getElem?_eq_some_iff.mp hc1).1
  obtain ⟨t, a1, b1'⟩ := kk ((TT.setVm vm').setCell a (arrV (kR X.K) n1 (fun j => va_rf (cpR f g sp.toNat dp.toNat n.toNat j)))).heap _ ls (hd_ups hH h1 hk1 (at_R.mpr (heapAt_setCell_self (s := TT.setVm vm') _ hl)) (by rw [size_setCell]; show TT.heap.size = _; rw [hT]) (fun q hq => by rw [heapAt_setCell_ne _ (Ne.symm hq)]; show TT.heap[q]? = _; rw [hT])) (fun x hx => by
      rcases List.mem_append.mp hx with h | h
      · exact hlo x h
      · obtain ⟨z, -, hz⟩ := List.mem_map.mp h
        rw [← hz]
        exact hk1) hL _ rfl X'
  exact ⟨t, step t a1, b1'⟩
/-- storing null -/
theorem g_aastN (hC : Cx X own cc rt nm hh) {a n : Nat} {g : Nat → Option Nat} (hM : M.1 a = some (oR X.K n g)) {i : Int} (h0 : 0 ≤ i) (h1 : i < n) (hn : n ≤ 2147483647) (hd : dn cc pc .aastore 1 pc') (kk : G X cs sl (ups M a (oR X.K n (upr g i.toNat none))) pc' L st) : G X cs sl M pc L (.null :: iv i :: .ref a :: st) := by
  obtain ⟨hd, rfl⟩ := hd
  intro H locs ls hH hlo hL
  have hc := cpos h0 h1 hn
  have hb := base_R hH hM (by omega)
  refine va_WaastN (C := "java/lang/Object") hC.1 hC.2.1 (at_R.mp (hH.2.2.2 a _ hM).2.2) ((aR hC).1 n (fun j => va_rf (g j))) (fun h => by cases h) ?_ rfl rfl hd fun H1 e z oq => ?_
  · rw [arrV_size]; exact vin h0 h1 hn
  · refine kk H1 _ ls (hd_ups hH hM hb ?_ z oq) (locs_app hlo hb) hL
    rw [at_R, e, hc]
    exact congrArg some (st_R X.K n g i.toNat none)
theorem g_run5 {a : Array Value} {rest st0 : List Value} {mc' ms' : Nat} {post' : Option Value → AH → Prop} (hr : ∀ (H : Heap) (locs : List Loc) (ls : Array Slot), hd X.K M H → lo ls X.nL L → va_Run5 X.p X.l X.e X.R X.s X.m X.args X.below X.meth X.c H locs cs sl mc' ms' (F0 X.m pc ls st0) rest (Qcs X.K post' a) (fun q => kB X.K ≤ q))
    (kk : ∀ (r : Option Value) (M' : AH), post' r M' → G X (cs + mc') (sl + ms') M' (pc + 5) L (r.toList ++ rest)) : G X cs sl M pc L st0 := by
  intro H locs ls hH hl hL T hT XX
  obtain ⟨v, st₀, t, T', Lo, h0, X', hL', e1, e2, ⟨r, M', hv, hp, hd'⟩, stt⟩ := hr H locs ls hH hL T hT XX
  cases hv
  obtain ⟨t2, a1, b1⟩ := kk v M' hp T'.heap (locs ++ Lo) ls (by rw [e1]; exact hd') (fun x hx => by
    rcases List.mem_append.mp hx with h | h
    · exact hl x h
    · exact hL' x h) hL T' rfl X'
  exact ⟨t2, stt t2 a1, b1⟩
theorem g_callF (hC : Cx X own cc rt nm hh) {idx h' mc' ms' h0 mc0 ms0 : Nat} {post' : Option Value → AH → Prop} {b : Nat} {fs : List Value} (hsp : Sp X.l X.K m_AL_toArray h' mc' ms' (.ref b :: []) M post') (hl : Cond.methodLink own idx ⟨"java/util/Collection", "toArray", "()[Ljava/lang/Object;"⟩ ∈ TBL) (hb : M.1 b = some (oO 6 fs)) (hR : X.R = rmh h0 mc0 ms0) (hh' : h' + 1 ≤ h0) (hc : cs + mc' ≤ mc0) (hs : sl + ms' ≤ ms0) (hw : (st.map fun v => v.category).sum ≤ 8) (hd : dn cc pc (.invokeinterface idx 1) 5 pc') (kk : ∀ (r : Option Value) (M' : AH), post' r M' → G X (cs + mc') (sl + ms') M' pc' L (r.toList ++ st)) : G X cs sl M pc L (.ref b :: st) := by
  obtain ⟨hd, rfl⟩ := hd
  refine g_run5 (mc' := mc') (ms' := ms') (rest := st) (post' := post') (a := (Value.ref b :: []).toArray) (fun H locs ls hH hL => ?_) kk
  have hwa := warm_all (hts_of hC)
  have hoc := oc_AL_toArray
  have hci : va_CI X.R X.s X.args own R_AL idx ⟨"java/util/Collection", "toArray", "()[Ljava/lang/Object;"⟩ m_AL_toArray.1 m_AL_toArray.2.1 m_AL_toArray.2.2.1 m_AL_toArray.2.2.2 (Cond.code m_AL_toArray.1 m_AL_toArray.2.1 m_AL_toArray.2.2.1 m_AL_toArray.2.2.2 :: TBL) (rmh h' mc' ms') mc' ms' 0 := by
    refine ⟨⟨rfl, rfl, by rw [hR]; exact hh', by rw [hR]; show 8 + (1 + 11) + 60 * h' ≤ 60 * h0; omega, ?_, List.mem_cons_self⟩, hts_of hC _ hl, hts_of hC _ (tb1 162 rfl), hts_of hC _ (tb1 161 rfl), hts_of hC _ (tb1 164 rfl), hts_of hC _ (tb1 166 rfl), hts_of hC _ (tb1 167 rfl), hts_of hC _ (tb1 165 rfl), hts_of hC _ ca_AL_Col, hts_of hC _ ii_AL, hts_of hC _ hoc.1, by decide, ?_⟩
    · intro w hw
      rcases List.mem_cons.mp hw with rfl | hw
      · exact hwa _ hoc.1
      · exact hwa w hw
    · intro sig hs
      have h2 := hoc.2.2.2
      have e : m_AL_toArray.1.desc = "()[Ljava/lang/Object;" := rfl
      rw [e] at h2
      rw [hs] at h2
      exact (Option.some.inj h2).symm
  exact va_runF (As := []) ((ok_of hC).1.1 6 _ ck_AL.1).2 (fx_of hC) hsp hci (pv_of hC hb rfl hH) rfl rfl hL.1 rfl (rmw hw) hd ⟨by rw [hR]; exact hc, by rw [hR]; exact hs⟩
end GJ
