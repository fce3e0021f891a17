/-! ArrayList: growing, add -/
theorem ishr1 : ∀ n : Fin 401, Int32.ofInt ((n : Nat) : Int) >>> ((1 : Int32) &&& 31) = Int32.ofInt (((n : Nat) / 2 : Nat) : Int) := by decide +kernel
theorem g_ishr1 {X : CT} {cs sl : Nat} {M : AH} {pc pc' : Nat} {L : List (Option Value)} {st : List Value} {own : String} {cc : ByteArray} {rt : Option FieldType} {nm : String} {hh : Bool} (hC : Cx X own cc rt nm hh) {a : Nat} (ha : a ≤ 400) (hd : dn cc pc (.ishr) 1 pc') (kk : G X cs sl M pc' L (iv ((a / 2 : Nat) : Int) :: st)) : G X cs sl M pc L (iv 1 :: iv a :: st) := by
  obtain ⟨hd, rfl⟩ := hd
  intro H locs ls hH hl hL
  refine lv_ishr hC.1 hC.2.1 hd ?_
  have e : Int32.ofInt (a : Int) >>> (Int32.ofInt 1 &&& 31) = Int32.ofInt ((a / 2 : Nat) : Int) := ishr1 ⟨a, by omega⟩
  rw [e]
  exact kk H locs ls hH hl hL
theorem d_ASup_newLength_0 : dn m_ASup_newLength.2.1 0 (.iload_n 0) 1 1 := ⟨by decide +kernel, rfl⟩
theorem d_ASup_newLength_1 : dn m_ASup_newLength.2.1 1 (.iload_n 1) 1 2 := ⟨by decide +kernel, rfl⟩
theorem d_ASup_newLength_2 : dn m_ASup_newLength.2.1 2 (.iload_n 2) 1 3 := ⟨by decide +kernel, rfl⟩
theorem d_ASup_newLength_3 : dn m_ASup_newLength.2.1 3 (.invokestatic 194) 3 6 := ⟨by decide +kernel, rfl⟩
theorem d_ASup_newLength_6 : dn m_ASup_newLength.2.1 6 (.iadd) 1 7 := ⟨by decide +kernel, rfl⟩
theorem d_ASup_newLength_7 : dn m_ASup_newLength.2.1 7 (.istore_n 3) 1 8 := ⟨by decide +kernel, rfl⟩
theorem d_ASup_newLength_8 : dn m_ASup_newLength.2.1 8 (.iconst 0) 1 9 := ⟨by decide +kernel, rfl⟩
theorem d_ASup_newLength_9 : dn m_ASup_newLength.2.1 9 (.iload_n 3) 1 10 := ⟨by decide +kernel, rfl⟩
theorem d_ASup_newLength_10 : db m_ASup_newLength.2.1 10 (.if_icmp .ge) 21 13 := ⟨11, by decide +kernel, by decide, rfl⟩
theorem d_ASup_newLength_13 : dn m_ASup_newLength.2.1 13 (.iload_n 3) 1 14 := ⟨by decide +kernel, rfl⟩
theorem d_ASup_newLength_14 : dn m_ASup_newLength.2.1 14 (.ldc 200) 2 16 := ⟨by decide +kernel, rfl⟩
theorem d_ASup_newLength_16 : db m_ASup_newLength.2.1 16 (.if_icmp .gt) 21 19 := ⟨5, by decide +kernel, by decide, rfl⟩
theorem d_ASup_newLength_19 : dn m_ASup_newLength.2.1 19 (.iload_n 3) 1 20 := ⟨by decide +kernel, rfl⟩
theorem d_ASup_newLength_20 : dn m_ASup_newLength.2.1 20 (.ireturn) 1 21 := ⟨by decide +kernel, rfl⟩
theorem d_ASup_newLength_21 : dn m_ASup_newLength.2.1 21 (.iload_n 0) 1 22 := ⟨by decide +kernel, rfl⟩
theorem d_ASup_newLength_22 : dn m_ASup_newLength.2.1 22 (.iload_n 1) 1 23 := ⟨by decide +kernel, rfl⟩
theorem d_ASup_newLength_23 : dn m_ASup_newLength.2.1 23 (.invokestatic 201) 3 26 := ⟨by decide +kernel, rfl⟩
theorem d_ASup_newLength_26 : dn m_ASup_newLength.2.1 26 (.ireturn) 1 27 := ⟨by decide +kernel, rfl⟩
theorem sp_newLength {l : Launch} {K : KC} {M : AH} {o m p : Nat} (ho : o ≤ 400) (hm : m ≤ 400) (hp : p ≤ 400) (h1 : 0 < m) : Sp l K m_ASup_newLength 1 0 0 [iv o, iv m, iv p] M (fun r M' => r = some (iv ((o + max m p : Nat) : Int)) ∧ M' = M) := by
  refine Sp.ofG R_ASup rfl (by decide) [some (iv o), some (iv m), some (iv p), none] rfl (Nat.le_of_ble_eq_true rfl) ?_
  intro X hl hK hN hR hC hQ
  subst hl hK
  refine g_iload_n hC rfl d_ASup_newLength_0 ?_
  refine g_iload_n hC rfl d_ASup_newLength_1 ?_
  refine g_iload_n hC rfl d_ASup_newLength_2 ?_
  refine g_callS2 hC (sp_max (by unfold I32; omega) (by unfold I32; omega)) oc_Math_max os_Math_max ml_ASup_194 hR (Nat.le_of_ble_eq_true rfl) (Nat.le_of_ble_eq_true rfl) (Nat.le_of_ble_eq_true rfl) (Nat.le_of_ble_eq_true rfl) (Nat.le_of_ble_eq_true rfl) d_ASup_newLength_3 (fun r M hq => ?_)
  obtain ⟨rfl, rfl⟩ := hq
  refine g_sv ?_
  refine g_iadd hC d_ASup_newLength_6 ?_
  first | refine g_ist3 hC d_ASup_newLength_7 rfl (hN 3 rfl) ?_ | (refine g_fg2 ?_; refine g_ist3 hC d_ASup_newLength_7 rfl (hN 3 rfl) ?_)
  refine g_iconst hC d_ASup_newLength_8 ?_
  refine g_iload_n hC rfl d_ASup_newLength_9 ?_
  rw [show (o : Int) + max (m : Int) p = ((o + max m p : Nat) : Int) by omega]
  refine g_icmp_ge hC (by unfold I32; omega) (by unfold I32; omega) d_ASup_newLength_10 (fun c => ?_) (fun c => ?_)
  · omega
  · refine g_iload_n hC rfl d_ASup_newLength_13 ?_
    refine g_ldc (z := 2147483639) hC cn_ASup_200 (by decide) d_ASup_newLength_14 ?_
    refine g_icmp_gt hC (by unfold I32; omega) (by unfold I32; omega) d_ASup_newLength_16 (fun c2 => ?_) (fun c2 => ?_)
    · omega
    · refine g_iload_n hC rfl d_ASup_newLength_19 ?_
      refine g_iret hC hQ (by decide) (by decide) d_ASup_newLength_20 ⟨rfl, rfl⟩
theorem d_Arrs_copyOf3_0 : dn m_Arrs_copyOf3.2.1 0 (.aload_n 2) 1 1 := ⟨by decide +kernel, rfl⟩
theorem d_Arrs_copyOf3_1 : dn m_Arrs_copyOf3.2.1 1 (.ldc 110) 2 3 := ⟨by decide +kernel, rfl⟩
theorem d_Arrs_copyOf3_3 : db m_Arrs_copyOf3.2.1 3 (.if_acmp .ne) 13 6 := ⟨10, by decide +kernel, by decide, rfl⟩
theorem d_Arrs_copyOf3_6 : dn m_Arrs_copyOf3.2.1 6 (.iload_n 1) 1 7 := ⟨by decide +kernel, rfl⟩
theorem d_Arrs_copyOf3_7 : dn m_Arrs_copyOf3.2.1 7 (.anewarray 2) 3 10 := ⟨by decide +kernel, rfl⟩
theorem d_Arrs_copyOf3_10 : db m_Arrs_copyOf3.2.1 10 (.goto) 24 13 := ⟨14, by decide +kernel, by decide, rfl⟩
theorem d_Arrs_copyOf3_13 : dn m_Arrs_copyOf3.2.1 13 (.aload_n 2) 1 14 := ⟨by decide +kernel, rfl⟩
theorem d_Arrs_copyOf3_14 : dn m_Arrs_copyOf3.2.1 14 (.invokevirtual 90) 3 17 := ⟨by decide +kernel, rfl⟩
theorem d_Arrs_copyOf3_17 : dn m_Arrs_copyOf3.2.1 17 (.iload_n 1) 1 18 := ⟨by decide +kernel, rfl⟩
theorem d_Arrs_copyOf3_18 : dn m_Arrs_copyOf3.2.1 18 (.invokestatic 95) 3 21 := ⟨by decide +kernel, rfl⟩
theorem d_Arrs_copyOf3_21 : dn m_Arrs_copyOf3.2.1 21 (.checkcast 110) 3 24 := ⟨by decide +kernel, rfl⟩
theorem d_Arrs_copyOf3_24 : dn m_Arrs_copyOf3.2.1 24 (.astore_n 3) 1 25 := ⟨by decide +kernel, rfl⟩
theorem d_Arrs_copyOf3_25 : dn m_Arrs_copyOf3.2.1 25 (.aload_n 0) 1 26 := ⟨by decide +kernel, rfl⟩
theorem d_Arrs_copyOf3_26 : dn m_Arrs_copyOf3.2.1 26 (.iconst 0) 1 27 := ⟨by decide +kernel, rfl⟩
theorem d_Arrs_copyOf3_27 : dn m_Arrs_copyOf3.2.1 27 (.aload_n 3) 1 28 := ⟨by decide +kernel, rfl⟩
theorem d_Arrs_copyOf3_28 : dn m_Arrs_copyOf3.2.1 28 (.iconst 0) 1 29 := ⟨by decide +kernel, rfl⟩
theorem d_Arrs_copyOf3_29 : dn m_Arrs_copyOf3.2.1 29 (.aload_n 0) 1 30 := ⟨by decide +kernel, rfl⟩
theorem d_Arrs_copyOf3_30 : dn m_Arrs_copyOf3.2.1 30 (.arraylength) 1 31 := ⟨by decide +kernel, rfl⟩
theorem d_Arrs_copyOf3_31 : dn m_Arrs_copyOf3.2.1 31 (.iload_n 1) 1 32 := ⟨by decide +kernel, rfl⟩
theorem d_Arrs_copyOf3_32 : dn m_Arrs_copyOf3.2.1 32 (.invokestatic 304) 3 35 := ⟨by decide +kernel, rfl⟩
theorem d_Arrs_copyOf3_35 : dn m_Arrs_copyOf3.2.1 35 (.invokestatic 150) 3 38 := ⟨by decide +kernel, rfl⟩
theorem d_Arrs_copyOf3_38 : dn m_Arrs_copyOf3.2.1 38 (.aload_n 3) 1 39 := ⟨by decide +kernel, rfl⟩
theorem d_Arrs_copyOf3_39 : dn m_Arrs_copyOf3.2.1 39 (.areturn) 1 40 := ⟨by decide +kernel, rfl⟩
theorem sp_copyOf3 {l : Launch} {K : KC} {M : AH} {a n0 n1 : Nat} {f : Nat → Option Nat} (h : M.1 a = some (oR K n0 f)) (b0 : n0 ≤ 400) (b1 : n1 ≤ 400) {ci : Nat} {C : String} {T : u_T} {N : Nat} {t0 : Nat → FieldType} (ck : CK ci C T N t0) (hca : Cond.castable C "java/lang/Object" ∈ TBL) (hel : ∀ (i y : Nat), i < n1 → i < n0 → f i = some y → ∃ fs, M.1 y = some (oO ci fs)) (hlt : ∀ x v, M.1 x = some v → x < M.2) :
    Sp l K m_Arrs_copyOf3 1 1 n1 [.ref a, iv n1, .ref (kM K)] M (fun r M' => r = some (.ref M.2) ∧ M'.2 = M.2 + 1 ∧ M'.1 M.2 = some (oR K n1 (cpR f (fun _ => none) 0 0 (min n0 n1))) ∧ ∀ x, x ≠ M.2 → M'.1 x = M.1 x) := by
  refine Sp.ofG R_Arrs rfl (by decide) [some (.ref a), some (iv n1), some (.ref (kM K)), none] rfl (Nat.le_of_ble_eq_true rfl) ?_
  intro X hl hK hN hR hC hQ
  subst hl hK
  refine g_kb (fun hkb => ?_)
  refine g_aload_n hC rfl d_Arrs_copyOf3_0 ?_
  refine g_ldcM hC cl_Arrs_110 d_Arrs_copyOf3_1 ?_
  refine g_acmp_ne hC d_Arrs_copyOf3_3 (fun c => ?_) (fun c => ?_)
  · exact absurd rfl c
  refine g_iload_n hC rfl d_Arrs_copyOf3_6 ?_
  refine g_newR hC cl_Arrs_2 (tb1 191 rfl) (n := n1) rfl (by omega) (by rw [hR]; exact Nat.le_of_ble_eq_true rfl) (by rw [hR]; show 0 + n1 ≤ n1; omega) d_Arrs_copyOf3_7 ?_
  have hna : a ≠ M.2 := by have := hlt a _ h; omega
  have h' : (nws M (oR X.K n1 (fun _ => none))).1 a = some (oR X.K n0 f) := (nws_n hna).trans h
  refine g_goto hC d_Arrs_copyOf3_10 ?_
  first | refine g_ast3 hC d_Arrs_copyOf3_24 rfl (hN 3 rfl) ?_ | (refine g_fg2 ?_; refine g_ast3 hC d_Arrs_copyOf3_24 rfl (hN 3 rfl) ?_)
  refine g_aload_n hC rfl d_Arrs_copyOf3_25 ?_
  refine g_iconst hC d_Arrs_copyOf3_26 ?_
  refine g_aload_n hC rfl d_Arrs_copyOf3_27 ?_
  refine g_iconst hC d_Arrs_copyOf3_28 ?_
  refine g_aload_n hC rfl d_Arrs_copyOf3_29 ?_
  refine g_alenR hC h' d_Arrs_copyOf3_30 ?_
  refine g_iload_n hC rfl d_Arrs_copyOf3_31 ?_
  refine g_callS2 hC (sp_min (by unfold I32; omega) (by unfold I32; omega)) oc_Math_min os_Math_min ml_Arrs_304 hR (Nat.le_of_ble_eq_true rfl) (Nat.le_of_ble_eq_true rfl) (Nat.le_of_ble_eq_true rfl) (by omega) (Nat.le_of_ble_eq_true rfl) d_Arrs_copyOf3_32 (fun r M2 hp => ?_)
  obtain ⟨rfl, rfl⟩ := hp
  refine g_sv ?_
  rw [show min (n0 : Int) n1 = ((min n0 n1 : Nat) : Int) by omega]
  refine g_copyR hC ml_Arrs_150 h' nws_s hkb (by omega) (by omega) (by omega) (by omega) (by omega) (by omega) (by omega) ck hca (fun i y _ hi hy => ?_) (by rw [hR]; exact Nat.le_of_ble_eq_true rfl) (by rw [hR]; exact Nat.le_of_ble_eq_true rfl) d_Arrs_copyOf3_35 ?_
  · obtain ⟨fs, hfs⟩ := hel i y (by omega) (by omega) hy
    exact ⟨fs, (nws_n (by have := hlt y _ hfs; omega)).trans hfs⟩
  rw [Int.toNat_natCast]
  refine g_aload_n hC rfl d_Arrs_copyOf3_38 ?_
  refine g_aret hC (Or.inr ⟨_, rfl⟩) hQ (by decide) (by omega) d_Arrs_copyOf3_39 ⟨rfl, rfl, ups_s, fun x hx => (ups_n hx).trans (nws_n hx)⟩
theorem d_Arrs_copyOf2_0 : dn m_Arrs_copyOf2.2.1 0 (.aload_n 0) 1 1 := ⟨by decide +kernel, rfl⟩
theorem d_Arrs_copyOf2_1 : dn m_Arrs_copyOf2.2.1 1 (.iload_n 1) 1 2 := ⟨by decide +kernel, rfl⟩
theorem d_Arrs_copyOf2_2 : dn m_Arrs_copyOf2.2.1 2 (.aload_n 0) 1 3 := ⟨by decide +kernel, rfl⟩
theorem d_Arrs_copyOf2_3 : dn m_Arrs_copyOf2.2.1 3 (.invokevirtual 86) 3 6 := ⟨by decide +kernel, rfl⟩
theorem d_Arrs_copyOf2_6 : dn m_Arrs_copyOf2.2.1 6 (.invokestatic 300) 3 9 := ⟨by decide +kernel, rfl⟩
theorem d_Arrs_copyOf2_9 : dn m_Arrs_copyOf2.2.1 9 (.areturn) 1 10 := ⟨by decide +kernel, rfl⟩
theorem sp_copyOf2 {l : Launch} {K : KC} {M : AH} {a n0 n1 : Nat} {f : Nat → Option Nat} (h : M.1 a = some (oR K n0 f)) (b0 : n0 ≤ 400) (b1 : n1 ≤ 400) {ci : Nat} {C : String} {T : u_T} {N : Nat} {t0 : Nat → FieldType} (ck : CK ci C T N t0) (hca : Cond.castable C "java/lang/Object" ∈ TBL) (hel : ∀ (i y : Nat), i < n1 → i < n0 → f i = some y → ∃ fs, M.1 y = some (oO ci fs)) (hlt : ∀ x v, M.1 x = some v → x < M.2) :
    Sp l K m_Arrs_copyOf2 2 1 n1 [.ref a, iv n1] M (fun r M' => r = some (.ref M.2) ∧ M'.2 = M.2 + 1 ∧ M'.1 M.2 = some (oR K n1 (cpR f (fun _ => none) 0 0 (min n0 n1))) ∧ ∀ x, x ≠ M.2 → M'.1 x = M.1 x) := by
  refine Sp.ofG R_Arrs rfl (by decide) [some (.ref a), some (iv n1)] rfl (Nat.le_of_ble_eq_true rfl) ?_
  intro X hl hK hN hR hC hQ
  subst hl hK
  refine g_aload_n hC rfl d_Arrs_copyOf2_0 ?_
  refine g_iload_n hC rfl d_Arrs_copyOf2_1 ?_
  refine g_aload_n hC rfl d_Arrs_copyOf2_2 ?_
  refine g_getC hC ml_Arrs_86 h (by rw [hR]; exact Nat.le_of_ble_eq_true rfl) (by rw [hR]; exact Nat.le_of_ble_eq_true rfl) d_Arrs_copyOf2_3 ?_
  refine g_callS3 hC (sp_copyOf3 h b0 b1 ck hca hel hlt) oc_Arrs_copyOf3 os_Arrs_copyOf3 ml_Arrs_300 hR (Nat.le_of_ble_eq_true rfl) (Nat.le_of_ble_eq_true rfl) (Nat.le_of_ble_eq_true rfl) (by omega) (Nat.le_of_ble_eq_true rfl) d_Arrs_copyOf2_6 (fun r M2 hp => ?_)
  obtain ⟨rfl, hq⟩ := hp
  refine g_sv ?_
  refine g_aret hC (Or.inr ⟨_, rfl⟩) hQ (by decide) (by omega) d_Arrs_copyOf2_9 ⟨rfl, hq⟩
/-- the heap's cells lie below its size -/
def hlt (M : AH) : Prop := ∀ x v, M.1 x = some v → x < M.2
theorem hlt.ups {M : AH} {a : Nat} {e e0 : va_E} (h : hlt M) (ha : M.1 a = some e0) : hlt (ups M a e) := fun x v hx => by
  by_cases q : x = a
  · subst q; exact h x _ ha
  · rw [ups_n q] at hx; exact h x v hx
theorem g_hlt {X : CT} {cs sl : Nat} {M : AH} {pc : Nat} {L : List (Option Value)} {st : List Value} (kk : hlt M → G X cs sl M pc L st) : G X cs sl M pc L st :=
  fun H locs ls hH hlo hL => kk (fun x v hx => (hH.2.2.2 x v hx).1) H locs ls hH hlo hL
theorem d_AL_grow_0 : dn m_AL_grow.2.1 0 (.aload_n 0) 1 1 := ⟨by decide +kernel, rfl⟩
theorem d_AL_grow_1 : dn m_AL_grow.2.1 1 (.getfield 9) 3 4 := ⟨by decide +kernel, rfl⟩
theorem d_AL_grow_4 : dn m_AL_grow.2.1 4 (.arraylength) 1 5 := ⟨by decide +kernel, rfl⟩
theorem d_AL_grow_5 : dn m_AL_grow.2.1 5 (.istore_n 2) 1 6 := ⟨by decide +kernel, rfl⟩
theorem d_AL_grow_6 : dn m_AL_grow.2.1 6 (.iload_n 2) 1 7 := ⟨by decide +kernel, rfl⟩
theorem d_AL_grow_7 : db m_AL_grow.2.1 7 (.ifCond .gt) 20 10 := ⟨13, by decide +kernel, by decide, rfl⟩
theorem d_AL_grow_10 : dn m_AL_grow.2.1 10 (.aload_n 0) 1 11 := ⟨by decide +kernel, rfl⟩
theorem d_AL_grow_11 : dn m_AL_grow.2.1 11 (.getfield 9) 3 14 := ⟨by decide +kernel, rfl⟩
theorem d_AL_grow_14 : dn m_AL_grow.2.1 14 (.getstatic 39) 3 17 := ⟨by decide +kernel, rfl⟩
theorem d_AL_grow_17 : db m_AL_grow.2.1 17 (.if_acmp .eq) 45 20 := ⟨28, by decide +kernel, by decide, rfl⟩
theorem d_AL_grow_20 : dn m_AL_grow.2.1 20 (.iload_n 2) 1 21 := ⟨by decide +kernel, rfl⟩
theorem d_AL_grow_21 : dn m_AL_grow.2.1 21 (.iload_n 1) 1 22 := ⟨by decide +kernel, rfl⟩
theorem d_AL_grow_22 : dn m_AL_grow.2.1 22 (.iload_n 2) 1 23 := ⟨by decide +kernel, rfl⟩
theorem d_AL_grow_23 : dn m_AL_grow.2.1 23 (.isub) 1 24 := ⟨by decide +kernel, rfl⟩
theorem d_AL_grow_24 : dn m_AL_grow.2.1 24 (.iload_n 2) 1 25 := ⟨by decide +kernel, rfl⟩
theorem d_AL_grow_25 : dn m_AL_grow.2.1 25 (.iconst 1) 1 26 := ⟨by decide +kernel, rfl⟩
theorem d_AL_grow_26 : dn m_AL_grow.2.1 26 (.ishr) 1 27 := ⟨by decide +kernel, rfl⟩
theorem d_AL_grow_27 : dn m_AL_grow.2.1 27 (.invokestatic 73) 3 30 := ⟨by decide +kernel, rfl⟩
theorem d_AL_grow_30 : dn m_AL_grow.2.1 30 (.istore_n 3) 1 31 := ⟨by decide +kernel, rfl⟩
theorem d_AL_grow_31 : dn m_AL_grow.2.1 31 (.aload_n 0) 1 32 := ⟨by decide +kernel, rfl⟩
theorem d_AL_grow_32 : dn m_AL_grow.2.1 32 (.aload_n 0) 1 33 := ⟨by decide +kernel, rfl⟩
theorem d_AL_grow_33 : dn m_AL_grow.2.1 33 (.getfield 9) 3 36 := ⟨by decide +kernel, rfl⟩
theorem d_AL_grow_36 : dn m_AL_grow.2.1 36 (.iload_n 3) 1 37 := ⟨by decide +kernel, rfl⟩
theorem d_AL_grow_37 : dn m_AL_grow.2.1 37 (.invokestatic 66) 3 40 := ⟨by decide +kernel, rfl⟩
theorem d_AL_grow_40 : dn m_AL_grow.2.1 40 (.dup_x1) 1 41 := ⟨by decide +kernel, rfl⟩
theorem d_AL_grow_41 : dn m_AL_grow.2.1 41 (.putfield 9) 3 44 := ⟨by decide +kernel, rfl⟩
theorem d_AL_grow_44 : dn m_AL_grow.2.1 44 (.areturn) 1 45 := ⟨by decide +kernel, rfl⟩
theorem d_AL_grow_45 : dn m_AL_grow.2.1 45 (.aload_n 0) 1 46 := ⟨by decide +kernel, rfl⟩
theorem d_AL_grow_46 : dn m_AL_grow.2.1 46 (.bipush 10) 2 48 := ⟨by decide +kernel, rfl⟩
theorem d_AL_grow_48 : dn m_AL_grow.2.1 48 (.iload_n 1) 1 49 := ⟨by decide +kernel, rfl⟩
theorem d_AL_grow_49 : dn m_AL_grow.2.1 49 (.invokestatic 79) 3 52 := ⟨by decide +kernel, rfl⟩
theorem d_AL_grow_52 : dn m_AL_grow.2.1 52 (.anewarray 7) 3 55 := ⟨by decide +kernel, rfl⟩
theorem d_AL_grow_55 : dn m_AL_grow.2.1 55 (.dup_x1) 1 56 := ⟨by decide +kernel, rfl⟩
theorem d_AL_grow_56 : dn m_AL_grow.2.1 56 (.putfield 9) 3 59 := ⟨by decide +kernel, rfl⟩
theorem d_AL_grow_59 : dn m_AL_grow.2.1 59 (.areturn) 1 60 := ⟨by decide +kernel, rfl⟩
theorem sp_AL_grow {l : Launch} {K : KC} {M : AH} {a e cap m : Nat} {els : List Nat} (hL : isL K M a e cap els) (hm : cap < m) (hm2 : m ≤ 200) {ci : Nat} {C : String} {T : u_T} {N : Nat} {t0 : Nat → FieldType} (ck : CK ci C T N t0) (hca : Cond.castable C "java/lang/Object" ∈ TBL) (hel : ∀ y ∈ els, ∃ fs, M.1 y = some (oO ci fs)) (hne : kE K < M.2) :
    Sp l K m_AL_grow 3 1 300 [.ref a, iv m] M (fun r M' => r = some (.ref M.2) ∧ (∃ c2, m ≤ c2 ∧ c2 ≤ 300 ∧ isL K M' a M.2 c2 els) ∧ M'.2 = M.2 + 1 ∧ ∀ x, x < M.2 → x ≠ a → M'.1 x = M.1 x) := by
  refine Sp.ofG R_AL rfl (by decide) [some (.ref a), some (iv m), none, none] rfl (Nat.le_of_ble_eq_true rfl) ?_
  intro X hl hK hN hR hC hQ
  subst hl hK
  refine g_hlt (fun hlt => ?_)
  have hL' := hL
  obtain ⟨⟨mc, h1⟩, ⟨g, h2, h3⟩, h4, h5, h6⟩ := hL
  have ha := hlt a _ h1
  have hE : M.2 ≠ kE X.K := by omega
  refine g_aload_n hC rfl d_AL_grow_0 ?_
  refine g_get hC fb_AL_9 h1 rfl d_AL_grow_1 ?_
  refine g_alenR hC h2 d_AL_grow_4 ?_
  first | refine g_ist2 hC d_AL_grow_5 rfl (hN 2 rfl) ?_ | (refine g_fg1 ?_; refine g_ist2 hC d_AL_grow_5 rfl (hN 2 rfl) ?_)
  refine g_iload_n hC rfl d_AL_grow_6 ?_
  have A : 0 < cap → G X 0 0 M 20 [some (.ref a), some (iv m), some (iv cap), none] [] := by
    intro hc0
    refine g_iload_n hC rfl d_AL_grow_20 ?_
    refine g_iload_n hC rfl d_AL_grow_21 ?_
    refine g_iload_n hC rfl d_AL_grow_22 ?_
    refine g_isub hC d_AL_grow_23 ?_
    refine g_iload_n hC rfl d_AL_grow_24 ?_
    refine g_iconst hC d_AL_grow_25 ?_
    refine g_ishr1 hC (by omega) d_AL_grow_26 ?_
    rw [show (m : Int) - cap = ((m - cap : Nat) : Int) by omega]
    refine g_callS3 hC (sp_newLength (by omega) (by omega) (by omega) (by omega)) oc_ASup_newLength os_ASup_newLength ml_AL_73 hR (Nat.le_of_ble_eq_true rfl) (Nat.le_of_ble_eq_true rfl) (Nat.le_of_ble_eq_true rfl) (Nat.le_of_ble_eq_true rfl) (Nat.le_of_ble_eq_true rfl) d_AL_grow_27 (fun r M hp => ?_)
    obtain ⟨rfl, rfl⟩ := hp
    refine g_sv ?_
    have hb : cap + max (m - cap) (cap / 2) ≤ 300 := by omega
    have hb2 : m ≤ cap + max (m - cap) (cap / 2) := by omega
    generalize cap + max (m - cap) (cap / 2) = c2 at hb hb2
    have hel2 : ∀ (i y : Nat), i < c2 → i < cap → g i = some y → ∃ fs, M.1 y = some (oO ci fs) := fun i y _ hi hy => hel y (List.mem_of_getElem? ((h3 i hi).symm.trans hy))
    first | refine g_ist3 hC d_AL_grow_30 rfl (hN 3 rfl) ?_ | (refine g_fg2 ?_; refine g_ist3 hC d_AL_grow_30 rfl (hN 3 rfl) ?_)
    refine g_aload_n hC rfl d_AL_grow_31 ?_
    refine g_aload_n hC rfl d_AL_grow_32 ?_
    refine g_get hC fb_AL_9 h1 rfl d_AL_grow_33 ?_
    refine g_iload_n hC rfl d_AL_grow_36 ?_
    refine g_callS2 hC (sp_copyOf2 h2 (by omega) (by omega) ck hca hel2 hlt) oc_Arrs_copyOf2 os_Arrs_copyOf2 ml_AL_66 hR (Nat.le_of_ble_eq_true rfl) (Nat.le_of_ble_eq_true rfl) (Nat.le_of_ble_eq_true rfl) (by omega) (Nat.le_of_ble_eq_true rfl) d_AL_grow_37 (fun r M2 hp => ?_)
    obtain ⟨rfl, z2, hn2, he2⟩ := hp
    refine g_sv ?_
    have h1' := (he2 a (by omega)).trans h1
    refine g_dup_x1 hC rfl rfl d_AL_grow_40 ?_
    refine g_put hC fb_AL_9 h1' rfl rfl (Nat.le_of_ble_eq_true rfl) d_AL_grow_41 ?_
    refine g_aret hC (Or.inr ⟨_, rfl⟩) hQ (by decide) (by omega) d_AL_grow_44 ⟨rfl, ⟨c2, hb2, hb, ⟨mc, ups_s⟩, ⟨_, (ups_n (by omega)).trans hn2, fun i hi => ?_⟩, by omega, fun q => by omega, fun _ => hE⟩, z2, fun x x1 x2 => (ups_n x2).trans (he2 x (by omega))⟩
    show (if 0 ≤ i ∧ i < 0 + min cap c2 then g (0 + (i - 0)) else none) = _
    by_cases hic : i < cap
    · rw [if_pos (by omega), Nat.zero_add, Nat.sub_zero]
      exact h3 i hic
    · rw [if_neg (by omega), List.getElem?_eq_none (by omega)]
  refine g_if_gt hC (by unfold I32; omega) d_AL_grow_7 (fun c => ?_) (fun c => ?_)
  · exact A (by omega)
  · obtain rfl : cap = 0 := by omega
    obtain rfl := h5 rfl
    refine g_aload_n hC rfl d_AL_grow_10 ?_
    refine g_get hC fb_AL_9 h1 rfl d_AL_grow_11 ?_
    refine g_gets hC (tb1 45 rfl) d_AL_grow_14 ?_
    refine g_acmp_eq hC d_AL_grow_17 (fun c2 => ?_) (fun c2 => ?_)
    · refine g_aload_n hC rfl d_AL_grow_45 ?_
      refine g_bipush hC (by decide) d_AL_grow_46 ?_
      refine g_iload_n hC rfl d_AL_grow_48 ?_
      refine g_callS2 hC (sp_max (by unfold I32; omega) (by unfold I32; omega)) oc_Math_max os_Math_max ml_AL_79 hR (Nat.le_of_ble_eq_true rfl) (Nat.le_of_ble_eq_true rfl) (Nat.le_of_ble_eq_true rfl) (Nat.le_of_ble_eq_true rfl) (Nat.le_of_ble_eq_true rfl) d_AL_grow_49 (fun r M hp => ?_)
      obtain ⟨rfl, rfl⟩ := hp
      refine g_sv ?_
      rw [show max (10 : Int) m = ((max 10 m : Nat) : Int) by omega]
      refine g_newR hC cl_AL_7 (tb1 191 rfl) (n := max 10 m) rfl (by omega) (by rw [hR]; exact Nat.le_of_ble_eq_true rfl) (by rw [hR]; show 0 + _ ≤ 300; omega) d_AL_grow_52 ?_
      have h1' : (nws M (oR X.K (max 10 m) (fun _ => none))).1 a = some (oO 6 [.ref (kE X.K), iv els.length, iv mc]) := (nws_n (by omega)).trans h1
      refine g_dup_x1 hC rfl rfl d_AL_grow_55 ?_
      refine g_put hC fb_AL_9 h1' rfl rfl (Nat.le_of_ble_eq_true rfl) d_AL_grow_56 ?_
      refine g_aret hC (Or.inr ⟨_, rfl⟩) hQ (by decide) (by omega) d_AL_grow_59 ⟨rfl, ⟨max 10 m, by omega, by omega, ⟨mc, ups_s⟩, ⟨_, (ups_n (by omega)).trans nws_s, fun i hi => by rw [List.getElem?_eq_none (by omega)]⟩, by omega, fun q => by omega, fun _ => hE⟩, rfl, fun x x1 x2 => (ups_n x2).trans (nws_n (by omega))⟩
    · exact absurd rfl c2
theorem d_AL_grow0_0 : dn m_AL_grow0.2.1 0 (.aload_n 0) 1 1 := ⟨by decide +kernel, rfl⟩
theorem d_AL_grow0_1 : dn m_AL_grow0.2.1 1 (.aload_n 0) 1 2 := ⟨by decide +kernel, rfl⟩
theorem d_AL_grow0_2 : dn m_AL_grow0.2.1 2 (.getfield 48) 3 5 := ⟨by decide +kernel, rfl⟩
theorem d_AL_grow0_5 : dn m_AL_grow0.2.1 5 (.iconst 1) 1 6 := ⟨by decide +kernel, rfl⟩
theorem d_AL_grow0_6 : dn m_AL_grow0.2.1 6 (.iadd) 1 7 := ⟨by decide +kernel, rfl⟩
theorem d_AL_grow0_7 : dn m_AL_grow0.2.1 7 (.invokevirtual 69) 3 10 := ⟨by decide +kernel, rfl⟩
theorem d_AL_grow0_10 : dn m_AL_grow0.2.1 10 (.areturn) 1 11 := ⟨by decide +kernel, rfl⟩
theorem sp_AL_grow0 {l : Launch} {K : KC} {M : AH} {a e cap : Nat} {els : List Nat} (hL : isL K M a e cap els) (hf : els.length = cap) (hm2 : cap < 200) {ci : Nat} {C : String} {T : u_T} {N : Nat} {t0 : Nat → FieldType} (ck : CK ci C T N t0) (hca : Cond.castable C "java/lang/Object" ∈ TBL) (hel : ∀ y ∈ els, ∃ fs, M.1 y = some (oO ci fs)) (hne : kE K < M.2) :
    Sp l K m_AL_grow0 4 1 300 [.ref a] M (fun r M' => r = some (.ref M.2) ∧ (∃ c2, cap + 1 ≤ c2 ∧ c2 ≤ 300 ∧ isL K M' a M.2 c2 els) ∧ M'.2 = M.2 + 1 ∧ ∀ x, x < M.2 → x ≠ a → M'.1 x = M.1 x) := by
  refine Sp.ofG R_AL rfl (by decide) [some (.ref a)] rfl (Nat.le_of_ble_eq_true rfl) ?_
  intro X hl hK hN hR hC hQ
  subst hl hK
  have hL' := hL
  obtain ⟨⟨mc, h1⟩, ⟨g, h2, h3⟩, h4, h5, h6⟩ := hL
  refine g_aload_n hC rfl d_AL_grow0_0 ?_
  refine g_aload_n hC rfl d_AL_grow0_1 ?_
  refine g_get hC fb_AL_48 h1 rfl d_AL_grow0_2 ?_
  refine g_iconst hC d_AL_grow0_5 ?_
  refine g_iadd hC d_AL_grow0_6 ?_
  rw [show (els.length : Int) + 1 = ((cap + 1 : Nat) : Int) by omega]
  refine g_callV1 hC (sp_AL_grow hL' (by omega) (by omega) ck hca hel hne) oc_AL_grow ov_AL_grow ml_AL_69 h1 rfl hR (Nat.le_of_ble_eq_true rfl) (Nat.le_of_ble_eq_true rfl) (Nat.le_of_ble_eq_true rfl) (Nat.le_of_ble_eq_true rfl) (Nat.le_of_ble_eq_true rfl) d_AL_grow0_7 (fun r M2 hp => ?_)
  obtain ⟨rfl, hq⟩ := hp
  refine g_sv ?_
  refine g_aret hC (Or.inr ⟨_, rfl⟩) hQ (by decide) (by decide) d_AL_grow0_10 ⟨rfl, hq⟩
/-- what a list's change leaves alone, or adds one new array -/
def frA (M M' : AH) (a e cap : Nat) : Prop := ∀ x, x < M.2 → x ≠ a → (x = e → cap = 0) → M'.1 x = M.1 x
def frL (M M' : AH) (a e cap e' : Nat) : Prop := (e' = e ∧ M'.2 = M.2 ∨ e' = M.2 ∧ M'.2 = M.2 + 1) ∧ frA M M' a e cap
theorem d_AL_add3_0 : dn m_AL_add3.2.1 0 (.iload_n 3) 1 1 := ⟨by decide +kernel, rfl⟩
theorem d_AL_add3_1 : dn m_AL_add3.2.1 1 (.aload_n 2) 1 2 := ⟨by decide +kernel, rfl⟩
theorem d_AL_add3_2 : dn m_AL_add3.2.1 2 (.arraylength) 1 3 := ⟨by decide +kernel, rfl⟩
theorem d_AL_add3_3 : db m_AL_add3.2.1 3 (.if_icmp .ne) 11 6 := ⟨8, by decide +kernel, by decide, rfl⟩
theorem d_AL_add3_6 : dn m_AL_add3.2.1 6 (.aload_n 0) 1 7 := ⟨by decide +kernel, rfl⟩
theorem d_AL_add3_7 : dn m_AL_add3.2.1 7 (.invokevirtual 129) 3 10 := ⟨by decide +kernel, rfl⟩
theorem d_AL_add3_10 : dn m_AL_add3.2.1 10 (.astore_n 2) 1 11 := ⟨by decide +kernel, rfl⟩
theorem d_AL_add3_11 : dn m_AL_add3.2.1 11 (.aload_n 2) 1 12 := ⟨by decide +kernel, rfl⟩
theorem d_AL_add3_12 : dn m_AL_add3.2.1 12 (.iload_n 3) 1 13 := ⟨by decide +kernel, rfl⟩
theorem d_AL_add3_13 : dn m_AL_add3.2.1 13 (.aload_n 1) 1 14 := ⟨by decide +kernel, rfl⟩
theorem d_AL_add3_14 : dn m_AL_add3.2.1 14 (.aastore) 1 15 := ⟨by decide +kernel, rfl⟩
theorem d_AL_add3_15 : dn m_AL_add3.2.1 15 (.aload_n 0) 1 16 := ⟨by decide +kernel, rfl⟩
theorem d_AL_add3_16 : dn m_AL_add3.2.1 16 (.iload_n 3) 1 17 := ⟨by decide +kernel, rfl⟩
theorem d_AL_add3_17 : dn m_AL_add3.2.1 17 (.iconst 1) 1 18 := ⟨by decide +kernel, rfl⟩
theorem d_AL_add3_18 : dn m_AL_add3.2.1 18 (.iadd) 1 19 := ⟨by decide +kernel, rfl⟩
theorem d_AL_add3_19 : dn m_AL_add3.2.1 19 (.putfield 48) 3 22 := ⟨by decide +kernel, rfl⟩
theorem d_AL_add3_22 : dn m_AL_add3.2.1 22 (.return_) 1 23 := ⟨by decide +kernel, rfl⟩
theorem sp_AL_add3 {l : Launch} {K : KC} {M : AH} {a e cap q : Nat} {els : List Nat} (hL : isL K M a e cap els) (hm2 : els.length < 200) (hcap : cap ≤ 300) {ci : Nat} {C : String} {T : u_T} {N : Nat} {t0 : Nat → FieldType} (ck : CK ci C T N t0) (hca : Cond.castable C "java/lang/Object" ∈ TBL) (hel : ∀ y ∈ els, ∃ fs, M.1 y = some (oO ci fs)) (hne : kE K < M.2) {fs : List Value} (hq : M.1 q = some (oO ci fs)) (hqa : q ≠ a) :
    Sp l K m_AL_add3 5 1 300 [.ref a, .ref q, .ref e, iv els.length] M (fun r M' => r = none ∧ (∃ e' c2, c2 ≤ 300 ∧ isL K M' a e' c2 (els ++ [q]) ∧ frL M M' a e cap e')) := by
  refine Sp.ofG R_AL rfl (by decide) [some (.ref a), some (.ref q), some (.ref e), some (iv els.length)] rfl (Nat.le_of_ble_eq_true rfl) ?_
  intro X hl hK hN hR hC hQ
  subst hl hK
  refine g_hlt (fun hlt => ?_)
  have hae := hL.ne
  have ha := hL
  obtain ⟨⟨mc, h1⟩, ⟨g, h2, h3⟩, h4, h5, h6⟩ := hL
  have ha1 := hlt a _ h1
  have hq1 := hlt q _ hq
  have J : ∀ (M2 : AH) (e' c2 cs sl : Nat), cs ≤ 1 → sl ≤ 300 → isL X.K M2 a e' c2 els → els.length < c2 → c2 ≤ 300 → M2.1 q = some (oO ci fs) → frL M M2 a e cap e' → (e' = e ∧ c2 = cap ∨ e' = M.2) → G X cs sl M2 11 [some (.ref a), some (.ref q), some (.ref e'), some (iv els.length)] [] := by
    intro M2 e' c2 cs sl k1 k2 hL2 hlt2 hc2 hq2 hfr hor
    have hne2 := hL2.ne
    obtain ⟨⟨mc2, u1⟩, ⟨g2, u2, u3⟩, u4, u5, u6⟩ := hL2
    refine g_aload_n hC rfl d_AL_add3_11 ?_
    refine g_iload_n hC rfl d_AL_add3_12 ?_
    refine g_aload_n hC rfl d_AL_add3_13 ?_
    refine g_aast hC u2 ck hca hq2 (by omega) (by omega) (by omega) d_AL_add3_14 ?_
    rw [Int.toNat_natCast]
    refine g_aload_n hC rfl d_AL_add3_15 ?_
    refine g_iload_n hC rfl d_AL_add3_16 ?_
    refine g_iconst hC d_AL_add3_17 ?_
    refine g_iadd hC d_AL_add3_18 ?_
    refine g_put hC fb_AL_48 ((ups_n hne2).trans u1) rfl rfl (Nat.le_of_ble_eq_true rfl) d_AL_add3_19 ?_
    refine g_vret hC hQ k1 k2 d_AL_add3_22 ⟨rfl, e', c2, hc2, ⟨⟨mc2, ?_⟩, ⟨_, (ups_n hne2.symm).trans ups_s, fun i hi => ?_⟩, ?_, u5, u6⟩, hfr.1, fun x x1 x2 x3 => ?_⟩
    · rw [List.length_append]; exact ups_s
    · unfold upr
      by_cases hi2 : i = els.length
      · rw [if_pos hi2, hi2, List.getElem?_append_right (Nat.le_refl _), Nat.sub_self]; rfl
      · rw [if_neg hi2, u3 i hi]
        by_cases hi3 : i < els.length
        · rw [List.getElem?_append_left hi3]
        · rw [List.getElem?_eq_none (by omega), List.getElem?_eq_none (by rw [List.length_append]; show els.length + 1 ≤ i; omega)]
    · rw [List.length_append]; show els.length + 1 ≤ c2; omega
    · rw [ups_n x2, ups_n (by rcases hor with h | h <;> omega), hfr.2 x x1 x2 x3]
  refine g_iload_n hC rfl d_AL_add3_0 ?_
  refine g_aload_n hC rfl d_AL_add3_1 ?_
  refine g_alenR hC h2 d_AL_add3_2 ?_
  refine g_icmp_ne hC (by unfold I32; omega) (by unfold I32; omega) d_AL_add3_3 (fun c => ?_) (fun c => ?_)
  · exact J M e cap 0 0 (by decide) (by decide) ha (by omega) hcap hq ⟨Or.inl ⟨rfl, rfl⟩, fun x _ _ _ => rfl⟩ (Or.inl ⟨rfl, rfl⟩)
  · refine g_aload_n hC rfl d_AL_add3_6 ?_
    refine g_callV0 hC (sp_AL_grow0 ha (by omega) (by omega) ck hca hel hne) oc_AL_grow0 ov_AL_grow0 ml_AL_129 h1 rfl hR (Nat.le_of_ble_eq_true rfl) (Nat.le_of_ble_eq_true rfl) (Nat.le_of_ble_eq_true rfl) (Nat.le_of_ble_eq_true rfl) (Nat.le_of_ble_eq_true rfl) d_AL_add3_7 (fun r M2 hp => ?_)
    obtain ⟨rfl, ⟨c2, w1, w2, w3⟩, z2, he2⟩ := hp
    refine g_sv ?_
    first | refine g_ast2 hC d_AL_add3_10 rfl (hN 2 rfl) ?_ | (refine g_fg1 ?_; refine g_ast2 hC d_AL_add3_10 rfl (hN 2 rfl) ?_)
    exact J M2 M.2 c2 1 300 (by decide) (by decide) w3 (by omega) w2 ((he2 q hq1 hqa).trans hq) ⟨Or.inr ⟨rfl, z2⟩, fun x x1 x2 x3 => he2 x x1 x2⟩ (Or.inr rfl)
theorem d_AL_add_0 : dn m_AL_add.2.1 0 (.aload_n 0) 1 1 := ⟨by decide +kernel, rfl⟩
theorem d_AL_add_1 : dn m_AL_add.2.1 1 (.dup) 1 2 := ⟨by decide +kernel, rfl⟩
theorem d_AL_add_2 : dn m_AL_add.2.1 2 (.getfield 63) 3 5 := ⟨by decide +kernel, rfl⟩
theorem d_AL_add_5 : dn m_AL_add.2.1 5 (.iconst 1) 1 6 := ⟨by decide +kernel, rfl⟩
theorem d_AL_add_6 : dn m_AL_add.2.1 6 (.iadd) 1 7 := ⟨by decide +kernel, rfl⟩
theorem d_AL_add_7 : dn m_AL_add.2.1 7 (.putfield 63) 3 10 := ⟨by decide +kernel, rfl⟩
theorem d_AL_add_10 : dn m_AL_add.2.1 10 (.aload_n 0) 1 11 := ⟨by decide +kernel, rfl⟩
theorem d_AL_add_11 : dn m_AL_add.2.1 11 (.aload_n 1) 1 12 := ⟨by decide +kernel, rfl⟩
theorem d_AL_add_12 : dn m_AL_add.2.1 12 (.aload_n 0) 1 13 := ⟨by decide +kernel, rfl⟩
theorem d_AL_add_13 : dn m_AL_add.2.1 13 (.getfield 9) 3 16 := ⟨by decide +kernel, rfl⟩
theorem d_AL_add_16 : dn m_AL_add.2.1 16 (.aload_n 0) 1 17 := ⟨by decide +kernel, rfl⟩
theorem d_AL_add_17 : dn m_AL_add.2.1 17 (.getfield 48) 3 20 := ⟨by decide +kernel, rfl⟩
theorem d_AL_add_20 : dn m_AL_add.2.1 20 (.invokevirtual 131) 3 23 := ⟨by decide +kernel, rfl⟩
theorem d_AL_add_23 : dn m_AL_add.2.1 23 (.iconst 1) 1 24 := ⟨by decide +kernel, rfl⟩
theorem d_AL_add_24 : dn m_AL_add.2.1 24 (.ireturn) 1 25 := ⟨by decide +kernel, rfl⟩
theorem sp_AL_add {l : Launch} {K : KC} {M : AH} {a e cap q : Nat} {els : List Nat} (hL : isL K M a e cap els) (hm2 : els.length < 200) (hcap : cap ≤ 300) {ci : Nat} {C : String} {T : u_T} {N : Nat} {t0 : Nat → FieldType} (ck : CK ci C T N t0) (hca : Cond.castable C "java/lang/Object" ∈ TBL) (hel : ∀ y ∈ els, y ≠ a ∧ ∃ fs, M.1 y = some (oO ci fs)) (hne : kE K < M.2) {fs : List Value} (hq : M.1 q = some (oO ci fs)) (hqa : q ≠ a) :
    Sp l K m_AL_add 6 1 300 [.ref a, .ref q] M (fun r M' => r = some (iv 1) ∧ (∃ e' c2, c2 ≤ 300 ∧ isL K M' a e' c2 (els ++ [q]) ∧ frL M M' a e cap e')) := by
  refine Sp.ofG R_AL rfl (by decide) [some (.ref a), some (.ref q)] rfl (Nat.le_of_ble_eq_true rfl) ?_
  intro X hl hK hN hR hC hQ
  subst hl hK
  have hae := hL.ne
  obtain ⟨⟨mc, h1⟩, ⟨g, h2, h3⟩, h4⟩ := hL
  refine g_aload_n hC rfl d_AL_add_0 ?_
  refine g_dup hC rfl d_AL_add_1 ?_
  refine g_get hC fb_AL_63 h1 rfl d_AL_add_2 ?_
  refine g_iconst hC d_AL_add_5 ?_
  refine g_iadd hC d_AL_add_6 ?_
  refine g_put hC fb_AL_63 h1 rfl rfl (Nat.le_of_ble_eq_true rfl) d_AL_add_7 ?_
  have u1 : (ups M a (oO 6 ([Value.ref e, iv els.length, iv mc].set 2 (iv (mc + 1))))).1 a = some (oO 6 [.ref e, iv els.length, iv (mc + 1)]) := ups_s
  have hL1 : isL X.K (ups M a (oO 6 ([Value.ref e, iv els.length, iv mc].set 2 (iv (mc + 1))))) a e cap els := ⟨⟨_, u1⟩, ⟨g, (ups_n hae.symm).trans h2, h3⟩, h4⟩
  refine g_aload_n hC rfl d_AL_add_10 ?_
  refine g_aload_n hC rfl d_AL_add_11 ?_
  refine g_aload_n hC rfl d_AL_add_12 ?_
  refine g_get hC fb_AL_9 u1 rfl d_AL_add_13 ?_
  refine g_aload_n hC rfl d_AL_add_16 ?_
  refine g_get hC fb_AL_48 u1 rfl d_AL_add_17 ?_
  have hel2 : ∀ y ∈ els, ∃ fs, (ups M a (oO 6 ([Value.ref e, iv els.length, iv mc].set 2 (iv (mc + 1))))).1 y = some (oO ci fs) := fun y hy => ⟨_, (ups_n (hel y hy).1).trans (hel y hy).2.choose_spec⟩
  refine g_callV3 hC (sp_AL_add3 hL1 hm2 hcap ck hca hel2 hne ((ups_n hqa).trans hq) hqa) oc_AL_add3 ov_AL_add3 ml_AL_131 u1 rfl hR (Nat.le_of_ble_eq_true rfl) (Nat.le_of_ble_eq_true rfl) (Nat.le_of_ble_eq_true rfl) (Nat.le_of_ble_eq_true rfl) (Nat.le_of_ble_eq_true rfl) d_AL_add_20 (fun r M2 hp => ?_)
  obtain ⟨rfl, e', c2, w1, w2, w3, w4⟩ := hp
  refine g_s0 ?_
  refine g_iconst hC d_AL_add_23 ?_
  refine g_zret hC hQ (by decide) (by decide) (by omega) d_AL_add_24 ⟨rfl, e', c2, w1, w2, w3, fun x x1 x2 x3 => (w4 x x1 x2 x3).trans (ups_n x2)⟩
