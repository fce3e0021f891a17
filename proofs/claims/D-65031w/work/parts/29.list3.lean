/-! ArrayList: remove the last, toArray, addAll, clear -/
theorem g_hb {X : CT} {cs sl : Nat} {M : AH} {pc : Nat} {L : List (Option Value)} {st : List Value} {e n : Nat} {g : Nat → Option Nat} (h : M.1 e = some (oR X.K n g)) (hn : 0 < n) (kk : kB X.K ≤ e → G X cs sl M pc L st) : G X cs sl M pc L st :=
  fun H locs ls hH hlo hL => kk (base_R hH h hn) H locs ls hH hlo hL
theorem d_AL_fastRemove_0 : dn m_AL_fastRemove.2.1 0 (.aload_n 0) 1 1 := ⟨by decide +kernel, rfl⟩
theorem d_AL_fastRemove_1 : dn m_AL_fastRemove.2.1 1 (.dup) 1 2 := ⟨by decide +kernel, rfl⟩
theorem d_AL_fastRemove_2 : dn m_AL_fastRemove.2.1 2 (.getfield 63) 3 5 := ⟨by decide +kernel, rfl⟩
theorem d_AL_fastRemove_5 : dn m_AL_fastRemove.2.1 5 (.iconst 1) 1 6 := ⟨by decide +kernel, rfl⟩
theorem d_AL_fastRemove_6 : dn m_AL_fastRemove.2.1 6 (.iadd) 1 7 := ⟨by decide +kernel, rfl⟩
theorem d_AL_fastRemove_7 : dn m_AL_fastRemove.2.1 7 (.putfield 63) 3 10 := ⟨by decide +kernel, rfl⟩
theorem d_AL_fastRemove_10 : dn m_AL_fastRemove.2.1 10 (.aload_n 0) 1 11 := ⟨by decide +kernel, rfl⟩
theorem d_AL_fastRemove_11 : dn m_AL_fastRemove.2.1 11 (.getfield 48) 3 14 := ⟨by decide +kernel, rfl⟩
theorem d_AL_fastRemove_14 : dn m_AL_fastRemove.2.1 14 (.iconst 1) 1 15 := ⟨by decide +kernel, rfl⟩
theorem d_AL_fastRemove_15 : dn m_AL_fastRemove.2.1 15 (.isub) 1 16 := ⟨by decide +kernel, rfl⟩
theorem d_AL_fastRemove_16 : dn m_AL_fastRemove.2.1 16 (.dup) 1 17 := ⟨by decide +kernel, rfl⟩
theorem d_AL_fastRemove_17 : dn m_AL_fastRemove.2.1 17 (.istore_n 3) 1 18 := ⟨by decide +kernel, rfl⟩
theorem d_AL_fastRemove_18 : dn m_AL_fastRemove.2.1 18 (.iload_n 2) 1 19 := ⟨by decide +kernel, rfl⟩
theorem d_AL_fastRemove_19 : db m_AL_fastRemove.2.1 19 (.if_icmp .le) 34 22 := ⟨15, by decide +kernel, by decide, rfl⟩
theorem d_AL_fastRemove_22 : dn m_AL_fastRemove.2.1 22 (.aload_n 1) 1 23 := ⟨by decide +kernel, rfl⟩
theorem d_AL_fastRemove_23 : dn m_AL_fastRemove.2.1 23 (.iload_n 2) 1 24 := ⟨by decide +kernel, rfl⟩
theorem d_AL_fastRemove_24 : dn m_AL_fastRemove.2.1 24 (.iconst 1) 1 25 := ⟨by decide +kernel, rfl⟩
theorem d_AL_fastRemove_25 : dn m_AL_fastRemove.2.1 25 (.iadd) 1 26 := ⟨by decide +kernel, rfl⟩
theorem d_AL_fastRemove_26 : dn m_AL_fastRemove.2.1 26 (.aload_n 1) 1 27 := ⟨by decide +kernel, rfl⟩
theorem d_AL_fastRemove_27 : dn m_AL_fastRemove.2.1 27 (.iload_n 2) 1 28 := ⟨by decide +kernel, rfl⟩
theorem d_AL_fastRemove_28 : dn m_AL_fastRemove.2.1 28 (.iload_n 3) 1 29 := ⟨by decide +kernel, rfl⟩
theorem d_AL_fastRemove_29 : dn m_AL_fastRemove.2.1 29 (.iload_n 2) 1 30 := ⟨by decide +kernel, rfl⟩
theorem d_AL_fastRemove_30 : dn m_AL_fastRemove.2.1 30 (.isub) 1 31 := ⟨by decide +kernel, rfl⟩
theorem d_AL_fastRemove_31 : dn m_AL_fastRemove.2.1 31 (.invokestatic 112) 3 34 := ⟨by decide +kernel, rfl⟩
theorem d_AL_fastRemove_34 : dn m_AL_fastRemove.2.1 34 (.aload_n 1) 1 35 := ⟨by decide +kernel, rfl⟩
theorem d_AL_fastRemove_35 : dn m_AL_fastRemove.2.1 35 (.aload_n 0) 1 36 := ⟨by decide +kernel, rfl⟩
theorem d_AL_fastRemove_36 : dn m_AL_fastRemove.2.1 36 (.iload_n 3) 1 37 := ⟨by decide +kernel, rfl⟩
theorem d_AL_fastRemove_37 : dn m_AL_fastRemove.2.1 37 (.dup_x1) 1 38 := ⟨by decide +kernel, rfl⟩
theorem d_AL_fastRemove_38 : dn m_AL_fastRemove.2.1 38 (.putfield 48) 3 41 := ⟨by decide +kernel, rfl⟩
theorem d_AL_fastRemove_41 : dn m_AL_fastRemove.2.1 41 (.aconst_null) 1 42 := ⟨by decide +kernel, rfl⟩
theorem d_AL_fastRemove_42 : dn m_AL_fastRemove.2.1 42 (.aastore) 1 43 := ⟨by decide +kernel, rfl⟩
theorem d_AL_fastRemove_43 : dn m_AL_fastRemove.2.1 43 (.return_) 1 44 := ⟨by decide +kernel, rfl⟩
theorem sp_AL_fastRemove {l : Launch} {K : KC} {M : AH} {a e cap q : Nat} {els : List Nat} (hL : isL K M a e cap (els ++ [q])) (hcap : cap ≤ 300) :
    Sp l K m_AL_fastRemove 1 0 0 [.ref a, .ref e, iv els.length] M (fun r M' => r = none ∧ isL K M' a e cap els ∧ M'.2 = M.2 ∧ ∀ x, x ≠ a → (x = e → cap = 0) → M'.1 x = M.1 x) := by
  refine Sp.ofG R_AL rfl (by decide) [some (.ref a), some (.ref e), some (iv els.length), none] rfl (Nat.le_of_ble_eq_true rfl) ?_
  intro X hl hK hN hR hC hQ
  subst hl hK
  have hae := hL.ne
  obtain ⟨⟨mc, h1⟩, ⟨g, h2, h3⟩, h4, h5⟩ := hL
  have hlen : (els ++ [q]).length = els.length + 1 := by rw [List.length_append]; rfl
  rw [hlen] at h1 h4
  refine g_aload_n hC rfl d_AL_fastRemove_0 ?_
  refine g_dup hC rfl d_AL_fastRemove_1 ?_
  refine g_get hC fb_AL_63 h1 rfl d_AL_fastRemove_2 ?_
  refine g_iconst hC d_AL_fastRemove_5 ?_
  refine g_iadd hC d_AL_fastRemove_6 ?_
  refine g_put hC fb_AL_63 h1 rfl rfl (Nat.le_of_ble_eq_true rfl) d_AL_fastRemove_7 ?_
  have u1 : (ups M a (oO 6 ([Value.ref e, iv ((els.length + 1 : Nat) : Int), iv mc].set 2 (iv (mc + 1))))).1 a = some (oO 6 [.ref e, iv ((els.length + 1 : Nat) : Int), iv (mc + 1)]) := ups_s
  refine g_aload_n hC rfl d_AL_fastRemove_10 ?_
  refine g_get hC fb_AL_48 u1 rfl d_AL_fastRemove_11 ?_
  refine g_iconst hC d_AL_fastRemove_14 ?_
  refine g_isub hC d_AL_fastRemove_15 ?_
  rw [show ((els.length + 1 : Nat) : Int) - 1 = (els.length : Int) by omega]
  refine g_dup hC rfl d_AL_fastRemove_16 ?_
  first | refine g_ist3 hC d_AL_fastRemove_17 rfl (hN 3 rfl) ?_ | (refine g_fg2 ?_; refine g_ist3 hC d_AL_fastRemove_17 rfl (hN 3 rfl) ?_)
  refine g_iload_n hC rfl d_AL_fastRemove_18 ?_
  refine g_icmp_le hC (by unfold I32; omega) (by unfold I32; omega) d_AL_fastRemove_19 (fun c => ?_) (fun c => ?_)
  · refine g_aload_n hC rfl d_AL_fastRemove_34 ?_
    refine g_aload_n hC rfl d_AL_fastRemove_35 ?_
    refine g_iload_n hC rfl d_AL_fastRemove_36 ?_
    refine g_dup_x1 hC rfl rfl d_AL_fastRemove_37 ?_
    refine g_put hC fb_AL_48 u1 rfl rfl (Nat.le_of_ble_eq_true rfl) d_AL_fastRemove_38 ?_
    refine g_null hC d_AL_fastRemove_41 ?_
    refine g_aastN hC (((ups_n hae.symm).trans (ups_n hae.symm)).trans h2) (by omega) (by omega) (by omega) d_AL_fastRemove_42 ?_
    rw [Int.toNat_natCast]
    refine g_vret hC hQ (by decide) (by decide) d_AL_fastRemove_43 ⟨rfl, ⟨⟨_, (ups_n hae).trans ups_s⟩, ⟨_, ups_s, fun i hi => ?_⟩, by omega, h5⟩, rfl, fun x x1 x2 => (ups_n (fun h => by have := x2 h; omega)).trans ((ups_n x1).trans (ups_n x1))⟩
    unfold upr
    by_cases hi2 : i = els.length
    · rw [if_pos hi2, List.getElem?_eq_none (by omega)]
    · rw [if_neg hi2, h3 i hi]
      by_cases hi3 : i < els.length
      · rw [List.getElem?_append_left hi3]
      · rw [List.getElem?_eq_none (by rw [hlen]; omega), List.getElem?_eq_none (by omega)]
  · omega
theorem d_AL_remove_0 : dn m_AL_remove.2.1 0 (.iload_n 1) 1 1 := ⟨by decide +kernel, rfl⟩
theorem d_AL_remove_1 : dn m_AL_remove.2.1 1 (.aload_n 0) 1 2 := ⟨by decide +kernel, rfl⟩
theorem d_AL_remove_2 : dn m_AL_remove.2.1 2 (.getfield 48) 3 5 := ⟨by decide +kernel, rfl⟩
theorem d_AL_remove_5 : dn m_AL_remove.2.1 5 (.invokestatic 118) 3 8 := ⟨by decide +kernel, rfl⟩
theorem d_AL_remove_8 : dn m_AL_remove.2.1 8 (.pop) 1 9 := ⟨by decide +kernel, rfl⟩
theorem d_AL_remove_9 : dn m_AL_remove.2.1 9 (.aload_n 0) 1 10 := ⟨by decide +kernel, rfl⟩
theorem d_AL_remove_10 : dn m_AL_remove.2.1 10 (.getfield 9) 3 13 := ⟨by decide +kernel, rfl⟩
theorem d_AL_remove_13 : dn m_AL_remove.2.1 13 (.astore_n 2) 1 14 := ⟨by decide +kernel, rfl⟩
theorem d_AL_remove_14 : dn m_AL_remove.2.1 14 (.aload_n 2) 1 15 := ⟨by decide +kernel, rfl⟩
theorem d_AL_remove_15 : dn m_AL_remove.2.1 15 (.iload_n 1) 1 16 := ⟨by decide +kernel, rfl⟩
theorem d_AL_remove_16 : dn m_AL_remove.2.1 16 (.aaload) 1 17 := ⟨by decide +kernel, rfl⟩
theorem d_AL_remove_17 : dn m_AL_remove.2.1 17 (.astore_n 3) 1 18 := ⟨by decide +kernel, rfl⟩
theorem d_AL_remove_18 : dn m_AL_remove.2.1 18 (.aload_n 0) 1 19 := ⟨by decide +kernel, rfl⟩
theorem d_AL_remove_19 : dn m_AL_remove.2.1 19 (.aload_n 2) 1 20 := ⟨by decide +kernel, rfl⟩
theorem d_AL_remove_20 : dn m_AL_remove.2.1 20 (.iload_n 1) 1 21 := ⟨by decide +kernel, rfl⟩
theorem d_AL_remove_21 : dn m_AL_remove.2.1 21 (.invokevirtual 144) 3 24 := ⟨by decide +kernel, rfl⟩
theorem d_AL_remove_24 : dn m_AL_remove.2.1 24 (.aload_n 3) 1 25 := ⟨by decide +kernel, rfl⟩
theorem d_AL_remove_25 : dn m_AL_remove.2.1 25 (.areturn) 1 26 := ⟨by decide +kernel, rfl⟩
theorem sp_AL_remove {l : Launch} {K : KC} {M : AH} {a e cap q : Nat} {els : List Nat} (hL : isL K M a e cap (els ++ [q])) (hcap : cap ≤ 300) :
    Sp l K m_AL_remove 2 0 0 [.ref a, iv els.length] M (fun r M' => r = some (.ref q) ∧ isL K M' a e cap els ∧ M'.2 = M.2 ∧ ∀ x, x ≠ a → (x = e → cap = 0) → M'.1 x = M.1 x) := by
  refine Sp.ofG R_AL rfl (by decide) [some (.ref a), some (iv els.length), none, none] rfl (Nat.le_of_ble_eq_true rfl) ?_
  intro X hl hK hN hR hC hQ
  subst hl hK
  have hL' := hL
  obtain ⟨⟨mc, h1⟩, ⟨g, h2, h3⟩, h4, h5⟩ := hL
  have hlen : (els ++ [q]).length = els.length + 1 := by rw [List.length_append]; rfl
  rw [hlen] at h1 h4
  have hg : g (els.length : Int).toNat = some q := by rw [Int.toNat_natCast, h3 _ (by omega), List.getElem?_append_right (Nat.le_refl _), Nat.sub_self]; rfl
  refine g_iload_n hC rfl d_AL_remove_0 ?_
  refine g_aload_n hC rfl d_AL_remove_1 ?_
  refine g_get hC fb_AL_48 h1 rfl d_AL_remove_2 ?_
  refine g_callS2 hC (sp_Objs_checkIndex (by omega) (by omega) (by unfold I32; omega)) oc_Objs_checkIndex os_Objs_checkIndex ml_AL_118 hR (Nat.le_of_ble_eq_true rfl) (Nat.le_of_ble_eq_true rfl) (Nat.le_of_ble_eq_true rfl) (Nat.le_of_ble_eq_true rfl) (Nat.le_of_ble_eq_true rfl) d_AL_remove_5 (fun r M hp => ?_)
  obtain ⟨rfl, rfl⟩ := hp
  refine g_sv ?_
  refine g_pop hC rfl d_AL_remove_8 ?_
  refine g_aload_n hC rfl d_AL_remove_9 ?_
  refine g_get hC fb_AL_9 h1 rfl d_AL_remove_10 ?_
  first | refine g_ast2 hC d_AL_remove_13 rfl (hN 2 rfl) ?_ | (refine g_fg1 ?_; refine g_ast2 hC d_AL_remove_13 rfl (hN 2 rfl) ?_)
  refine g_aload_n hC rfl d_AL_remove_14 ?_
  refine g_iload_n hC rfl d_AL_remove_15 ?_
  refine g_aald hC h2 (by omega) (by omega) (by omega) hg d_AL_remove_16 ?_
  show G X 0 0 M 17 _ [.ref q]
  first | refine g_ast3 hC d_AL_remove_17 rfl (hN 3 rfl) ?_ | (refine g_fg2 ?_; refine g_ast3 hC d_AL_remove_17 rfl (hN 3 rfl) ?_)
  refine g_aload_n hC rfl d_AL_remove_18 ?_
  refine g_aload_n hC rfl d_AL_remove_19 ?_
  refine g_iload_n hC rfl d_AL_remove_20 ?_
  refine g_callV2 hC (sp_AL_fastRemove hL' hcap) oc_AL_fastRemove ov_AL_fastRemove ml_AL_144 h1 rfl hR (Nat.le_of_ble_eq_true rfl) (Nat.le_of_ble_eq_true rfl) (Nat.le_of_ble_eq_true rfl) (Nat.le_of_ble_eq_true rfl) (Nat.le_of_ble_eq_true rfl) d_AL_remove_21 (fun r M2 hp => ?_)
  obtain ⟨rfl, hq⟩ := hp
  refine g_s0 ?_
  refine g_aload_n hC rfl d_AL_remove_24 ?_
  refine g_aret hC (Or.inl ⟨_, rfl⟩) hQ (by decide) (by decide) d_AL_remove_25 ⟨rfl, hq⟩
theorem d_AL_toArray_0 : dn m_AL_toArray.2.1 0 (.aload_n 0) 1 1 := ⟨by decide +kernel, rfl⟩
theorem d_AL_toArray_1 : dn m_AL_toArray.2.1 1 (.getfield 9) 3 4 := ⟨by decide +kernel, rfl⟩
theorem d_AL_toArray_4 : dn m_AL_toArray.2.1 4 (.aload_n 0) 1 5 := ⟨by decide +kernel, rfl⟩
theorem d_AL_toArray_5 : dn m_AL_toArray.2.1 5 (.getfield 48) 3 8 := ⟨by decide +kernel, rfl⟩
theorem d_AL_toArray_8 : dn m_AL_toArray.2.1 8 (.invokestatic 66) 3 11 := ⟨by decide +kernel, rfl⟩
theorem d_AL_toArray_11 : dn m_AL_toArray.2.1 11 (.areturn) 1 12 := ⟨by decide +kernel, rfl⟩
theorem sp_AL_toArray {l : Launch} {K : KC} {M : AH} {a e cap : Nat} {els : List Nat} (hL : isL K M a e cap els) (hcap : cap ≤ 300) {ci : Nat} {C : String} {T : u_T} {N : Nat} {t0 : Nat → FieldType} (ck : CK ci C T N t0) (hca : Cond.castable C "java/lang/Object" ∈ TBL) (hel : ∀ y ∈ els, ∃ fs, M.1 y = some (oO ci fs)) :
    Sp l K m_AL_toArray 3 1 els.length [.ref a] M (fun r M' => r = some (.ref M.2) ∧ M'.2 = M.2 + 1 ∧ (∃ g, M'.1 M.2 = some (oR K els.length g) ∧ ∀ i, i < els.length → g i = els[i]?) ∧ ∀ x, x ≠ M.2 → M'.1 x = M.1 x) := by
  refine Sp.ofG R_AL rfl (by decide) [some (.ref a)] rfl (Nat.le_of_ble_eq_true rfl) ?_
  intro X hl hK hN hR hC hQ
  subst hl hK
  refine g_hlt (fun hlt => ?_)
  obtain ⟨⟨mc, h1⟩, ⟨g, h2, h3⟩, h4, h5⟩ := hL
  have hel2 : ∀ (i y : Nat), i < els.length → i < cap → g i = some y → ∃ fs, M.1 y = some (oO ci fs) := fun i y _ hi hy => hel y (List.mem_of_getElem? ((h3 i hi).symm.trans hy))
  refine g_aload_n hC rfl d_AL_toArray_0 ?_
  refine g_get hC fb_AL_9 h1 rfl d_AL_toArray_1 ?_
  refine g_aload_n hC rfl d_AL_toArray_4 ?_
  refine g_get hC fb_AL_48 h1 rfl d_AL_toArray_5 ?_
  refine g_callS2 hC (sp_copyOf2 h2 (by omega) (by omega) ck hca hel2 hlt) oc_Arrs_copyOf2 os_Arrs_copyOf2 ml_AL_66 hR (Nat.le_of_ble_eq_true rfl) (Nat.le_of_ble_eq_true rfl) (Nat.le_of_ble_eq_true rfl) (by omega) (Nat.le_of_ble_eq_true rfl) d_AL_toArray_8 (fun r M2 hp => ?_)
  obtain ⟨rfl, z2, hn2, he2⟩ := hp
  refine g_sv ?_
  refine g_aret hC (Or.inr ⟨_, rfl⟩) hQ (by decide) (by omega) d_AL_toArray_11 ⟨rfl, z2, ⟨_, hn2, fun i hi => ?_⟩, he2⟩
  show (if 0 ≤ i ∧ i < 0 + min cap els.length then g (0 + (i - 0)) else none) = _
  rw [if_pos (by omega), Nat.zero_add, Nat.sub_zero]
  exact h3 i (by omega)
theorem d_AL_addAll_0 : dn m_AL_addAll.2.1 0 (.aload_n 1) 1 1 := ⟨by decide +kernel, rfl⟩
theorem d_AL_addAll_1 : dn m_AL_addAll.2.1 1 (.invokeinterface 42 1) 5 6 := ⟨by decide +kernel, rfl⟩
theorem d_AL_addAll_6 : dn m_AL_addAll.2.1 6 (.astore_n 2) 1 7 := ⟨by decide +kernel, rfl⟩
theorem d_AL_addAll_7 : dn m_AL_addAll.2.1 7 (.aload_n 0) 1 8 := ⟨by decide +kernel, rfl⟩
theorem d_AL_addAll_8 : dn m_AL_addAll.2.1 8 (.dup) 1 9 := ⟨by decide +kernel, rfl⟩
theorem d_AL_addAll_9 : dn m_AL_addAll.2.1 9 (.getfield 63) 3 12 := ⟨by decide +kernel, rfl⟩
theorem d_AL_addAll_12 : dn m_AL_addAll.2.1 12 (.iconst 1) 1 13 := ⟨by decide +kernel, rfl⟩
theorem d_AL_addAll_13 : dn m_AL_addAll.2.1 13 (.iadd) 1 14 := ⟨by decide +kernel, rfl⟩
theorem d_AL_addAll_14 : dn m_AL_addAll.2.1 14 (.putfield 63) 3 17 := ⟨by decide +kernel, rfl⟩
theorem d_AL_addAll_17 : dn m_AL_addAll.2.1 17 (.aload_n 2) 1 18 := ⟨by decide +kernel, rfl⟩
theorem d_AL_addAll_18 : dn m_AL_addAll.2.1 18 (.arraylength) 1 19 := ⟨by decide +kernel, rfl⟩
theorem d_AL_addAll_19 : dn m_AL_addAll.2.1 19 (.istore_n 3) 1 20 := ⟨by decide +kernel, rfl⟩
theorem d_AL_addAll_20 : dn m_AL_addAll.2.1 20 (.iload_n 3) 1 21 := ⟨by decide +kernel, rfl⟩
theorem d_AL_addAll_21 : db m_AL_addAll.2.1 21 (.ifCond .ne) 26 24 := ⟨5, by decide +kernel, by decide, rfl⟩
theorem d_AL_addAll_24 : dn m_AL_addAll.2.1 24 (.iconst 0) 1 25 := ⟨by decide +kernel, rfl⟩
theorem d_AL_addAll_25 : dn m_AL_addAll.2.1 25 (.ireturn) 1 26 := ⟨by decide +kernel, rfl⟩
theorem d_AL_addAll_26 : dn m_AL_addAll.2.1 26 (.iload_n 3) 1 27 := ⟨by decide +kernel, rfl⟩
theorem d_AL_addAll_27 : dn m_AL_addAll.2.1 27 (.aload_n 0) 1 28 := ⟨by decide +kernel, rfl⟩
theorem d_AL_addAll_28 : dn m_AL_addAll.2.1 28 (.getfield 9) 3 31 := ⟨by decide +kernel, rfl⟩
theorem d_AL_addAll_31 : dn m_AL_addAll.2.1 31 (.dup) 1 32 := ⟨by decide +kernel, rfl⟩
theorem d_AL_addAll_32 : dn m_AL_addAll.2.1 32 (.astore 4) 2 34 := ⟨by decide +kernel, rfl⟩
theorem d_AL_addAll_34 : dn m_AL_addAll.2.1 34 (.arraylength) 1 35 := ⟨by decide +kernel, rfl⟩
theorem d_AL_addAll_35 : dn m_AL_addAll.2.1 35 (.aload_n 0) 1 36 := ⟨by decide +kernel, rfl⟩
theorem d_AL_addAll_36 : dn m_AL_addAll.2.1 36 (.getfield 48) 3 39 := ⟨by decide +kernel, rfl⟩
theorem d_AL_addAll_39 : dn m_AL_addAll.2.1 39 (.dup) 1 40 := ⟨by decide +kernel, rfl⟩
theorem d_AL_addAll_40 : dn m_AL_addAll.2.1 40 (.istore 5) 2 42 := ⟨by decide +kernel, rfl⟩
theorem d_AL_addAll_42 : dn m_AL_addAll.2.1 42 (.isub) 1 43 := ⟨by decide +kernel, rfl⟩
theorem d_AL_addAll_43 : db m_AL_addAll.2.1 43 (.if_icmp .le) 56 46 := ⟨13, by decide +kernel, by decide, rfl⟩
theorem d_AL_addAll_46 : dn m_AL_addAll.2.1 46 (.aload_n 0) 1 47 := ⟨by decide +kernel, rfl⟩
theorem d_AL_addAll_47 : dn m_AL_addAll.2.1 47 (.iload 5) 2 49 := ⟨by decide +kernel, rfl⟩
theorem d_AL_addAll_49 : dn m_AL_addAll.2.1 49 (.iload_n 3) 1 50 := ⟨by decide +kernel, rfl⟩
theorem d_AL_addAll_50 : dn m_AL_addAll.2.1 50 (.iadd) 1 51 := ⟨by decide +kernel, rfl⟩
theorem d_AL_addAll_51 : dn m_AL_addAll.2.1 51 (.invokevirtual 69) 3 54 := ⟨by decide +kernel, rfl⟩
theorem d_AL_addAll_54 : dn m_AL_addAll.2.1 54 (.astore 4) 2 56 := ⟨by decide +kernel, rfl⟩
theorem d_AL_addAll_56 : dn m_AL_addAll.2.1 56 (.aload_n 2) 1 57 := ⟨by decide +kernel, rfl⟩
theorem d_AL_addAll_57 : dn m_AL_addAll.2.1 57 (.iconst 0) 1 58 := ⟨by decide +kernel, rfl⟩
theorem d_AL_addAll_58 : dn m_AL_addAll.2.1 58 (.aload 4) 2 60 := ⟨by decide +kernel, rfl⟩
theorem d_AL_addAll_60 : dn m_AL_addAll.2.1 60 (.iload 5) 2 62 := ⟨by decide +kernel, rfl⟩
theorem d_AL_addAll_62 : dn m_AL_addAll.2.1 62 (.iload_n 3) 1 63 := ⟨by decide +kernel, rfl⟩
theorem d_AL_addAll_63 : dn m_AL_addAll.2.1 63 (.invokestatic 112) 3 66 := ⟨by decide +kernel, rfl⟩
theorem d_AL_addAll_66 : dn m_AL_addAll.2.1 66 (.aload_n 0) 1 67 := ⟨by decide +kernel, rfl⟩
theorem d_AL_addAll_67 : dn m_AL_addAll.2.1 67 (.iload 5) 2 69 := ⟨by decide +kernel, rfl⟩
theorem d_AL_addAll_69 : dn m_AL_addAll.2.1 69 (.iload_n 3) 1 70 := ⟨by decide +kernel, rfl⟩
theorem d_AL_addAll_70 : dn m_AL_addAll.2.1 70 (.iadd) 1 71 := ⟨by decide +kernel, rfl⟩
theorem d_AL_addAll_71 : dn m_AL_addAll.2.1 71 (.putfield 48) 3 74 := ⟨by decide +kernel, rfl⟩
theorem d_AL_addAll_74 : dn m_AL_addAll.2.1 74 (.iconst 1) 1 75 := ⟨by decide +kernel, rfl⟩
theorem d_AL_addAll_75 : dn m_AL_addAll.2.1 75 (.ireturn) 1 76 := ⟨by decide +kernel, rfl⟩
theorem sp_AL_addAll {l : Launch} {K : KC} {M : AH} {a e cap b e2 cap2 : Nat} {els els2 : List Nat} (hL : isL K M a e cap els) (hL2 : isL K M b e2 cap2 els2) (hsum : els.length + els2.length ≤ 200) (hcap : cap ≤ 300) (hcap2 : cap2 ≤ 300) {ci : Nat} {C : String} {T : u_T} {N : Nat} {t0 : Nat → FieldType} (ck : CK ci C T N t0) (hca : Cond.castable C "java/lang/Object" ∈ TBL) (hel : ∀ y ∈ els, y ≠ a ∧ ∃ fs, M.1 y = some (oO ci fs)) (hel2 : ∀ y ∈ els2, y ≠ a ∧ ∃ fs, M.1 y = some (oO ci fs)) (hne : kE K < M.2) :
    Sp l K m_AL_addAll 4 2 500 [.ref a, .ref b] M (fun r M' => (∃ z, r = some (iv z)) ∧ (∃ e' c2, c2 ≤ 300 ∧ isL K M' a e' c2 (els ++ els2) ∧ (e' = e ∨ e' = M.2 + 1)) ∧ M.2 ≤ M'.2 ∧ frA M M' a e cap) := by
  refine Sp.ofG R_AL rfl (by decide) [some (.ref a), some (.ref b), none, none, none, none] rfl (Nat.le_of_ble_eq_true rfl) ?_
  intro X hl hK hN hR hC hQ
  subst hl hK
  refine g_hlt (fun hlt => ?_)
  have hae := hL.ne
  have hLb := hL2
  obtain ⟨⟨mc, h1⟩, ⟨g, h2, h3⟩, h4, h5⟩ := hL
  obtain ⟨⟨mc2, k1⟩, _, k4, _⟩ := hL2
  have ha1 := hlt a _ h1
  have he1 := hlt e _ h2
  refine g_aload_n hC rfl d_AL_addAll_0 ?_
  refine g_callF hC (sp_AL_toArray hLb hcap2 ck hca (fun y hy => (hel2 y hy).2)) ml_AL_42 k1 hR (Nat.le_of_ble_eq_true rfl) (Nat.le_of_ble_eq_true rfl) (by omega) (Nat.le_of_ble_eq_true rfl) d_AL_addAll_1 (fun r M1 hp => ?_)
  obtain ⟨rfl, z1, ⟨f, t1, t2⟩, hx1⟩ := hp
  refine g_sv ?_
  have h1' := (hx1 a (by omega)).trans h1
  have h2' := (hx1 e (by omega)).trans h2
  first | refine g_ast2 hC d_AL_addAll_6 rfl (hN 2 rfl) ?_ | (refine g_fg1 ?_; refine g_ast2 hC d_AL_addAll_6 rfl (hN 2 rfl) ?_)
  refine g_aload_n hC rfl d_AL_addAll_7 ?_
  refine g_dup hC rfl d_AL_addAll_8 ?_
  refine g_get hC fb_AL_63 h1' rfl d_AL_addAll_9 ?_
  refine g_iconst hC d_AL_addAll_12 ?_
  refine g_iadd hC d_AL_addAll_13 ?_
  refine g_put hC fb_AL_63 h1' rfl rfl (Nat.le_of_ble_eq_true rfl) d_AL_addAll_14 ?_
  show G X _ _ (ups M1 a (oO 6 [.ref e, iv els.length, iv (mc + 1)])) 17 _ _
  obtain ⟨M2, hM2⟩ : ∃ M2, M2 = ups M1 a (oO 6 [.ref e, iv els.length, iv (mc + 1)]) := ⟨_, rfl⟩
  rw [← hM2]
  have z2 : M2.2 = M.2 + 1 := by rw [hM2]; exact z1
  have u1 : M2.1 a = some (oO 6 [.ref e, iv els.length, iv (mc + 1)]) := by rw [hM2]; exact ups_s
  have hx2 : ∀ x, x ≠ a → x ≠ M.2 → M2.1 x = M.1 x := fun x x1 x2 => by rw [hM2, ups_n x1, hx1 x x2]
  have u2 : M2.1 e = some (oR X.K cap g) := (hx2 e hae.symm (by omega)).trans h2
  have u3 : M2.1 M.2 = some (oR X.K els2.length f) := by rw [hM2, ups_n (by omega)]; exact t1
  have hL2' : isL X.K M2 a e cap els := ⟨⟨_, u1⟩, ⟨g, u2, h3⟩, h4, h5⟩
  clear hM2 hx1 h1' h2' t1 z1
  refine g_aload_n hC rfl d_AL_addAll_17 ?_
  refine g_alenR hC u3 d_AL_addAll_18 ?_
  first | refine g_ist3 hC d_AL_addAll_19 rfl (hN 3 rfl) ?_ | (refine g_fg2 ?_; refine g_ist3 hC d_AL_addAll_19 rfl (hN 3 rfl) ?_)
  refine g_iload_n hC rfl d_AL_addAll_20 ?_
  refine g_if_ne hC (by unfold I32; omega) d_AL_addAll_21 (fun c => ?_) (fun c => ?_)
  · -- there is something
    have fin : ∀ (M3 : AH) (e' c2 cs sl : Nat), cs ≤ 2 → sl ≤ 500 → isL X.K M3 a e' c2 els → els.length + els2.length ≤ c2 → c2 ≤ 300 → kB X.K ≤ e' → M3.1 M.2 = some (oR X.K els2.length f) → e' ≠ M.2 → (e' = e ∧ c2 = cap ∨ e' = M.2 + 1) → M.2 ≤ M3.2 → frA M M3 a e cap → (∀ y ∈ els2, ∃ fs, M3.1 y = some (oO ci fs)) → G X cs sl M3 56 [some (.ref a), some (.ref b), some (.ref M.2), some (iv els2.length), some (.ref e'), some (iv els.length)] [] := by
      intro M3 e' c2 cs sl q1 q2 hL3 q3 q4 q5 q6 q7 q8 q9 q10 q11
      have hne3 := hL3.ne
      obtain ⟨⟨mc3, v1⟩, ⟨g3, v2, v3⟩, v4, v5, v6⟩ := hL3
      refine g_aload_n hC rfl d_AL_addAll_56 ?_
      refine g_iconst hC d_AL_addAll_57 ?_
      refine g_aload hC rfl d_AL_addAll_58 ?_
      refine g_iload hC rfl d_AL_addAll_60 ?_
      refine g_iload_n hC rfl d_AL_addAll_62 ?_
      refine g_copyR hC ml_AL_112 q6 v2 q5 (by omega) (by omega) (by omega) (by omega) (by omega) (by omega) (by omega) ck hca (fun i y _ hi hy => ?_) (by rw [hR]; exact Nat.le_of_ble_eq_true rfl) (by rw [hR]; exact Nat.le_of_ble_eq_true rfl) d_AL_addAll_63 ?_
      · exact q11 y (List.mem_of_getElem? ((t2 i (by omega)).symm.trans hy))
      rw [Int.toNat_natCast, Int.toNat_natCast]
      refine g_aload_n hC rfl d_AL_addAll_66 ?_
      refine g_iload hC rfl d_AL_addAll_67 ?_
      refine g_iload_n hC rfl d_AL_addAll_69 ?_
      refine g_iadd hC d_AL_addAll_70 ?_
      refine g_put hC fb_AL_48 ((ups_n hne3).trans v1) rfl rfl (Nat.le_of_ble_eq_true rfl) d_AL_addAll_71 ?_
      refine g_iconst hC d_AL_addAll_74 ?_
      refine g_zret hC hQ q1 q2 (Or.inr rfl) d_AL_addAll_75 ⟨⟨1, rfl⟩, ⟨e', c2, q4, ⟨⟨mc3, ?_⟩, ⟨_, (ups_n hne3.symm).trans ups_s, fun i hi => ?_⟩, ?_, v5, v6⟩, by omega⟩, q9, fun x x1 x2 x3 => ?_⟩
      · rw [List.length_append, Int.natCast_add]; exact ups_s
      · show (if els.length ≤ i ∧ i < els.length + els2.length then f (0 + (i - els.length)) else g3 i) = _
        by_cases hi3 : i < els.length
        · rw [if_neg (by omega), List.getElem?_append_left hi3, v3 i hi]
        · by_cases hi4 : i < els.length + els2.length
          · rw [if_pos (by omega), Nat.zero_add, List.getElem?_append_right (by omega), t2 _ (by omega)]
          · rw [if_neg (by omega), v3 i hi, List.getElem?_eq_none (by omega), List.getElem?_eq_none (by rw [List.length_append]; omega)]
      · rw [List.length_append]; exact q3
      · rw [ups_n x2, ups_n (by rcases q8 with h | h <;> omega), q10 x x1 x2 x3]
    refine g_iload_n hC rfl d_AL_addAll_26 ?_
    refine g_aload_n hC rfl d_AL_addAll_27 ?_
    refine g_get hC fb_AL_9 u1 rfl d_AL_addAll_28 ?_
    refine g_dup hC rfl d_AL_addAll_31 ?_
    first | refine g_ast4 hC d_AL_addAll_32 rfl (hN 4 rfl) ?_ | (refine g_fg3 ?_; refine g_ast4 hC d_AL_addAll_32 rfl (hN 4 rfl) ?_)
    refine g_alenR hC u2 d_AL_addAll_34 ?_
    refine g_aload_n hC rfl d_AL_addAll_35 ?_
    refine g_get hC fb_AL_48 u1 rfl d_AL_addAll_36 ?_
    refine g_dup hC rfl d_AL_addAll_39 ?_
    first | refine g_ist5 hC d_AL_addAll_40 rfl (hN 5 rfl) ?_ | (refine g_fg4 ?_; refine g_ist5 hC d_AL_addAll_40 rfl (hN 5 rfl) ?_)
    refine g_isub hC d_AL_addAll_42 ?_
    have he2' : ∀ y ∈ els2, ∃ fs, M2.1 y = some (oO ci fs) := fun y hy => by
      obtain ⟨w1, fs, w2⟩ := hel2 y hy
      exact ⟨fs, (hx2 y w1 (by have := hlt y _ w2; omega)).trans w2⟩
    refine g_kb (fun hkb => ?_)
    refine g_icmp_le hC (by unfold I32; omega) (by unfold I32; omega) d_AL_addAll_43 (fun c2 => ?_) (fun c2 => ?_)
    · refine g_hb (e := e) u2 (by omega) (fun hbe => ?_)
      exact fin M2 e cap _ _ (by decide) (by omega) hL2' (by omega) hcap hbe u3 (by omega) (Or.inl ⟨rfl, rfl⟩) (by omega) (fun x x1 x2 x3 => hx2 x x2 (by omega)) he2'
    · refine g_aload_n hC rfl d_AL_addAll_46 ?_
      refine g_iload hC rfl d_AL_addAll_47 ?_
      refine g_iload_n hC rfl d_AL_addAll_49 ?_
      refine g_iadd hC d_AL_addAll_50 ?_
      rw [show (els.length : Int) + els2.length = ((els.length + els2.length : Nat) : Int) by omega]
      have hel3 : ∀ y ∈ els, ∃ fs, M2.1 y = some (oO ci fs) := fun y hy => by
        obtain ⟨w1, fs, w2⟩ := hel y hy
        exact ⟨fs, (hx2 y w1 (by have := hlt y _ w2; omega)).trans w2⟩
      refine g_callV1 hC (sp_AL_grow hL2' (by omega) (by omega) ck hca hel3 (by omega)) oc_AL_grow ov_AL_grow ml_AL_69 u1 rfl hR (Nat.le_of_ble_eq_true rfl) (Nat.le_of_ble_eq_true rfl) (Nat.le_of_ble_eq_true rfl) (by omega) (Nat.le_of_ble_eq_true rfl) d_AL_addAll_51 (fun r M3 hp => ?_)
      obtain ⟨rfl, ⟨c3, w1, w2, w3⟩, z3, hx3⟩ := hp
      refine g_sv ?_
      first | refine g_ast4 hC d_AL_addAll_54 rfl (hN 4 rfl) ?_ | (refine g_fg3 ?_; refine g_ast4 hC d_AL_addAll_54 rfl (hN 4 rfl) ?_)
      refine fin M3 M2.2 c3 _ _ (by decide) (by omega) w3 w1 w2 hkb ((hx3 _ (by omega) (by omega)).trans u3) (by omega) (by omega) (by omega) (fun x x1 x2 x3 => (hx3 x (by omega) x2).trans (hx2 x x2 (by omega))) (fun y hy => ?_)
      obtain ⟨w1, fs, w2⟩ := hel2 y hy
      have := hlt y _ w2
      exact ⟨fs, (hx3 y (by omega) w1).trans ((hx2 y w1 (by omega)).trans w2)⟩
  · have h0 : els2 = [] := List.length_eq_zero_iff.mp (by omega)
    subst h0
    refine g_iconst hC d_AL_addAll_24 ?_
    refine g_zret hC hQ (by decide) (by omega) (Or.inl rfl) d_AL_addAll_25 ⟨⟨0, rfl⟩, ⟨e, cap, hcap, by rw [List.append_nil]; exact hL2', Or.inl rfl⟩, by omega, fun x x1 x2 x3 => hx2 x x2 (by omega)⟩
theorem d_AL_clear_0 : dn m_AL_clear.2.1 0 (.aload_n 0) 1 1 := ⟨by decide +kernel, rfl⟩
theorem d_AL_clear_1 : dn m_AL_clear.2.1 1 (.dup) 1 2 := ⟨by decide +kernel, rfl⟩
theorem d_AL_clear_2 : dn m_AL_clear.2.1 2 (.getfield 63) 3 5 := ⟨by decide +kernel, rfl⟩
theorem d_AL_clear_5 : dn m_AL_clear.2.1 5 (.iconst 1) 1 6 := ⟨by decide +kernel, rfl⟩
theorem d_AL_clear_6 : dn m_AL_clear.2.1 6 (.iadd) 1 7 := ⟨by decide +kernel, rfl⟩
theorem d_AL_clear_7 : dn m_AL_clear.2.1 7 (.putfield 63) 3 10 := ⟨by decide +kernel, rfl⟩
theorem d_AL_clear_10 : dn m_AL_clear.2.1 10 (.aload_n 0) 1 11 := ⟨by decide +kernel, rfl⟩
theorem d_AL_clear_11 : dn m_AL_clear.2.1 11 (.getfield 9) 3 14 := ⟨by decide +kernel, rfl⟩
theorem d_AL_clear_14 : dn m_AL_clear.2.1 14 (.astore_n 1) 1 15 := ⟨by decide +kernel, rfl⟩
theorem d_AL_clear_15 : dn m_AL_clear.2.1 15 (.aload_n 0) 1 16 := ⟨by decide +kernel, rfl⟩
theorem d_AL_clear_16 : dn m_AL_clear.2.1 16 (.getfield 48) 3 19 := ⟨by decide +kernel, rfl⟩
theorem d_AL_clear_19 : dn m_AL_clear.2.1 19 (.istore_n 2) 1 20 := ⟨by decide +kernel, rfl⟩
theorem d_AL_clear_20 : dn m_AL_clear.2.1 20 (.aload_n 0) 1 21 := ⟨by decide +kernel, rfl⟩
theorem d_AL_clear_21 : dn m_AL_clear.2.1 21 (.iconst 0) 1 22 := ⟨by decide +kernel, rfl⟩
theorem d_AL_clear_22 : dn m_AL_clear.2.1 22 (.dup_x1) 1 23 := ⟨by decide +kernel, rfl⟩
theorem d_AL_clear_23 : dn m_AL_clear.2.1 23 (.putfield 48) 3 26 := ⟨by decide +kernel, rfl⟩
theorem d_AL_clear_26 : dn m_AL_clear.2.1 26 (.istore_n 3) 1 27 := ⟨by decide +kernel, rfl⟩
theorem d_AL_clear_27 : dn m_AL_clear.2.1 27 (.iload_n 3) 1 28 := ⟨by decide +kernel, rfl⟩
theorem d_AL_clear_28 : dn m_AL_clear.2.1 28 (.iload_n 2) 1 29 := ⟨by decide +kernel, rfl⟩
theorem d_AL_clear_29 : db m_AL_clear.2.1 29 (.if_icmp .ge) 42 32 := ⟨13, by decide +kernel, by decide, rfl⟩
theorem d_AL_clear_32 : dn m_AL_clear.2.1 32 (.aload_n 1) 1 33 := ⟨by decide +kernel, rfl⟩
theorem d_AL_clear_33 : dn m_AL_clear.2.1 33 (.iload_n 3) 1 34 := ⟨by decide +kernel, rfl⟩
theorem d_AL_clear_34 : dn m_AL_clear.2.1 34 (.aconst_null) 1 35 := ⟨by decide +kernel, rfl⟩
theorem d_AL_clear_35 : dn m_AL_clear.2.1 35 (.aastore) 1 36 := ⟨by decide +kernel, rfl⟩
theorem d_AL_clear_36 : dn m_AL_clear.2.1 36 (.iinc 3 1) 3 39 := ⟨by decide +kernel, rfl⟩
theorem d_AL_clear_39 : db m_AL_clear.2.1 39 (.goto) 27 42 := ⟨(-12), by decide +kernel, by decide, rfl⟩
theorem d_AL_clear_42 : dn m_AL_clear.2.1 42 (.return_) 1 43 := ⟨by decide +kernel, rfl⟩
theorem sp_AL_clear {l : Launch} {K : KC} {M : AH} {a e cap : Nat} {els : List Nat} (hL : isL K M a e cap els) (hcap : cap ≤ 300) :
    Sp l K m_AL_clear 0 0 0 [.ref a] M (fun r M' => r = none ∧ isL K M' a e cap [] ∧ M'.2 = M.2 ∧ ∀ x, x ≠ a → (x = e → cap = 0) → M'.1 x = M.1 x) := by
  refine Sp.ofG R_AL rfl (by decide) [some (.ref a), none, none, none] rfl (Nat.le_of_ble_eq_true rfl) ?_
  intro X hl hK hN hR hC hQ
  subst hl hK
  have hae := hL.ne
  obtain ⟨⟨mc, h1⟩, ⟨g, h2, h3⟩, h4, h5⟩ := hL
  refine g_aload_n hC rfl d_AL_clear_0 ?_
  refine g_dup hC rfl d_AL_clear_1 ?_
  refine g_get hC fb_AL_63 h1 rfl d_AL_clear_2 ?_
  refine g_iconst hC d_AL_clear_5 ?_
  refine g_iadd hC d_AL_clear_6 ?_
  refine g_put hC fb_AL_63 h1 rfl rfl (Nat.le_of_ble_eq_true rfl) d_AL_clear_7 ?_
  have u1 : (ups M a (oO 6 ([Value.ref e, iv els.length, iv mc].set 2 (iv (mc + 1))))).1 a = some (oO 6 [.ref e, iv els.length, iv (mc + 1)]) := ups_s
  refine g_aload_n hC rfl d_AL_clear_10 ?_
  refine g_get hC fb_AL_9 u1 rfl d_AL_clear_11 ?_
  first | refine g_ast1 hC d_AL_clear_14 rfl (hN 1 rfl) ?_ | (refine g_fg0 ?_; refine g_ast1 hC d_AL_clear_14 rfl (hN 1 rfl) ?_)
  refine g_aload_n hC rfl d_AL_clear_15 ?_
  refine g_get hC fb_AL_48 u1 rfl d_AL_clear_16 ?_
  first | refine g_ist2 hC d_AL_clear_19 rfl (hN 2 rfl) ?_ | (refine g_fg1 ?_; refine g_ist2 hC d_AL_clear_19 rfl (hN 2 rfl) ?_)
  refine g_aload_n hC rfl d_AL_clear_20 ?_
  refine g_iconst hC d_AL_clear_21 ?_
  refine g_dup_x1 hC rfl rfl d_AL_clear_22 ?_
  refine g_put hC fb_AL_48 u1 rfl rfl (Nat.le_of_ble_eq_true rfl) d_AL_clear_23 ?_
  show G X 0 0 (ups (ups M a (oO 6 ([Value.ref e, iv els.length, iv mc].set 2 (iv (mc + 1))))) a (oO 6 [.ref e, iv 0, iv (mc + 1)])) 26 _ _
  obtain ⟨M2, hM2⟩ : ∃ M2, M2 = ups (ups M a (oO 6 ([Value.ref e, iv els.length, iv mc].set 2 (iv (mc + 1))))) a (oO 6 [.ref e, iv 0, iv (mc + 1)]) := ⟨_, rfl⟩
  rw [← hM2]
  have w1 : M2.1 a = some (oO 6 [.ref e, iv 0, iv (mc + 1)]) := by rw [hM2]; exact ups_s
  have w2 : M2.1 e = some (oR X.K cap g) := by rw [hM2, ups_n hae.symm, ups_n hae.symm]; exact h2
  have w3 : ∀ x, x ≠ a → M2.1 x = M.1 x := fun x hx => by rw [hM2, ups_n hx, ups_n hx]
  have w4 : M2.2 = M.2 := by rw [hM2]; rfl
  clear hM2 u1
  first | refine g_ist3 hC d_AL_clear_26 rfl (hN 3 rfl) ?_ | (refine g_fg2 ?_; refine g_ist3 hC d_AL_clear_26 rfl (hN 3 rfl) ?_)
  have key : ∀ (k i : Nat) (M3 : AH) (g3 : Nat → Option Nat), els.length - i = k → i ≤ els.length → M3.1 a = some (oO 6 [.ref e, iv 0, iv (mc + 1)]) → M3.1 e = some (oR X.K cap g3) → (∀ j, j < cap → g3 j = if j < i then none else els[j]?) → M3.2 = M.2 → (∀ x, x ≠ a → (x = e → cap = 0) → M3.1 x = M.1 x) → G X 0 0 M3 27 [some (.ref a), some (.ref e), some (iv els.length), some (iv i)] [] := by
    intro k
    induction k with
    | zero =>
      intro i M3 g3 hk hi q1 q2 q3 q4 q5
      refine g_iload_n hC rfl d_AL_clear_27 ?_
      refine g_iload_n hC rfl d_AL_clear_28 ?_
      refine g_icmp_ge hC (by unfold I32; omega) (by unfold I32; omega) d_AL_clear_29 (fun c => ?_) (fun c => ?_)
      · refine g_vret hC hQ (by decide) (by decide) d_AL_clear_42 ⟨rfl, ⟨⟨_, q1⟩, ⟨g3, q2, fun j hj => ?_⟩, Nat.zero_le _, h5⟩, q4, q5⟩
        rw [q3 j hj, List.getElem?_nil]
        by_cases hji : j < i
        · rw [if_pos hji]
        · rw [if_neg hji, List.getElem?_eq_none (by omega)]
      · omega
    | succ k ih =>
      intro i M3 g3 hk hi q1 q2 q3 q4 q5
      refine g_iload_n hC rfl d_AL_clear_27 ?_
      refine g_iload_n hC rfl d_AL_clear_28 ?_
      refine g_icmp_ge hC (by unfold I32; omega) (by unfold I32; omega) d_AL_clear_29 (fun c => ?_) (fun c => ?_)
      · omega
      · refine g_aload_n hC rfl d_AL_clear_32 ?_
        refine g_iload_n hC rfl d_AL_clear_33 ?_
        refine g_null hC d_AL_clear_34 ?_
        refine g_aastN hC q2 (by omega) (by omega) (by omega) d_AL_clear_35 ?_
        rw [Int.toNat_natCast]
        refine g_inc3 hC d_AL_clear_36 rfl (hN 3 rfl) ?_
        refine g_goto hC d_AL_clear_39 ?_
        refine ih (i + 1) _ _ (by omega) (by omega) ((ups_n hae).trans q1) ups_s (fun j hj => ?_) q4 (fun x x1 x2 => (ups_n (fun h => by have := x2 h; omega)).trans (q5 x x1 x2))
        unfold upr
        by_cases hji : j = i
        · rw [if_pos hji, if_pos (by omega)]
        · rw [if_neg hji, q3 j hj]
          by_cases hj2 : j < i
          · rw [if_pos hj2, if_pos (by omega)]
          · rw [if_neg hj2, if_neg (by omega)]
  exact key _ 0 M2 g rfl (Nat.zero_le _) w1 w2 (fun j hj => by rw [if_neg (by omega)]; exact h3 j hj) w4 (fun x x1 _ => w3 x x1)
