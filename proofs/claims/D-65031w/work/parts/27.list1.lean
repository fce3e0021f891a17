/-! ArrayList -/
theorem g_kb {X : CT} {cs sl : Nat} {M : AH} {pc : Nat} {L : List (Option Value)} {st : List Value} (kk : kB X.K ≤ M.2 → G X cs sl M pc L st) : G X cs sl M pc L st :=
  fun H locs ls hH hlo hL => kk hH.2.1 H locs ls hH hlo hL
def isL (K : KC) (M : AH) (a e cap : Nat) (els : List Nat) : Prop := (∃ mc : Int, M.1 a = some (oO 6 [.ref e, iv els.length, iv mc])) ∧ (∃ g, M.1 e = some (oR K cap g) ∧ ∀ i, i < cap → g i = els[i]?) ∧ els.length ≤ cap ∧ (cap = 0 → e = kE K) ∧ (0 < cap → e ≠ kE K)
theorem isL.ne {K : KC} {M : AH} {a e cap : Nat} {els : List Nat} (h : isL K M a e cap els) : a ≠ e := by
  obtain ⟨⟨mc, h1⟩, ⟨g, h2, _⟩, _⟩ := h
  intro q
  subst q
  rw [h1] at h2
  simp [oR] at h2
theorem neR {K : KC} {M : AH} {q e n ci : Nat} {g : Nat → Option Nat} {fs : List Value} (h1 : M.1 q = some (oO ci fs)) (h2 : M.1 e = some (oR K n g)) : q ≠ e := by
  intro h
  subst h
  rw [h1] at h2
  simp [oR] at h2
theorem isL.eq {K : KC} {M M' : AH} {a e cap : Nat} {els : List Nat} (h : isL K M a e cap els) (h1 : M'.1 a = M.1 a) (h2 : M'.1 e = M.1 e) : isL K M' a e cap els := by
  obtain ⟨⟨mc, q1⟩, ⟨g, q2, q3⟩, q4⟩ := h
  exact ⟨⟨mc, h1.trans q1⟩, ⟨g, h2.trans q2, q3⟩, q4⟩
theorem d_ABC_init_0 : dn m_ABC_init.2.1 0 (.aload_n 0) 1 1 := ⟨by decide +kernel, rfl⟩
theorem d_ABC_init_1 : dn m_ABC_init.2.1 1 (.invokespecial 1) 3 4 := ⟨by decide +kernel, rfl⟩
theorem d_ABC_init_4 : dn m_ABC_init.2.1 4 (.return_) 1 5 := ⟨by decide +kernel, rfl⟩
theorem sp_ABC_init {l : Launch} {K : KC} {M : AH} {a : Nat} : Sp l K m_ABC_init 1 0 0 [.ref a] M (fun r M' => r = none ∧ M' = M) := by
  refine Sp.ofG R_ABC rfl (by decide) [some (.ref a)] rfl (Nat.le_of_ble_eq_true rfl) ?_
  intro X hl hK hN hR hC hQ
  subst hl hK
  refine g_aload_n hC rfl d_ABC_init_0 ?_
  refine g_objInit hC ml_ABC_1 (by rw [hR]; exact Nat.le_of_ble_eq_true rfl) (by rw [hR]; exact Nat.le_of_ble_eq_true rfl) d_ABC_init_1 ?_
  refine g_vret hC hQ (by decide) (by decide) d_ABC_init_4 ⟨rfl, rfl⟩
theorem d_ABL_init_0 : dn m_ABL_init.2.1 0 (.aload_n 0) 1 1 := ⟨by decide +kernel, rfl⟩
theorem d_ABL_init_1 : dn m_ABL_init.2.1 1 (.invokespecial 1) 3 4 := ⟨by decide +kernel, rfl⟩
theorem d_ABL_init_4 : dn m_ABL_init.2.1 4 (.aload_n 0) 1 5 := ⟨by decide +kernel, rfl⟩
theorem d_ABL_init_5 : dn m_ABL_init.2.1 5 (.iconst 0) 1 6 := ⟨by decide +kernel, rfl⟩
theorem d_ABL_init_6 : dn m_ABL_init.2.1 6 (.putfield 7) 3 9 := ⟨by decide +kernel, rfl⟩
theorem d_ABL_init_9 : dn m_ABL_init.2.1 9 (.return_) 1 10 := ⟨by decide +kernel, rfl⟩
theorem sp_ABL_init {l : Launch} {K : KC} {M : AH} {a : Nat} {v w z : Value} (h : M.1 a = some (oO 6 [v, w, z])) : Sp l K m_ABL_init 2 0 0 [.ref a] M (fun r M' => r = none ∧ M' = ups M a (oO 6 [v, w, iv 0])) := by
  refine Sp.ofG R_ABL rfl (by decide) [some (.ref a)] rfl (Nat.le_of_ble_eq_true rfl) ?_
  intro X hl hK hN hR hC hQ
  subst hl hK
  refine g_aload_n hC rfl d_ABL_init_0 ?_
  refine g_callI0 hC sp_ABC_init oc_ABC_init oi_ABC_init rfl ml_ABL_1 hR (Nat.le_of_ble_eq_true rfl) (Nat.le_of_ble_eq_true rfl) (Nat.le_of_ble_eq_true rfl) (Nat.le_of_ble_eq_true rfl) (Nat.le_of_ble_eq_true rfl) d_ABL_init_1 (fun r M hp => ?_)
  obtain ⟨rfl, rfl⟩ := hp
  refine g_s0 ?_
  refine g_aload_n hC rfl d_ABL_init_4 ?_
  refine g_iconst hC d_ABL_init_5 ?_
  refine g_put hC fb_ABL_7 h rfl rfl (Nat.le_of_ble_eq_true rfl) d_ABL_init_6 ?_
  refine g_vret hC hQ (by decide) (by decide) d_ABL_init_9 ⟨rfl, rfl⟩
theorem d_AL_init_0 : dn m_AL_init.2.1 0 (.aload_n 0) 1 1 := ⟨by decide +kernel, rfl⟩
theorem d_AL_init_1 : dn m_AL_init.2.1 1 (.invokespecial 1) 3 4 := ⟨by decide +kernel, rfl⟩
theorem d_AL_init_4 : dn m_AL_init.2.1 4 (.aload_n 0) 1 5 := ⟨by decide +kernel, rfl⟩
theorem d_AL_init_5 : dn m_AL_init.2.1 5 (.getstatic 39) 3 8 := ⟨by decide +kernel, rfl⟩
theorem d_AL_init_8 : dn m_AL_init.2.1 8 (.putfield 9) 3 11 := ⟨by decide +kernel, rfl⟩
theorem d_AL_init_11 : dn m_AL_init.2.1 11 (.return_) 1 12 := ⟨by decide +kernel, rfl⟩
theorem sp_AL_init {l : Launch} {K : KC} {M : AH} {a : Nat} (h : M.1 a = some (oO 6 [.null, iv 0, iv 0])) (hE : M.1 (kE K) = some (oR K 0 (fun _ => none))) : Sp l K m_AL_init 3 0 0 [.ref a] M (fun r M' => r = none ∧ isL K M' a (kE K) 0 [] ∧ M'.2 = M.2 ∧ ∀ x, x ≠ a → M'.1 x = M.1 x) := by
  refine Sp.ofG R_AL rfl (by decide) [some (.ref a)] rfl (Nat.le_of_ble_eq_true rfl) ?_
  intro X hl hK hN hR hC hQ
  subst hl hK
  refine g_aload_n hC rfl d_AL_init_0 ?_
  refine g_callI0 hC (sp_ABL_init h) oc_ABL_init oi_ABL_init rfl ml_AL_1 hR (Nat.le_of_ble_eq_true rfl) (Nat.le_of_ble_eq_true rfl) (Nat.le_of_ble_eq_true rfl) (Nat.le_of_ble_eq_true rfl) (Nat.le_of_ble_eq_true rfl) d_AL_init_1 (fun r M1 hp => ?_)
  obtain ⟨rfl, rfl⟩ := hp
  refine g_s0 ?_
  refine g_aload_n hC rfl d_AL_init_4 ?_
  refine g_gets hC (tb1 45 rfl) d_AL_init_5 ?_
  refine g_put hC fb_AL_9 ups_s rfl rfl (Nat.le_of_ble_eq_true rfl) d_AL_init_8 ?_
  have hne := neR h hE
  refine g_vret hC hQ (by decide) (by decide) d_AL_init_11 ⟨rfl, ⟨⟨0, ups_s⟩, ⟨_, (ups_n hne.symm).trans ((ups_n hne.symm).trans hE), fun i hi => absurd hi (Nat.not_lt_zero i)⟩, Nat.le_refl 0, fun _ => rfl, fun q => absurd q (by decide)⟩, rfl, fun x hx => (ups_n hx).trans (ups_n hx)⟩
theorem d_AL_size_0 : dn m_AL_size.2.1 0 (.aload_n 0) 1 1 := ⟨by decide +kernel, rfl⟩
theorem d_AL_size_1 : dn m_AL_size.2.1 1 (.getfield 48) 3 4 := ⟨by decide +kernel, rfl⟩
theorem d_AL_size_4 : dn m_AL_size.2.1 4 (.ireturn) 1 5 := ⟨by decide +kernel, rfl⟩
theorem sp_AL_size {l : Launch} {K : KC} {M : AH} {a e cap : Nat} {els : List Nat} (hL : isL K M a e cap els) : Sp l K m_AL_size 0 0 0 [.ref a] M (fun r M' => r = some (iv els.length) ∧ M' = M) := by
  refine Sp.ofG R_AL rfl (by decide) [some (.ref a)] rfl (Nat.le_of_ble_eq_true rfl) ?_
  intro X hl hK hN hR hC hQ
  subst hl hK
  obtain ⟨⟨mc, h1⟩, _⟩ := hL
  refine g_aload_n hC rfl d_AL_size_0 ?_
  refine g_get hC fb_AL_48 h1 rfl d_AL_size_1 ?_
  refine g_iret hC hQ (by decide) (by decide) d_AL_size_4 ⟨rfl, rfl⟩
theorem d_AL_isEmpty_0 : dn m_AL_isEmpty.2.1 0 (.aload_n 0) 1 1 := ⟨by decide +kernel, rfl⟩
theorem d_AL_isEmpty_1 : dn m_AL_isEmpty.2.1 1 (.getfield 48) 3 4 := ⟨by decide +kernel, rfl⟩
theorem d_AL_isEmpty_4 : db m_AL_isEmpty.2.1 4 (.ifCond .ne) 11 7 := ⟨7, by decide +kernel, by decide, rfl⟩
theorem d_AL_isEmpty_7 : dn m_AL_isEmpty.2.1 7 (.iconst 1) 1 8 := ⟨by decide +kernel, rfl⟩
theorem d_AL_isEmpty_8 : db m_AL_isEmpty.2.1 8 (.goto) 12 11 := ⟨4, by decide +kernel, by decide, rfl⟩
theorem d_AL_isEmpty_11 : dn m_AL_isEmpty.2.1 11 (.iconst 0) 1 12 := ⟨by decide +kernel, rfl⟩
theorem d_AL_isEmpty_12 : dn m_AL_isEmpty.2.1 12 (.ireturn) 1 13 := ⟨by decide +kernel, rfl⟩
theorem sp_AL_isEmpty {l : Launch} {K : KC} {M : AH} {a e cap : Nat} {els : List Nat} (hL : isL K M a e cap els) (hcap : cap ≤ 1000) : Sp l K m_AL_isEmpty 0 0 0 [.ref a] M (fun r M' => r = some (iv (if els.length = 0 then 1 else 0)) ∧ M' = M) := by
  refine Sp.ofG R_AL rfl (by decide) [some (.ref a)] rfl (Nat.le_of_ble_eq_true rfl) ?_
  intro X hl hK hN hR hC hQ
  subst hl hK
  obtain ⟨⟨mc, h1⟩, _, hle, _⟩ := hL
  refine g_aload_n hC rfl d_AL_isEmpty_0 ?_
  refine g_get hC fb_AL_48 h1 rfl d_AL_isEmpty_1 ?_
  refine g_if_ne hC (by unfold I32; omega) d_AL_isEmpty_4 (fun c => ?_) (fun c => ?_)
  · refine g_iconst hC d_AL_isEmpty_11 ?_
    refine g_zret hC hQ (by decide) (by decide) (by omega) d_AL_isEmpty_12 ⟨by rw [if_neg (by omega)], rfl⟩
  · refine g_iconst hC d_AL_isEmpty_7 ?_
    refine g_goto hC d_AL_isEmpty_8 ?_
    refine g_zret hC hQ (by decide) (by decide) (by omega) d_AL_isEmpty_12 ⟨by rw [if_pos (by omega)], rfl⟩
theorem d_Prec_checkIndex_0 : dn m_Prec_checkIndex.2.1 0 (.iload_n 0) 1 1 := ⟨by decide +kernel, rfl⟩
theorem d_Prec_checkIndex_1 : db m_Prec_checkIndex.2.1 1 (.ifCond .lt) 9 4 := ⟨8, by decide +kernel, by decide, rfl⟩
theorem d_Prec_checkIndex_4 : dn m_Prec_checkIndex.2.1 4 (.iload_n 0) 1 5 := ⟨by decide +kernel, rfl⟩
theorem d_Prec_checkIndex_5 : dn m_Prec_checkIndex.2.1 5 (.iload_n 1) 1 6 := ⟨by decide +kernel, rfl⟩
theorem d_Prec_checkIndex_6 : db m_Prec_checkIndex.2.1 6 (.if_icmp .lt) 16 9 := ⟨10, by decide +kernel, by decide, rfl⟩
theorem d_Prec_checkIndex_9 : dn m_Prec_checkIndex.2.1 9 (.aload_n 2) 1 10 := ⟨by decide +kernel, rfl⟩
theorem d_Prec_checkIndex_10 : dn m_Prec_checkIndex.2.1 10 (.iload_n 0) 1 11 := ⟨by decide +kernel, rfl⟩
theorem d_Prec_checkIndex_11 : dn m_Prec_checkIndex.2.1 11 (.iload_n 1) 1 12 := ⟨by decide +kernel, rfl⟩
theorem d_Prec_checkIndex_12 : dn m_Prec_checkIndex.2.1 12 (.invokestatic 95) 3 15 := ⟨by decide +kernel, rfl⟩
theorem d_Prec_checkIndex_15 : dn m_Prec_checkIndex.2.1 15 (.athrow) 1 16 := ⟨by decide +kernel, rfl⟩
theorem d_Prec_checkIndex_16 : dn m_Prec_checkIndex.2.1 16 (.iload_n 0) 1 17 := ⟨by decide +kernel, rfl⟩
theorem d_Prec_checkIndex_17 : dn m_Prec_checkIndex.2.1 17 (.ireturn) 1 18 := ⟨by decide +kernel, rfl⟩
theorem sp_Prec_checkIndex {l : Launch} {K : KC} {M : AH} {i n : Int} (h0 : 0 ≤ i) (h1 : i < n) (hn : I32 n) : Sp l K m_Prec_checkIndex 0 0 0 [iv i, iv n, .null] M (fun r M' => r = some (iv i) ∧ M' = M) := by
  refine Sp.ofG R_Prec rfl (by decide) [some (iv i), some (iv n), some .null] rfl (Nat.le_of_ble_eq_true rfl) ?_
  intro X hl hK hN hR hC hQ
  subst hl hK
  have hn2 := hn.2
  refine g_iload_n hC rfl d_Prec_checkIndex_0 ?_
  refine g_if_lt hC (by unfold I32; omega) d_Prec_checkIndex_1 (fun c => ?_) (fun c => ?_)
  · omega
  · refine g_iload_n hC rfl d_Prec_checkIndex_4 ?_
    refine g_iload_n hC rfl d_Prec_checkIndex_5 ?_
    refine g_icmp_lt hC (by unfold I32; omega) hn d_Prec_checkIndex_6 (fun c => ?_) (fun c => ?_)
    · refine g_iload_n hC rfl d_Prec_checkIndex_16 ?_
      refine g_iret hC hQ (by decide) (by decide) d_Prec_checkIndex_17 ⟨rfl, rfl⟩
    · omega
theorem d_Objs_checkIndex_0 : dn m_Objs_checkIndex.2.1 0 (.iload_n 0) 1 1 := ⟨by decide +kernel, rfl⟩
theorem d_Objs_checkIndex_1 : dn m_Objs_checkIndex.2.1 1 (.iload_n 1) 1 2 := ⟨by decide +kernel, rfl⟩
theorem d_Objs_checkIndex_2 : dn m_Objs_checkIndex.2.1 2 (.aconst_null) 1 3 := ⟨by decide +kernel, rfl⟩
theorem d_Objs_checkIndex_3 : dn m_Objs_checkIndex.2.1 3 (.invokestatic 105) 3 6 := ⟨by decide +kernel, rfl⟩
theorem d_Objs_checkIndex_6 : dn m_Objs_checkIndex.2.1 6 (.ireturn) 1 7 := ⟨by decide +kernel, rfl⟩
theorem sp_Objs_checkIndex {l : Launch} {K : KC} {M : AH} {i n : Int} (h0 : 0 ≤ i) (h1 : i < n) (hn : I32 n) : Sp l K m_Objs_checkIndex 1 0 0 [iv i, iv n] M (fun r M' => r = some (iv i) ∧ M' = M) := by
  refine Sp.ofG R_Objs rfl (by decide) [some (iv i), some (iv n)] rfl (Nat.le_of_ble_eq_true rfl) ?_
  intro X hl hK hN hR hC hQ
  subst hl hK
  refine g_iload_n hC rfl d_Objs_checkIndex_0 ?_
  refine g_iload_n hC rfl d_Objs_checkIndex_1 ?_
  refine g_null hC d_Objs_checkIndex_2 ?_
  refine g_callS3 hC (sp_Prec_checkIndex h0 h1 hn) oc_Prec_checkIndex os_Prec_checkIndex ml_Objs_105 hR (Nat.le_of_ble_eq_true rfl) (Nat.le_of_ble_eq_true rfl) (Nat.le_of_ble_eq_true rfl) (Nat.le_of_ble_eq_true rfl) (Nat.le_of_ble_eq_true rfl) d_Objs_checkIndex_3 (fun r M hp => ?_)
  obtain ⟨rfl, rfl⟩ := hp
  refine g_sv ?_
  refine g_iret hC hQ (by decide) (by decide) d_Objs_checkIndex_6 ⟨rfl, rfl⟩
theorem d_AL_elementData_0 : dn m_AL_elementData.2.1 0 (.aload_n 0) 1 1 := ⟨by decide +kernel, rfl⟩
theorem d_AL_elementData_1 : dn m_AL_elementData.2.1 1 (.getfield 9) 3 4 := ⟨by decide +kernel, rfl⟩
theorem d_AL_elementData_4 : dn m_AL_elementData.2.1 4 (.iload_n 1) 1 5 := ⟨by decide +kernel, rfl⟩
theorem d_AL_elementData_5 : dn m_AL_elementData.2.1 5 (.aaload) 1 6 := ⟨by decide +kernel, rfl⟩
theorem d_AL_elementData_6 : dn m_AL_elementData.2.1 6 (.areturn) 1 7 := ⟨by decide +kernel, rfl⟩
theorem sp_AL_elementData {l : Launch} {K : KC} {M : AH} {a e cap i q : Nat} {els : List Nat} (hL : isL K M a e cap els) (hcap : cap ≤ 1000) (hi : els[i]? = some q) : Sp l K m_AL_elementData 0 0 0 [.ref a, iv i] M (fun r M' => r = some (.ref q) ∧ M' = M) := by
  refine Sp.ofG R_AL rfl (by decide) [some (.ref a), some (iv i)] rfl (Nat.le_of_ble_eq_true rfl) ?_
  intro X hl hK hN hR hC hQ
  subst hl hK
  obtain ⟨⟨mc, h1⟩, ⟨g, h2, h3⟩, h4, _⟩ := hL
  have hil : i < els.length := (List.getElem?_eq_some_iff.mp hi).1
  have hg : g (i : Int).toNat = some q := by rw [Int.toNat_natCast, h3 i (by omega), hi]
  refine g_aload_n hC rfl d_AL_elementData_0 ?_
  refine g_get hC fb_AL_9 h1 rfl d_AL_elementData_1 ?_
  refine g_iload_n hC rfl d_AL_elementData_4 ?_
  refine g_aald hC h2 (by omega) (by omega) (by omega) hg d_AL_elementData_5 ?_
  refine g_aret hC (Or.inl ⟨_, rfl⟩) hQ (by decide) (by decide) d_AL_elementData_6 ⟨rfl, rfl⟩
theorem d_AL_get_0 : dn m_AL_get.2.1 0 (.iload_n 1) 1 1 := ⟨by decide +kernel, rfl⟩
theorem d_AL_get_1 : dn m_AL_get.2.1 1 (.aload_n 0) 1 2 := ⟨by decide +kernel, rfl⟩
theorem d_AL_get_2 : dn m_AL_get.2.1 2 (.getfield 48) 3 5 := ⟨by decide +kernel, rfl⟩
theorem d_AL_get_5 : dn m_AL_get.2.1 5 (.invokestatic 118) 3 8 := ⟨by decide +kernel, rfl⟩
theorem d_AL_get_8 : dn m_AL_get.2.1 8 (.pop) 1 9 := ⟨by decide +kernel, rfl⟩
theorem d_AL_get_9 : dn m_AL_get.2.1 9 (.aload_n 0) 1 10 := ⟨by decide +kernel, rfl⟩
theorem d_AL_get_10 : dn m_AL_get.2.1 10 (.iload_n 1) 1 11 := ⟨by decide +kernel, rfl⟩
theorem d_AL_get_11 : dn m_AL_get.2.1 11 (.invokevirtual 123) 3 14 := ⟨by decide +kernel, rfl⟩
theorem d_AL_get_14 : dn m_AL_get.2.1 14 (.areturn) 1 15 := ⟨by decide +kernel, rfl⟩
theorem sp_AL_get {l : Launch} {K : KC} {M : AH} {a e cap i q : Nat} {els : List Nat} (hL : isL K M a e cap els) (hcap : cap ≤ 1000) (hi : els[i]? = some q) : Sp l K m_AL_get 2 0 0 [.ref a, iv i] M (fun r M' => r = some (.ref q) ∧ M' = M) := by
  refine Sp.ofG R_AL rfl (by decide) [some (.ref a), some (iv i)] rfl (Nat.le_of_ble_eq_true rfl) ?_
  intro X hl hK hN hR hC hQ
  subst hl hK
  have hL' := hL
  obtain ⟨⟨mc, h1⟩, ⟨g, h2, h3⟩, h4, _⟩ := hL
  have hil : i < els.length := (List.getElem?_eq_some_iff.mp hi).1
  refine g_iload_n hC rfl d_AL_get_0 ?_
  refine g_aload_n hC rfl d_AL_get_1 ?_
  refine g_get hC fb_AL_48 h1 rfl d_AL_get_2 ?_
  refine g_callS2 hC (sp_Objs_checkIndex (by omega) (by omega) (by unfold I32; omega)) oc_Objs_checkIndex os_Objs_checkIndex ml_AL_118 hR (Nat.le_of_ble_eq_true rfl) (Nat.le_of_ble_eq_true rfl) (Nat.le_of_ble_eq_true rfl) (Nat.le_of_ble_eq_true rfl) (Nat.le_of_ble_eq_true rfl) d_AL_get_5 (fun r M hp => ?_)
  obtain ⟨rfl, rfl⟩ := hp
  refine g_sv ?_
  refine g_pop hC rfl d_AL_get_8 ?_
  refine g_aload_n hC rfl d_AL_get_9 ?_
  refine g_iload_n hC rfl d_AL_get_10 ?_
  refine g_callV1 hC (sp_AL_elementData hL' hcap hi) oc_AL_elementData ov_AL_elementData ml_AL_123 h1 rfl hR (Nat.le_of_ble_eq_true rfl) (Nat.le_of_ble_eq_true rfl) (Nat.le_of_ble_eq_true rfl) (Nat.le_of_ble_eq_true rfl) (Nat.le_of_ble_eq_true rfl) d_AL_get_11 (fun r M hp => ?_)
  obtain ⟨rfl, rfl⟩ := hp
  refine g_sv ?_
  refine g_aret hC (Or.inl ⟨_, rfl⟩) hQ (by decide) (by decide) d_AL_get_14 ⟨rfl, rfl⟩
