/-! Row; Comp: rowOf, row, clear -/
theorem dv_AL : ∀ j, j < 3 → defaultValue (t_AL j) = vp_V [.null, iv 0, iv 0] j := fun j hj => by
  rcases (show j = 0 ∨ j = 1 ∨ j = 2 by omega) with rfl | rfl | rfl
  · rfl
  · decide
  · decide
theorem dv_Row : ∀ j, j < 2 → defaultValue (t_Row j) = vp_V [.null, .null] j := fun j hj => by
  rcases (show j = 0 ∨ j = 1 by omega) with rfl | rfl
  · rfl
  · rfl
theorem d_Row_init_0 : dn m_Row_init.2.1 0 (.aload_n 0) 1 1 := ⟨by decide +kernel, rfl⟩
theorem d_Row_init_1 : dn m_Row_init.2.1 1 (.invokespecial 1) 3 4 := ⟨by decide +kernel, rfl⟩
theorem d_Row_init_4 : dn m_Row_init.2.1 4 (.aload_n 0) 1 5 := ⟨by decide +kernel, rfl⟩
theorem d_Row_init_5 : dn m_Row_init.2.1 5 (.new 7) 3 8 := ⟨by decide +kernel, rfl⟩
theorem d_Row_init_8 : dn m_Row_init.2.1 8 (.dup) 1 9 := ⟨by decide +kernel, rfl⟩
theorem d_Row_init_9 : dn m_Row_init.2.1 9 (.invokespecial 9) 3 12 := ⟨by decide +kernel, rfl⟩
theorem d_Row_init_12 : dn m_Row_init.2.1 12 (.putfield 10) 3 15 := ⟨by decide +kernel, rfl⟩
theorem d_Row_init_15 : dn m_Row_init.2.1 15 (.aload_n 0) 1 16 := ⟨by decide +kernel, rfl⟩
theorem d_Row_init_16 : dn m_Row_init.2.1 16 (.new 7) 3 19 := ⟨by decide +kernel, rfl⟩
theorem d_Row_init_19 : dn m_Row_init.2.1 19 (.dup) 1 20 := ⟨by decide +kernel, rfl⟩
theorem d_Row_init_20 : dn m_Row_init.2.1 20 (.invokespecial 9) 3 23 := ⟨by decide +kernel, rfl⟩
theorem d_Row_init_23 : dn m_Row_init.2.1 23 (.putfield 16) 3 26 := ⟨by decide +kernel, rfl⟩
theorem d_Row_init_26 : dn m_Row_init.2.1 26 (.return_) 1 27 := ⟨by decide +kernel, rfl⟩
theorem sp_Row_init {l : Launch} {K : KC} {M : AH} {r : Nat} (h0 : M.1 r = some (oO 3 [.null, .null])) (z0 : M.2 = r + 1) (hE : M.1 (kE K) = some (oR K 0 (fun _ => none))) :
    Sp l K m_Row_init 4 2 6 [.ref r] M (fun v M' => v = none ∧ M'.1 r = some (oO 3 [.ref (r + 1), .ref (r + 2)]) ∧ isL K M' (r + 1) (kE K) 0 [] ∧ isL K M' (r + 2) (kE K) 0 [] ∧ M'.2 = r + 3 ∧ ∀ x, x < r → M'.1 x = M.1 x) := by
  refine Sp.ofG R_Row rfl (by decide) [some (.ref r)] rfl (Nat.le_of_ble_eq_true rfl) ?_
  intro X hl hK hN hR hC hQ
  subst hl hK
  refine g_hlt (fun hlt => ?_)
  have hEr := neR h0 hE
  have hEl := hlt _ _ hE
  refine g_aload_n hC rfl d_Row_init_0 ?_
  refine g_objInit hC ml_Row_1 (by rw [hR]; exact Nat.le_of_ble_eq_true rfl) (by rw [hR]; exact Nat.le_of_ble_eq_true rfl) d_Row_init_1 ?_
  refine g_aload_n hC rfl d_Row_init_4 ?_
  refine g_new hC ck_AL cl_Row_7 in_AL ii_AL dv_AL (by rw [hR]; exact Nat.le_of_ble_eq_true rfl) (by rw [hR]; exact Nat.le_of_ble_eq_true rfl) d_Row_init_5 ?_
  rw [z0]
  have a1 : (nws M (oO 6 [.null, iv 0, iv 0])).1 (r + 1) = some (oO 6 [.null, iv 0, iv 0]) := by rw [← z0]; exact nws_s
  refine g_dup hC rfl d_Row_init_8 ?_
  refine g_callI0 hC (sp_AL_init a1 ((nws_n (by omega)).trans hE)) oc_AL_init oi_AL_init rfl ml_Row_9 hR (Nat.le_of_ble_eq_true rfl) (Nat.le_of_ble_eq_true rfl) (Nat.le_of_ble_eq_true rfl) (Nat.le_of_ble_eq_true rfl) (Nat.le_of_ble_eq_true rfl) d_Row_init_9 (fun r N1 hp => ?_)
  obtain ⟨rfl, b1, y1, c1⟩ := hp
  refine g_s0 ?_
  have g1 : N1.1 r = some (oO 3 [.null, .null]) := (c1 r (by omega)).trans ((nws_n (by omega)).trans h0)
  refine g_putF hC fb_Row_10 rfl g1 rfl rfl (Nat.le_of_ble_eq_true rfl) d_Row_init_12 ?_
  show G X _ _ (ups N1 r (oO 3 [.ref (r + 1), .null])) 15 _ _
  obtain ⟨M1, hM1⟩ : ∃ M1, M1 = ups N1 r (oO 3 [.ref (r + 1), .null]) := ⟨_, rfl⟩
  rw [← hM1]
  have z1 : M1.2 = r + 2 := by rw [hM1]; show N1.2 = _; rw [y1, nws_2, z0]
  have h1 : M1.1 r = some (oO 3 [.ref (r + 1), .null]) := by rw [hM1]; exact ups_s
  have u1 : ∀ x, x ≠ r → M1.1 x = N1.1 x := fun x hx => by rw [hM1]; exact ups_n hx
  have hE1 : M1.1 (kE X.K) = some (oR X.K 0 (fun _ => none)) := (u1 _ hEr.symm).trans ((c1 _ (by omega)).trans ((nws_n (by omega)).trans hE))
  have l1 : isL X.K M1 (r + 1) (kE X.K) 0 [] := b1.eq (u1 _ (by omega)) (u1 _ hEr.symm)
  have e1 : ∀ x, x < r → M1.1 x = M.1 x := fun x hx => (u1 x (by omega)).trans ((c1 x (by omega)).trans (nws_n (by omega)))
  clear hM1 u1 c1 b1 g1 a1
  refine g_aload_n hC rfl d_Row_init_15 ?_
  refine g_new hC ck_AL cl_Row_7 in_AL ii_AL dv_AL (by rw [hR]; exact Nat.le_of_ble_eq_true rfl) (by rw [hR]; exact Nat.le_of_ble_eq_true rfl) d_Row_init_16 ?_
  rw [z1]
  have a2 : (nws M1 (oO 6 [.null, iv 0, iv 0])).1 (r + 2) = some (oO 6 [.null, iv 0, iv 0]) := by rw [← z1]; exact nws_s
  refine g_dup hC rfl d_Row_init_19 ?_
  refine g_callI0 hC (sp_AL_init a2 ((nws_n (by omega)).trans hE1)) oc_AL_init oi_AL_init rfl ml_Row_9 hR (Nat.le_of_ble_eq_true rfl) (Nat.le_of_ble_eq_true rfl) (Nat.le_of_ble_eq_true rfl) (Nat.le_of_ble_eq_true rfl) (Nat.le_of_ble_eq_true rfl) d_Row_init_20 (fun r N2 hp => ?_)
  obtain ⟨rfl, b2, y2, c2⟩ := hp
  refine g_s0 ?_
  have g2 : N2.1 r = some (oO 3 [.ref (r + 1), .null]) := (c2 r (by omega)).trans ((nws_n (by omega)).trans h1)
  refine g_putF hC fb_Row_16 rfl g2 rfl rfl (Nat.le_of_ble_eq_true rfl) d_Row_init_23 ?_
  refine g_vret hC hQ (by decide) (by decide) d_Row_init_26 ⟨rfl, ups_s, l1.eq ?_ ?_, b2.eq (ups_n (by omega)) (ups_n hEr.symm), ?_, fun x hx => ?_⟩
  · rw [ups_n (by omega), c2 _ (by omega), nws_n (by omega)]
  · rw [ups_n hEr.symm, c2 _ (by omega), nws_n (by omega)]
  · show N2.2 = _; rw [y2, nws_2, z1]
  · rw [ups_n (by omega), c2 x (by omega), nws_n (by omega), e1 x hx]
theorem d_Row_size_0 : dn m_Row_size.2.1 0 (.aload_n 0) 1 1 := ⟨by decide +kernel, rfl⟩
theorem d_Row_size_1 : dn m_Row_size.2.1 1 (.getfield 10) 3 4 := ⟨by decide +kernel, rfl⟩
theorem d_Row_size_4 : dn m_Row_size.2.1 4 (.invokevirtual 19) 3 7 := ⟨by decide +kernel, rfl⟩
theorem d_Row_size_7 : dn m_Row_size.2.1 7 (.ireturn) 1 8 := ⟨by decide +kernel, rfl⟩
theorem sp_Row_size {l : Launch} {K : KC} {M : AH} {c r : Nat} {vs : List Nat} {cs : List (Nat × Nat)} (h : rowok K M c vs r cs) : Sp l K m_Row_size 1 0 0 [.ref r] M (fun v M' => v = some (iv cs.length) ∧ M' = M) := by
  refine Sp.ofG R_Row rfl (by decide) [some (.ref r)] rfl (Nat.le_of_ble_eq_true rfl) ?_
  intro X hl hK hN hR hC hQ
  subst hl hK
  obtain ⟨h1, ⟨e, cap, q1, q2, q3⟩, _⟩ := h
  refine g_aload_n hC rfl d_Row_size_0 ?_
  refine g_get hC fb_Row_10 h1 rfl d_Row_size_1 ?_
  refine g_callV0 hC (sp_AL_size q3) oc_AL_size ov_AL_size ml_Row_19 q3.1.choose_spec rfl hR (Nat.le_of_ble_eq_true rfl) (Nat.le_of_ble_eq_true rfl) (Nat.le_of_ble_eq_true rfl) (Nat.le_of_ble_eq_true rfl) (Nat.le_of_ble_eq_true rfl) d_Row_size_4 (fun r M hp => ?_)
  obtain ⟨rfl, rfl⟩ := hp
  refine g_sv ?_
  rw [List.length_map]
  refine g_iret hC hQ (by decide) (by decide) d_Row_size_7 ⟨rfl, rfl⟩
theorem d_Row_lastPlace_0 : dn m_Row_lastPlace.2.1 0 (.aload_n 0) 1 1 := ⟨by decide +kernel, rfl⟩
theorem d_Row_lastPlace_1 : dn m_Row_lastPlace.2.1 1 (.getfield 10) 3 4 := ⟨by decide +kernel, rfl⟩
theorem d_Row_lastPlace_4 : dn m_Row_lastPlace.2.1 4 (.aload_n 0) 1 5 := ⟨by decide +kernel, rfl⟩
theorem d_Row_lastPlace_5 : dn m_Row_lastPlace.2.1 5 (.invokevirtual 23) 3 8 := ⟨by decide +kernel, rfl⟩
theorem d_Row_lastPlace_8 : dn m_Row_lastPlace.2.1 8 (.iconst 1) 1 9 := ⟨by decide +kernel, rfl⟩
theorem d_Row_lastPlace_9 : dn m_Row_lastPlace.2.1 9 (.isub) 1 10 := ⟨by decide +kernel, rfl⟩
theorem d_Row_lastPlace_10 : dn m_Row_lastPlace.2.1 10 (.invokevirtual 24) 3 13 := ⟨by decide +kernel, rfl⟩
theorem d_Row_lastPlace_13 : dn m_Row_lastPlace.2.1 13 (.checkcast 28) 3 16 := ⟨by decide +kernel, rfl⟩
theorem d_Row_lastPlace_16 : dn m_Row_lastPlace.2.1 16 (.areturn) 1 17 := ⟨by decide +kernel, rfl⟩
theorem sp_Row_lastPlace {l : Launch} {K : KC} {M : AH} {c r p : Nat} {vs : List Nat} {cs : List (Nat × Nat)} (h : rowok K M c vs r cs) (h0 : 0 < cs.length) (hp0 : (cs.map fun ij => vs.getD ij.1 0)[cs.length - 1]? = some p) {fs : List Value} (hf : M.1 p = some (oO 1 fs)) : Sp l K m_Row_lastPlace 3 0 0 [.ref r] M (fun v M' => v = some (.ref p) ∧ M' = M) := by
  refine Sp.ofG R_Row rfl (by decide) [some (.ref r)] rfl (Nat.le_of_ble_eq_true rfl) ?_
  intro X hl hK hN hR hC hQ
  subst hl hK
  have hr := h
  obtain ⟨h1, ⟨e, cap, q1, q2, q3⟩, _⟩ := h
  refine g_aload_n hC rfl d_Row_lastPlace_0 ?_
  refine g_get hC fb_Row_10 h1 rfl d_Row_lastPlace_1 ?_
  refine g_aload_n hC rfl d_Row_lastPlace_4 ?_
  refine g_callV0 hC (sp_Row_size hr) oc_Row_size ov_Row_size ml_Row_23 h1 rfl hR (Nat.le_of_ble_eq_true rfl) (Nat.le_of_ble_eq_true rfl) (Nat.le_of_ble_eq_true rfl) (Nat.le_of_ble_eq_true rfl) (Nat.le_of_ble_eq_true rfl) d_Row_lastPlace_5 (fun r M hp => ?_)
  obtain ⟨rfl, rfl⟩ := hp
  refine g_sv ?_
  refine g_iconst hC d_Row_lastPlace_8 ?_
  refine g_isub hC d_Row_lastPlace_9 ?_
  rw [show (cs.length : Int) - 1 = ((cs.length - 1 : Nat) : Int) by omega]
  refine g_callV1 hC (sp_AL_get q3 (by omega) hp0) oc_AL_get ov_AL_get ml_Row_24 q3.1.choose_spec rfl hR (Nat.le_of_ble_eq_true rfl) (Nat.le_of_ble_eq_true rfl) (Nat.le_of_ble_eq_true rfl) (Nat.le_of_ble_eq_true rfl) (Nat.le_of_ble_eq_true rfl) d_Row_lastPlace_10 (fun r M hp => ?_)
  obtain ⟨rfl, rfl⟩ := hp
  refine g_sv ?_
  refine g_castY hC ck_Frac cl_Row_28 hf d_Row_lastPlace_13 ?_
  refine g_aret hC (Or.inl ⟨_, rfl⟩) hQ (by decide) (by decide) d_Row_lastPlace_16 ⟨rfl, rfl⟩
section CRs
variable {l : Launch} {K : KC} {M : AH} {c : Nat} {xs : List (Rat × Int)} {ws : List (List (Nat × Nat))} {wl : List Int}
theorem CI.rlen {vs ss rs : List Nat} (h : CI K M c vs ss rs xs ws wl) : rs.length = ws.length := h.2.2.2.2.2.1.1
theorem CI.rg {vs ss rs : List Nat} (h : CI K M c vs ss rs xs ws wl) {k : Nat} {cs : List (Nat × Nat)} (hk : ws[k]? = some cs) : ∃ r, rs[k]? = some r ∧ rowok K M c vs r cs ∧ c + 24 ≤ r := by
  have hi : k < rs.length := by rw [h.rlen]; exact (List.getElem?_eq_some_iff.mp hk).1
  have hr : rs[k]? = some rs[k] := List.getElem?_eq_getElem hi
  exact ⟨rs[k], hr, h.2.2.2.2.2.1.2 k _ cs hr hk, h.2.2.2.2.2.2.1.2.2.2.2 _ (List.mem_of_getElem? hr)⟩
theorem d_Comp_rowOf_0 : dn m_Comp_rowOf.2.1 0 (.iload_n 1) 1 1 := ⟨by decide +kernel, rfl⟩
theorem d_Comp_rowOf_1 : dn m_Comp_rowOf.2.1 1 (.aload_n 0) 1 2 := ⟨by decide +kernel, rfl⟩
theorem d_Comp_rowOf_2 : dn m_Comp_rowOf.2.1 2 (.getfield 19) 3 5 := ⟨by decide +kernel, rfl⟩
theorem d_Comp_rowOf_5 : dn m_Comp_rowOf.2.1 5 (.invokevirtual 39) 3 8 := ⟨by decide +kernel, rfl⟩
theorem d_Comp_rowOf_8 : dn m_Comp_rowOf.2.1 8 (.invokestatic 43) 3 11 := ⟨by decide +kernel, rfl⟩
theorem d_Comp_rowOf_11 : dn m_Comp_rowOf.2.1 11 (.aload_n 0) 1 12 := ⟨by decide +kernel, rfl⟩
theorem d_Comp_rowOf_12 : dn m_Comp_rowOf.2.1 12 (.getfield 19) 3 15 := ⟨by decide +kernel, rfl⟩
theorem d_Comp_rowOf_15 : dn m_Comp_rowOf.2.1 15 (.iload_n 1) 1 16 := ⟨by decide +kernel, rfl⟩
theorem d_Comp_rowOf_16 : dn m_Comp_rowOf.2.1 16 (.invokevirtual 47) 3 19 := ⟨by decide +kernel, rfl⟩
theorem d_Comp_rowOf_19 : dn m_Comp_rowOf.2.1 19 (.checkcast 167) 3 22 := ⟨by decide +kernel, rfl⟩
theorem d_Comp_rowOf_22 : dn m_Comp_rowOf.2.1 22 (.areturn) 1 23 := ⟨by decide +kernel, rfl⟩
theorem sp_Comp_rowOf {vs ss rs : List Nat} (h : CI K M c vs ss rs xs ws wl) {i p : Nat} (hi : rs[i]? = some p) {fs : List Value} (hp : M.1 p = some (oO 3 fs)) :
    Sp l K m_Comp_rowOf 3 0 0 [.ref c, iv i] M (fun r M' => r = some (.ref p) ∧ M' = M) := by
  refine Sp.ofG R_Comp rfl (by decide) [some (.ref c), some (iv i)] rfl (Nat.le_of_ble_eq_true rfl) ?_
  intro X hl hK hN hR hC hQ
  subst hl hK
  obtain ⟨e, cap, q1, q2, q3⟩ := h.r
  have hil : i < rs.length := (List.getElem?_eq_some_iff.mp hi).1
  have hle := q3.2.2.1
  refine g_iload_n hC rfl d_Comp_rowOf_0 ?_
  refine g_aload_n hC rfl d_Comp_rowOf_1 ?_
  refine g_get hC fb_Comp_19 h.o rfl d_Comp_rowOf_2 ?_
  refine g_callV0 hC (sp_AL_size q3) oc_AL_size ov_AL_size ml_Comp_39 q3.1.choose_spec rfl hR (Nat.le_of_ble_eq_true rfl) (Nat.le_of_ble_eq_true rfl) (Nat.le_of_ble_eq_true rfl) (Nat.le_of_ble_eq_true rfl) (Nat.le_of_ble_eq_true rfl) d_Comp_rowOf_5 (fun r M hq => ?_)
  obtain ⟨rfl, rfl⟩ := hq
  refine g_sv ?_
  refine g_callS2 hC (sp_Comp_there (by omega) (by omega) (by unfold I32; omega)) oc_Comp_there os_Comp_there ml_Comp_43 hR (Nat.le_of_ble_eq_true rfl) (Nat.le_of_ble_eq_true rfl) (Nat.le_of_ble_eq_true rfl) (Nat.le_of_ble_eq_true rfl) (Nat.le_of_ble_eq_true rfl) d_Comp_rowOf_8 (fun r M hq => ?_)
  obtain ⟨rfl, rfl⟩ := hq
  refine g_s0 ?_
  refine g_aload_n hC rfl d_Comp_rowOf_11 ?_
  refine g_get hC fb_Comp_19 h.o rfl d_Comp_rowOf_12 ?_
  refine g_iload_n hC rfl d_Comp_rowOf_15 ?_
  refine g_callV1 hC (sp_AL_get q3 (by omega) hi) oc_AL_get ov_AL_get ml_Comp_47 q3.1.choose_spec rfl hR (Nat.le_of_ble_eq_true rfl) (Nat.le_of_ble_eq_true rfl) (Nat.le_of_ble_eq_true rfl) (Nat.le_of_ble_eq_true rfl) (Nat.le_of_ble_eq_true rfl) d_Comp_rowOf_16 (fun r M hq => ?_)
  obtain ⟨rfl, rfl⟩ := hq
  refine g_sv ?_
  refine g_castY hC ck_Row cl_Comp_167 hp d_Comp_rowOf_19 ?_
  refine g_aret hC (Or.inl ⟨_, rfl⟩) hQ (by decide) (by decide) d_Comp_rowOf_22 ⟨rfl, rfl⟩
theorem st_Comp_rowOf {vs ss rs : List Nat} (htr : l.stackTraces = false) (h : CI K M c vs ss rs xs ws wl) {i : Int} (hi : I32 i) (ho : i < 0 ∨ (ws.length : Int) ≤ i) :
    St l K m_Comp_rowOf 7 1 6 [.ref c, iv i] M R_IoE := by
  refine St.ofG R_Comp rfl (by decide) [some (.ref c), some (iv i)] rfl (Nat.le_of_ble_eq_true rfl) ?_
  intro X hl hK hN hR hC hQ
  subst hl hK
  obtain ⟨e, cap, q1, q2, q3⟩ := h.r
  have hle := q3.2.2.1
  have hln := h.rlen
  refine g_iload_n hC rfl d_Comp_rowOf_0 ?_
  refine g_aload_n hC rfl d_Comp_rowOf_1 ?_
  refine g_get hC fb_Comp_19 h.o rfl d_Comp_rowOf_2 ?_
  refine g_callV0 hC (sp_AL_size q3) oc_AL_size ov_AL_size ml_Comp_39 q3.1.choose_spec rfl hR (Nat.le_of_ble_eq_true rfl) (Nat.le_of_ble_eq_true rfl) (Nat.le_of_ble_eq_true rfl) (Nat.le_of_ble_eq_true rfl) (Nat.le_of_ble_eq_true rfl) d_Comp_rowOf_5 (fun r M hq => ?_)
  obtain ⟨rfl, rfl⟩ := hq
  refine g_sv ?_
  exact g_callST hC hQ rfl (st_Comp_there htr hi (n := (rs.length : Int)) (by unfold I32; omega) (by omega)) oc_Comp_there os_Comp_there ml_Comp_43 rfl (st := []) rfl hR (by decide) (by decide) (by decide) (by decide) (by decide) d_Comp_rowOf_8
theorem d_Comp_row_0 : dn m_Comp_row.2.1 0 (.aload_n 0) 1 1 := ⟨by decide +kernel, rfl⟩
theorem d_Comp_row_1 : dn m_Comp_row.2.1 1 (.getfield 19) 3 4 := ⟨by decide +kernel, rfl⟩
theorem d_Comp_row_4 : dn m_Comp_row.2.1 4 (.invokevirtual 39) 3 7 := ⟨by decide +kernel, rfl⟩
theorem d_Comp_row_7 : dn m_Comp_row.2.1 7 (.bipush 8) 2 9 := ⟨by decide +kernel, rfl⟩
theorem d_Comp_row_9 : db m_Comp_row.2.1 9 (.if_icmp .ne) 15 12 := ⟨6, by decide +kernel, by decide, rfl⟩
theorem d_Comp_row_12 : dn m_Comp_row.2.1 12 (.bipush (-3)) 2 14 := ⟨by decide +kernel, rfl⟩
theorem d_Comp_row_14 : dn m_Comp_row.2.1 14 (.ireturn) 1 15 := ⟨by decide +kernel, rfl⟩
theorem d_Comp_row_15 : dn m_Comp_row.2.1 15 (.aload_n 0) 1 16 := ⟨by decide +kernel, rfl⟩
theorem d_Comp_row_16 : dn m_Comp_row.2.1 16 (.getfield 19) 3 19 := ⟨by decide +kernel, rfl⟩
theorem d_Comp_row_19 : dn m_Comp_row.2.1 19 (.new 167) 3 22 := ⟨by decide +kernel, rfl⟩
theorem d_Comp_row_22 : dn m_Comp_row.2.1 22 (.dup) 1 23 := ⟨by decide +kernel, rfl⟩
theorem d_Comp_row_23 : dn m_Comp_row.2.1 23 (.invokespecial 169) 3 26 := ⟨by decide +kernel, rfl⟩
theorem d_Comp_row_26 : dn m_Comp_row.2.1 26 (.invokevirtual 78) 3 29 := ⟨by decide +kernel, rfl⟩
theorem d_Comp_row_29 : dn m_Comp_row.2.1 29 (.pop) 1 30 := ⟨by decide +kernel, rfl⟩
theorem d_Comp_row_30 : dn m_Comp_row.2.1 30 (.aload_n 0) 1 31 := ⟨by decide +kernel, rfl⟩
theorem d_Comp_row_31 : dn m_Comp_row.2.1 31 (.getfield 19) 3 34 := ⟨by decide +kernel, rfl⟩
theorem d_Comp_row_34 : dn m_Comp_row.2.1 34 (.invokevirtual 39) 3 37 := ⟨by decide +kernel, rfl⟩
theorem d_Comp_row_37 : dn m_Comp_row.2.1 37 (.iconst 1) 1 38 := ⟨by decide +kernel, rfl⟩
theorem d_Comp_row_38 : dn m_Comp_row.2.1 38 (.isub) 1 39 := ⟨by decide +kernel, rfl⟩
theorem d_Comp_row_39 : dn m_Comp_row.2.1 39 (.ireturn) 1 40 := ⟨by decide +kernel, rfl⟩
theorem sp_Comp_row (hcx : CX K M c xs ws wl) (hms : MS xs ws wl) : Sp l K m_Comp_row 8 6 508 [.ref c] M (fun r M' => r = some (iv (if ws.length = 8 then -3 else ws.length)) ∧ CX K M' c xs (if ws.length = 8 then ws else ws ++ [[]]) wl) := by
  refine Sp.ofG R_Comp rfl (by decide) [some (.ref c)] rfl (Nat.le_of_ble_eq_true rfl) ?_
  intro X hl hK hN hR hC hQ
  subst hl hK
  refine g_hlt (fun hlt => ?_)
  obtain ⟨vs, ss, rs, h⟩ := hcx
  obtain ⟨e, cap, q1, q2, q3⟩ := h.r
  have hle := q3.2.2.1
  have hln := h.rlen
  have hwl := hms.2.1.1
  refine g_aload_n hC rfl d_Comp_row_0 ?_
  refine g_get hC fb_Comp_19 h.o rfl d_Comp_row_1 ?_
  refine g_callV0 hC (sp_AL_size q3) oc_AL_size ov_AL_size ml_Comp_39 q3.1.choose_spec rfl hR (Nat.le_of_ble_eq_true rfl) (Nat.le_of_ble_eq_true rfl) (Nat.le_of_ble_eq_true rfl) (Nat.le_of_ble_eq_true rfl) (Nat.le_of_ble_eq_true rfl) d_Comp_row_4 (fun r M hp => ?_)
  obtain ⟨rfl, rfl⟩ := hp
  refine g_sv ?_
  refine g_bipush hC (by decide) d_Comp_row_7 ?_
  refine g_icmp_ne hC (by unfold I32; omega) (by unfold I32; omega) d_Comp_row_9 (fun c1 => ?_) (fun c1 => ?_)
  · rw [if_neg (by omega), if_neg (by omega)] at hQ
    have hcm : c + 24 ≤ M.2 := by
      obtain ⟨mi, un, h1, ⟨_, _, w1⟩, ⟨_, _, w2⟩⟩ := h.hx
      have := hlt _ _ w2.2
      omega
    have hE := h.2.2.2.2.2.2.2.2.1
    have hEl := hlt _ _ hE
    refine g_aload_n hC rfl d_Comp_row_15 ?_
    refine g_get hC fb_Comp_19 h.o rfl d_Comp_row_16 ?_
    obtain ⟨z, hz⟩ : ∃ z, M.2 = z := ⟨_, rfl⟩
    refine g_new hC ck_Row cl_Comp_167 in_Row ii_Row dv_Row (by rw [hR]; exact Nat.le_of_ble_eq_true rfl) (by rw [hR]; exact Nat.le_of_ble_eq_true rfl) d_Comp_row_19 ?_
    rw [hz]
    have hp1 : (nws M (oO 3 [.null, .null])).1 z = some (oO 3 [.null, .null]) := by rw [← hz]; exact nws_s
    refine g_dup hC rfl d_Comp_row_22 ?_
    refine g_callIN0 hC (sp_Row_init hp1 (by rw [nws_2, hz]) ((nws_n (by omega)).trans hE)) oc_Row_init oi_Row_init rfl mn_Comp_169 hR (Nat.le_of_ble_eq_true rfl) (Nat.le_of_ble_eq_true rfl) (Nat.le_of_ble_eq_true rfl) (Nat.le_of_ble_eq_true rfl) (Nat.le_of_ble_eq_true rfl) d_Comp_row_23 (fun r M1 hp => ?_)
    obtain ⟨rfl, r1, l1, l2, z1, e1⟩ := hp
    refine g_s0 ?_
    refine g_hlt (fun hlt1 => ?_)
    have hold : ∀ x v, M.1 x = some v → M1.1 x = some v := fun x v hx => by
      have := hlt x v hx
      rw [e1 x (by omega), nws_n (by omega)]; exact hx
    have h1 := h.mono (M' := M1) hold
    obtain ⟨e, cap, q1, q2, q3⟩ := h1.r
    have hE1 := h1.2.2.2.2.2.2.2.2.1
    have hkE := hlt1 _ _ hE1
    have hrl : ∀ y ∈ rs, y < z ∧ c + 24 ≤ y ∧ ∃ fs, M1.1 y = some (oO 3 fs) := by
      intro y hy
      obtain ⟨k, hk⟩ := List.getElem?_of_mem hy
      have hkl : k < ws.length := by rw [← hln]; exact (List.getElem?_eq_some_iff.mp hk).1
      have hq := (h.2.2.2.2.2.1.2 k y _ hk (List.getElem?_eq_getElem hkl)).1
      have := hlt y _ hq
      exact ⟨by omega, h.2.2.2.2.2.2.1.2.2.2.2 y hy, _, hold _ _ hq⟩
    refine g_callV1 hC (sp_AL_add q3 (by omega) q1 ck_Row ca_Row_Obj (fun y hy => ⟨by have := (hrl y hy).2.1; omega, (hrl y hy).2.2⟩) hkE r1 (by omega)) oc_AL_add ov_AL_add ml_Comp_78 q3.1.choose_spec rfl hR (Nat.le_of_ble_eq_true rfl) (Nat.le_of_ble_eq_true rfl) (Nat.le_of_ble_eq_true rfl) (Nat.le_of_ble_eq_true rfl) (Nat.le_of_ble_eq_true rfl) d_Comp_row_26 (fun r M2 hp => ?_)
    obtain ⟨rfl, e', c2, w1, w2, w3, w4⟩ := hp
    refine g_sv ?_
    have hk := frA.kp q3 hlt1 w4
    have hz2 : z ∉ rs := fun q => by have := (hrl z q).1; omega
    have lsx : ∀ a, Ls c (rs ++ [z]) a → Ls c rs a ∨ a = z + 1 ∨ a = z + 2 := by
      intro a ha
      rcases ha with q | q | q | ⟨r, hr, q⟩
      · exact Or.inl (Or.inl q)
      · exact Or.inl (Or.inr (Or.inl q))
      · exact Or.inl (Or.inr (Or.inr (Or.inl q)))
      · rcases List.mem_append.mp hr with hr | hr
        · exact Or.inl (Or.inr (Or.inr (Or.inr ⟨r, hr, q⟩)))
        · rw [List.mem_singleton] at hr; subst hr; exact Or.inr q
    have lsm : ∀ a, Ls c rs a → Ls c (rs ++ [z]) a := by
      intro a ha
      rcases ha with q | q | q | ⟨r, hr, q⟩
      · exact Or.inl q
      · exact Or.inr (Or.inl q)
      · exact Or.inr (Or.inr (Or.inl q))
      · exact Or.inr (Or.inr (Or.inr ⟨r, List.mem_append_left _ hr, q⟩))
    have le1 : lst X.K M1 c (z + 1) [] := ⟨_, 0, by omega, Or.inl rfl, l1⟩
    have le2 : lst X.K M1 c (z + 2) [] := ⟨_, 0, by omega, Or.inl rfl, l2⟩
    have hls : ∀ b, Ls c (rs ++ [z]) b → ∃ els, lst X.K M1 c b els := by
      intro b hb
      rcases lsx b hb with q | rfl | rfl
      · exact h1.lsL q
      · exact ⟨_, le1⟩
      · exact ⟨_, le2⟩
    have hG : Gi X.K M1 c (rs ++ [z]) := by
      intro a b f n m n' m' ha hb g1 g2
      have kk : ∀ t, t = z + 1 ∨ t = z + 2 → ∀ n m, M1.1 t = some (oO 6 [.ref f, n, m]) → f = kE X.K := by
        intro t ht n m hq
        rcases ht with rfl | rfl
        · obtain ⟨⟨mc, k1⟩, _⟩ := l1
          rw [k1] at hq; simp at hq; exact hq.1.symm
        · obtain ⟨⟨mc, k1⟩, _⟩ := l2
          rw [k1] at hq; simp at hq; exact hq.1.symm
      rcases lsx a ha with qa | qa
      · rcases lsx b hb with qb | qb
        · exact h1.2.2.2.2.2.2.2.1 a b f n m n' m' qa qb g1 g2
        · exact Or.inr (kk b qb _ _ g2)
      · exact Or.inr (kk a qa _ _ g1)
    have l3 : Ls c (rs ++ [z]) (c + 3) := Or.inr (Or.inr (Or.inl rfl))
    have oth := fun {b : Nat} {els : List Nat} (hb : lst X.K M1 c b els) (hbl : Ls c (rs ++ [z]) b) (hne : b ≠ c + 3) => hb.fr q3 hG l3 hbl hne hlt1 w4
    have h2 : CI X.K M2 c vs ss (rs ++ [z]) xs (ws ++ [[]]) wl := by
      obtain ⟨⟨j1, wf, j2, j2'⟩, j3, ⟨j4, j5, j6⟩, ⟨j7, j8⟩, j9, ⟨j10, j11⟩, ⟨n1, n2, n3, n4, n5⟩, j13, j14, j15⟩ := h1
      refine ⟨⟨hk.o j1 (by decide), wf, hk.i j2, j2'⟩, ⟨j3.1.kp hk, j3.2.kp hk⟩, ⟨oth j4 (Or.inl rfl) (by omega), oth j5 (Or.inr (Or.inl rfl)) (by omega), ⟨e', c2, w1, by rcases w3 with ⟨h, _⟩ | ⟨h, _⟩ <;> omega, w2⟩⟩, ⟨j7, fun i p x hp hx => (j8 i p x hp hx).kp hk⟩, fun p hp => (j9 p hp).kp hk, ⟨by rw [List.length_append, List.length_append, j10]; rfl, fun k r cs hr hc => ?_⟩, ⟨n1, n2, n3, ?_, fun r hr => ?_⟩, hG.upd hls q3 w2 l3 (by rcases w3 with ⟨h, _⟩ | ⟨h, _⟩ <;> omega) hlt1 w4, ?_, j15⟩
      · by_cases hkl : k < rs.length
        · rw [List.getElem?_append_left hkl] at hr
          rw [List.getElem?_append_left (by omega)] at hc
          obtain ⟨r1, r2, r3⟩ := j11 k r cs hr hc
          have hrm : r ∈ rs := List.mem_of_getElem? hr
          have := n5 r hrm
          exact ⟨hk.o r1 (by decide), oth r2 (lsm _ (Or.inr (Or.inr (Or.inr ⟨r, hrm, Or.inl rfl⟩)))) (by omega), oth r3 (lsm _ (Or.inr (Or.inr (Or.inr ⟨r, hrm, Or.inr rfl⟩)))) (by omega)⟩
        · have hk2 : k = rs.length := by
            have := (List.getElem?_eq_some_iff.mp hr).1
            rw [List.length_append] at this
            simp at this
            omega
          subst hk2
          rw [List.getElem?_append_right (Nat.le_refl _), Nat.sub_self] at hr
          rw [j10, List.getElem?_append_right (Nat.le_refl _), Nat.sub_self] at hc
          simp at hr hc
          subst hr hc
          exact ⟨hk.o r1 (by decide), oth le1 (Or.inr (Or.inr (Or.inr ⟨z, List.mem_append_right _ (List.mem_singleton.mpr rfl), Or.inl rfl⟩))) (by omega), oth le2 (Or.inr (Or.inr (Or.inr ⟨z, List.mem_append_right _ (List.mem_singleton.mpr rfl), Or.inr rfl⟩))) (by omega)⟩
      · refine List.nodup_append.mpr ⟨n4, by simp, fun a ha b hb => ?_⟩
        rw [List.mem_singleton] at hb
        subst hb
        exact fun q => hz2 (q ▸ ha)
      · rcases List.mem_append.mp hr with q | q
        · exact n5 r q
        · rw [List.mem_singleton] at q; subst q; omega
      · refine (w4 _ hkE (by omega) (fun q => ?_)).trans j14
        rcases Nat.eq_zero_or_pos cap with h0 | h0
        · exact h0
        · exact absurd q.symm (q3.2.2.2.2 h0)
    refine g_pop hC rfl d_Comp_row_29 ?_
    refine g_aload_n hC rfl d_Comp_row_30 ?_
    refine g_get hC fb_Comp_19 h2.o rfl d_Comp_row_31 ?_
    obtain ⟨e3, cap3, t1, t2, t3⟩ := h2.r
    refine g_callV0 hC (sp_AL_size t3) oc_AL_size ov_AL_size ml_Comp_39 t3.1.choose_spec rfl hR (Nat.le_of_ble_eq_true rfl) (Nat.le_of_ble_eq_true rfl) (Nat.le_of_ble_eq_true rfl) (Nat.le_of_ble_eq_true rfl) (Nat.le_of_ble_eq_true rfl) d_Comp_row_34 (fun r M2 hp => ?_)
    obtain ⟨rfl, rfl⟩ := hp
    refine g_sv ?_
    refine g_iconst hC d_Comp_row_37 ?_
    refine g_isub hC d_Comp_row_38 ?_
    rw [show ((rs ++ [z]).length : Int) - 1 = (ws.length : Int) by rw [List.length_append]; show ((rs.length + 1 : Nat) : Int) - 1 = _; omega]
    refine g_iret hC hQ (by decide) (by decide) d_Comp_row_39 ⟨rfl, vs, ss, rs ++ [z], h2⟩
  · rw [if_pos (by omega), if_pos (by omega)] at hQ
    refine g_bipush hC (by decide) d_Comp_row_12 ?_
    refine g_iret hC hQ (by decide) (by decide) d_Comp_row_14 ⟨rfl, vs, ss, rs, h⟩
theorem d_Comp_clear_0 : dn m_Comp_clear.2.1 0 (.aload_n 0) 1 1 := ⟨by decide +kernel, rfl⟩
theorem d_Comp_clear_1 : dn m_Comp_clear.2.1 1 (.getfield 10) 3 4 := ⟨by decide +kernel, rfl⟩
theorem d_Comp_clear_4 : dn m_Comp_clear.2.1 4 (.invokevirtual 39) 3 7 := ⟨by decide +kernel, rfl⟩
theorem d_Comp_clear_7 : dn m_Comp_clear.2.1 7 (.istore_n 1) 1 8 := ⟨by decide +kernel, rfl⟩
theorem d_Comp_clear_8 : dn m_Comp_clear.2.1 8 (.aload_n 0) 1 9 := ⟨by decide +kernel, rfl⟩
theorem d_Comp_clear_9 : dn m_Comp_clear.2.1 9 (.getfield 16) 3 12 := ⟨by decide +kernel, rfl⟩
theorem d_Comp_clear_12 : dn m_Comp_clear.2.1 12 (.aload_n 0) 1 13 := ⟨by decide +kernel, rfl⟩
theorem d_Comp_clear_13 : dn m_Comp_clear.2.1 13 (.getfield 10) 3 16 := ⟨by decide +kernel, rfl⟩
theorem d_Comp_clear_16 : dn m_Comp_clear.2.1 16 (.invokevirtual 160) 3 19 := ⟨by decide +kernel, rfl⟩
theorem d_Comp_clear_19 : dn m_Comp_clear.2.1 19 (.pop) 1 20 := ⟨by decide +kernel, rfl⟩
theorem d_Comp_clear_20 : dn m_Comp_clear.2.1 20 (.aload_n 0) 1 21 := ⟨by decide +kernel, rfl⟩
theorem d_Comp_clear_21 : dn m_Comp_clear.2.1 21 (.getfield 10) 3 24 := ⟨by decide +kernel, rfl⟩
theorem d_Comp_clear_24 : dn m_Comp_clear.2.1 24 (.invokevirtual 164) 3 27 := ⟨by decide +kernel, rfl⟩
theorem d_Comp_clear_27 : dn m_Comp_clear.2.1 27 (.aload_n 0) 1 28 := ⟨by decide +kernel, rfl⟩
theorem d_Comp_clear_28 : dn m_Comp_clear.2.1 28 (.getfield 19) 3 31 := ⟨by decide +kernel, rfl⟩
theorem d_Comp_clear_31 : dn m_Comp_clear.2.1 31 (.invokevirtual 164) 3 34 := ⟨by decide +kernel, rfl⟩
theorem d_Comp_clear_34 : dn m_Comp_clear.2.1 34 (.iload_n 1) 1 35 := ⟨by decide +kernel, rfl⟩
theorem d_Comp_clear_35 : dn m_Comp_clear.2.1 35 (.ireturn) 1 36 := ⟨by decide +kernel, rfl⟩
theorem sp_Comp_clear (hcx : CX K M c xs ws wl) : Sp l K m_Comp_clear 8 6 508 [.ref c] M (fun r M' => r = some (iv xs.length) ∧ CX K M' c [] [] wl) := by
  refine Sp.ofG R_Comp rfl (by decide) [some (.ref c), none] rfl (Nat.le_of_ble_eq_true rfl) ?_
  intro X hl hK hN hR hC hQ
  subst hl hK
  refine g_hlt (fun hlt => ?_)
  obtain ⟨vs, ss, rs, h⟩ := hcx
  obtain ⟨ev, capv, v1, v2, v3⟩ := h.v
  obtain ⟨es, caps, s1, s2, s3⟩ := h.s
  have hln := h.len
  refine g_aload_n hC rfl d_Comp_clear_0 ?_
  refine g_get hC fb_Comp_10 h.o rfl d_Comp_clear_1 ?_
  refine g_callV0 hC (sp_AL_size v3) oc_AL_size ov_AL_size ml_Comp_39 v3.1.choose_spec rfl hR (Nat.le_of_ble_eq_true rfl) (Nat.le_of_ble_eq_true rfl) (Nat.le_of_ble_eq_true rfl) (Nat.le_of_ble_eq_true rfl) (Nat.le_of_ble_eq_true rfl) d_Comp_clear_4 (fun r M hp => ?_)
  obtain ⟨rfl, rfl⟩ := hp
  refine g_sv ?_
  rw [hln]
  have hls := fun b hb => h.lsL (b := b) hb
  have hkE := hlt _ _ h.2.2.2.2.2.2.2.2.1
  obtain ⟨⟨j1, wf, j2, j2'⟩, j3, ⟨j4, j5, j6⟩, ⟨j7, j8⟩, j9, ⟨j10, j11⟩, ⟨n1, n2, n3, n4, n5⟩, j13, j14, j15⟩ := h
  have hcm : c + 24 ≤ M.2 := by
    obtain ⟨mi, un, h1, ⟨_, _, w1⟩, ⟨_, _, w2⟩⟩ := j3.2
    have := hlt _ _ w2.2
    omega
  have fv : ∀ y ∈ vs, fx X.K M y 100 := fun y hy => by
    obtain ⟨i, hi⟩ := List.getElem?_of_mem hy
    have hil : i < xs.length := by rw [← j7]; exact (List.getElem?_eq_some_iff.mp hi).1
    exact (j8 i y _ hi (List.getElem?_eq_getElem hil)).fx
  have ls1 : Ls c rs (c + 1) := Or.inl rfl
  have ls2 : Ls c rs (c + 2) := Or.inr (Or.inl rfl)
  have ls3 : Ls c rs (c + 3) := Or.inr (Or.inr (Or.inl rfl))
  first | refine g_ist1 hC d_Comp_clear_7 rfl (hN 1 rfl) ?_ | (refine g_fg0 ?_; refine g_ist1 hC d_Comp_clear_7 rfl (hN 1 rfl) ?_)
  refine g_aload_n hC rfl d_Comp_clear_8 ?_
  refine g_get hC fb_Comp_16 j1 rfl d_Comp_clear_9 ?_
  refine g_aload_n hC rfl d_Comp_clear_12 ?_
  refine g_get hC fb_Comp_10 j1 rfl d_Comp_clear_13 ?_
  refine g_callV1 hC (sp_AL_addAll s3 v3 (by rw [List.length_append] at n2; omega) s1 v1 ck_Frac ca_Frac_Obj (fun y hy => ⟨by have := n3 y (List.mem_append_right _ hy); omega, (j9 y hy).rc⟩) (fun y hy => ⟨by have := n3 y (List.mem_append_left _ hy); omega, (fv y hy).rc⟩) hkE) oc_AL_addAll ov_AL_addAll ml_Comp_160 s3.1.choose_spec rfl hR (Nat.le_of_ble_eq_true rfl) (Nat.le_of_ble_eq_true rfl) (Nat.le_of_ble_eq_true rfl) (Nat.le_of_ble_eq_true rfl) (Nat.le_of_ble_eq_true rfl) d_Comp_clear_16 (fun r M1 hp => ?_)
  obtain ⟨⟨zr, rfl⟩, ⟨e', c2, w1, w2, w3⟩, w5, w4⟩ := hp
  refine g_sv ?_
  refine g_hlt (fun hlt1 => ?_)
  have hk := frA.kp s3 hlt w4
  have lv1 := j4.fr s3 j13 ls2 ls1 (by omega) hlt w4
  have lr1 := j6.fr s3 j13 ls2 ls3 (by omega) hlt w4
  have hG1 := j13.upd hls s3 w2 ls2 (by omega) hlt w4
  have hls1 : ∀ b, Ls c rs b → ∃ els, lst X.K M1 c b els := by
    intro b hb
    by_cases q : b = c + 2
    · subst q; exact ⟨_, e', c2, w1, by omega, w2⟩
    · obtain ⟨els, hb2⟩ := hls b hb
      exact ⟨els, hb2.fr s3 j13 ls2 hb q hlt w4⟩
  have hE1 : M1.1 (kE X.K) = some (oR X.K 0 (fun _ => none)) := (w4 _ hkE (by omega) (fun q => by
    rcases Nat.eq_zero_or_pos caps with h0 | h0
    · exact h0
    · exact absurd q.symm (s3.2.2.2.2 h0))).trans j14
  have o1 := hk.o j1 (by decide)
  refine g_pop hC rfl d_Comp_clear_19 ?_
  refine g_aload_n hC rfl d_Comp_clear_20 ?_
  refine g_get hC fb_Comp_10 o1 rfl d_Comp_clear_21 ?_
  obtain ⟨ev1, capv1, x1, x2, x3⟩ := lv1
  refine g_callV0 hC (sp_AL_clear x3 x1) oc_AL_clear ov_AL_clear ml_Comp_164 x3.1.choose_spec rfl hR (Nat.le_of_ble_eq_true rfl) (Nat.le_of_ble_eq_true rfl) (Nat.le_of_ble_eq_true rfl) (Nat.le_of_ble_eq_true rfl) (Nat.le_of_ble_eq_true rfl) d_Comp_clear_24 (fun r M2 hp => ?_)
  obtain ⟨rfl, y1, y2, y3⟩ := hp
  refine g_s0 ?_
  refine g_hlt (fun hlt2 => ?_)
  have f2 : frA M1 M2 (c + 1) ev1 capv1 := fun x _ x2 x3 => y3 x x2 x3
  have hk2 := frA.kp x3 hlt1 f2
  have ls2' : lst X.K M1 c (c + 2) (ss ++ vs) := ⟨e', c2, w1, by omega, w2⟩
  have lsp2 := ls2'.fr x3 hG1 ls1 ls2 (by omega) hlt1 f2
  have lr2 := lr1.fr x3 hG1 ls1 ls3 (by omega) hlt1 f2
  have hG2 := hG1.upd hls1 x3 y1 ls1 (Or.inl rfl) hlt1 f2
  have hls2 : ∀ b, Ls c rs b → ∃ els, lst X.K M2 c b els := by
    intro b hb
    by_cases q : b = c + 1
    · subst q; exact ⟨_, ev1, capv1, x1, x2, y1⟩
    · obtain ⟨els, hb2⟩ := hls1 b hb
      exact ⟨els, hb2.fr x3 hG1 ls1 hb q hlt1 f2⟩
  have hE2 : M2.1 (kE X.K) = some (oR X.K 0 (fun _ => none)) := (y3 _ (by omega) (fun q => by
    rcases Nat.eq_zero_or_pos capv1 with h0 | h0
    · exact h0
    · exact absurd q.symm (x3.2.2.2.2 h0))).trans hE1
  have o2 := hk2.o o1 (by decide)
  refine g_aload_n hC rfl d_Comp_clear_27 ?_
  refine g_get hC fb_Comp_19 o2 rfl d_Comp_clear_28 ?_
  obtain ⟨er2, capr2, z1, z2, z3⟩ := lr2
  refine g_callV0 hC (sp_AL_clear z3 z1) oc_AL_clear ov_AL_clear ml_Comp_164 z3.1.choose_spec rfl hR (Nat.le_of_ble_eq_true rfl) (Nat.le_of_ble_eq_true rfl) (Nat.le_of_ble_eq_true rfl) (Nat.le_of_ble_eq_true rfl) (Nat.le_of_ble_eq_true rfl) d_Comp_clear_31 (fun r M3 hp => ?_)
  obtain ⟨rfl, t1, t2, t3⟩ := hp
  refine g_s0 ?_
  have f3 : frA M2 M3 (c + 3) er2 capr2 := fun x _ x2 x3 => t3 x x2 x3
  have hk3 := frA.kp z3 hlt2 f3
  have lv2 : lst X.K M2 c (c + 1) [] := ⟨ev1, capv1, x1, x2, y1⟩
  have hG3 := hG2.upd hls2 z3 t1 ls3 (Or.inl rfl) hlt2 f3
  refine g_iload_n hC rfl d_Comp_clear_34 ?_
  refine g_iret hC hQ (by decide) (by decide) d_Comp_clear_35 ⟨rfl, [], ss ++ vs, [], ⟨hk3.o o2 (by decide), wf, hk3.i (hk2.i (hk.i j2)), j2'⟩, ⟨((j3.1.kp hk).kp hk2).kp hk3, ((j3.2.kp hk).kp hk2).kp hk3⟩, ⟨lv2.fr z3 hG2 ls3 ls1 (by omega) hlt2 f3, lsp2.fr z3 hG2 ls3 ls2 (by omega) hlt2 f3, ⟨er2, capr2, z1, z2, t1⟩⟩, ⟨rfl, fun i p x hp => by simp at hp⟩, fun p hp => ?_, ⟨rfl, fun k r cs hr => by simp at hr⟩, ⟨?_, ?_, fun q hq => n3 q ?_, List.nodup_nil, fun r hr => by simp at hr⟩, ?_, ?_, j15⟩
  · refine (((?_ : fx X.K M p 100).kp hk).kp hk2).kp hk3
    rcases List.mem_append.mp hp with q | q
    · exact j9 p q
    · exact fv p q
  · rw [List.nil_append]; exact (List.perm_append_comm).nodup_iff.mp n1
  · rw [List.nil_append, List.length_append]; rw [List.length_append] at n2; omega
  · rw [List.nil_append] at hq
    rcases List.mem_append.mp hq with q | q
    · exact List.mem_append_right _ q
    · exact List.mem_append_left _ q
  · intro a b f n m n' m' ha hb g1 g2
    have sub : ∀ t, Ls c [] t → Ls c rs t := by
      intro t ht
      rcases ht with q | q | q | ⟨r, hr, _⟩
      · exact Or.inl q
      · exact Or.inr (Or.inl q)
      · exact Or.inr (Or.inr (Or.inl q))
      · simp at hr
    exact hG3 a b f n m n' m' (sub a ha) (sub b hb) g1 g2
  · exact (t3 _ (by omega) (fun q => by
      rcases Nat.eq_zero_or_pos capr2 with h0 | h0
      · exact h0
      · exact absurd q.symm (z3.2.2.2.2 h0))).trans hE2
end CRs
