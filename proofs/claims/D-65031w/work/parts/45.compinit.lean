/-! Comp() -/
theorem dv_Desk : ∀ j, j < 6 → defaultValue (t_Desk j) = vp_V [.null, .null, .null, .null, .null, .null] j := fun j hj => by
  rcases (show j = 0 ∨ j = 1 ∨ j = 2 ∨ j = 3 ∨ j = 4 ∨ j = 5 by omega) with rfl | rfl | rfl | rfl | rfl | rfl <;> rfl
theorem d_Comp_init_0 : dn m_Comp_init.2.1 0 (.aload_n 0) 1 1 := ⟨by decide +kernel, rfl⟩
theorem d_Comp_init_1 : dn m_Comp_init.2.1 1 (.invokespecial 1) 3 4 := ⟨by decide +kernel, rfl⟩
theorem d_Comp_init_4 : dn m_Comp_init.2.1 4 (.aload_n 0) 1 5 := ⟨by decide +kernel, rfl⟩
theorem d_Comp_init_5 : dn m_Comp_init.2.1 5 (.new 7) 3 8 := ⟨by decide +kernel, rfl⟩
theorem d_Comp_init_8 : dn m_Comp_init.2.1 8 (.dup) 1 9 := ⟨by decide +kernel, rfl⟩
theorem d_Comp_init_9 : dn m_Comp_init.2.1 9 (.invokespecial 9) 3 12 := ⟨by decide +kernel, rfl⟩
theorem d_Comp_init_12 : dn m_Comp_init.2.1 12 (.putfield 10) 3 15 := ⟨by decide +kernel, rfl⟩
theorem d_Comp_init_15 : dn m_Comp_init.2.1 15 (.aload_n 0) 1 16 := ⟨by decide +kernel, rfl⟩
theorem d_Comp_init_16 : dn m_Comp_init.2.1 16 (.new 7) 3 19 := ⟨by decide +kernel, rfl⟩
theorem d_Comp_init_19 : dn m_Comp_init.2.1 19 (.dup) 1 20 := ⟨by decide +kernel, rfl⟩
theorem d_Comp_init_20 : dn m_Comp_init.2.1 20 (.invokespecial 9) 3 23 := ⟨by decide +kernel, rfl⟩
theorem d_Comp_init_23 : dn m_Comp_init.2.1 23 (.putfield 16) 3 26 := ⟨by decide +kernel, rfl⟩
theorem d_Comp_init_26 : dn m_Comp_init.2.1 26 (.aload_n 0) 1 27 := ⟨by decide +kernel, rfl⟩
theorem d_Comp_init_27 : dn m_Comp_init.2.1 27 (.new 7) 3 30 := ⟨by decide +kernel, rfl⟩
theorem d_Comp_init_30 : dn m_Comp_init.2.1 30 (.dup) 1 31 := ⟨by decide +kernel, rfl⟩
theorem d_Comp_init_31 : dn m_Comp_init.2.1 31 (.invokespecial 9) 3 34 := ⟨by decide +kernel, rfl⟩
theorem d_Comp_init_34 : dn m_Comp_init.2.1 34 (.putfield 19) 3 37 := ⟨by decide +kernel, rfl⟩
theorem d_Comp_init_37 : dn m_Comp_init.2.1 37 (.aload_n 0) 1 38 := ⟨by decide +kernel, rfl⟩
theorem d_Comp_init_38 : dn m_Comp_init.2.1 38 (.bipush 12) 2 40 := ⟨by decide +kernel, rfl⟩
theorem d_Comp_init_40 : dn m_Comp_init.2.1 40 (.newarray .int) 2 42 := ⟨by decide +kernel, rfl⟩
theorem d_Comp_init_42 : dn m_Comp_init.2.1 42 (.putfield 22) 3 45 := ⟨by decide +kernel, rfl⟩
theorem d_Comp_init_45 : dn m_Comp_init.2.1 45 (.aload_n 0) 1 46 := ⟨by decide +kernel, rfl⟩
theorem d_Comp_init_46 : dn m_Comp_init.2.1 46 (.new 26) 3 49 := ⟨by decide +kernel, rfl⟩
theorem d_Comp_init_49 : dn m_Comp_init.2.1 49 (.dup) 1 50 := ⟨by decide +kernel, rfl⟩
theorem d_Comp_init_50 : dn m_Comp_init.2.1 50 (.invokespecial 28) 3 53 := ⟨by decide +kernel, rfl⟩
theorem d_Comp_init_53 : dn m_Comp_init.2.1 53 (.putfield 29) 3 56 := ⟨by decide +kernel, rfl⟩
theorem d_Comp_init_56 : dn m_Comp_init.2.1 56 (.return_) 1 57 := ⟨by decide +kernel, rfl⟩
theorem sp_Comp_init {l : Launch} {K : KC} {M : AH} {c : Nat} (h0 : M.1 c = some (oO 4 [.null, .null, .null, .null, iv 0, .null])) (z0 : M.2 = c + 1) (hE0 : M.1 (kE K) = some (oR K 0 (fun _ => none))) (hEc : kE K < c) :
    Sp l K m_Comp_init 4 23 5971 [.ref c] M (fun r M' => r = none ∧ CX K M' c [] [] [] ∧ M'.2 = c + 24 ∧ ∀ x, x < c → M'.1 x = M.1 x) := by
  refine Sp.ofG R_Comp rfl (by decide) [some (.ref c)] rfl (Nat.le_of_ble_eq_true rfl) ?_
  intro X hl hK hN hR hC hQ
  subst hl hK
  have e0 : ∀ x, x < c → M.1 x = M.1 x := fun _ _ => rfl
  refine g_aload_n hC rfl d_Comp_init_0 ?_
  refine g_objInit hC ml_Comp_1 (by rw [hR]; exact Nat.le_of_ble_eq_true rfl) (by rw [hR]; exact Nat.le_of_ble_eq_true rfl) d_Comp_init_1 ?_
  refine g_aload_n hC rfl d_Comp_init_4 ?_
  refine g_new hC ck_AL cl_Comp_7 in_AL ii_AL dv_AL (by rw [hR]; exact Nat.le_of_ble_eq_true rfl) (by rw [hR]; exact Nat.le_of_ble_eq_true rfl) d_Comp_init_5 ?_
  rw [z0]
  have a1 : (nws M (oO 6 [.null, iv 0, iv 0])).1 (c + 1) = some (oO 6 [.null, iv 0, iv 0]) := by rw [← z0]; exact nws_s
  refine g_dup hC rfl d_Comp_init_8 ?_
  refine g_callI0 hC (sp_AL_init a1 ((nws_n (by omega)).trans hE0)) oc_AL_init oi_AL_init rfl ml_Comp_9 hR (Nat.le_of_ble_eq_true rfl) (Nat.le_of_ble_eq_true rfl) (Nat.le_of_ble_eq_true rfl) (Nat.le_of_ble_eq_true rfl) (Nat.le_of_ble_eq_true rfl) d_Comp_init_9 (fun r N1 hp => ?_)
  obtain ⟨rfl, b1, y1, c1⟩ := hp
  refine g_s0 ?_
  have k1 : ∀ x, x < c + 1 → N1.1 x = M.1 x := fun x hx => by rw [c1 x (by omega), nws_n (by omega)]
  have g1 := (k1 c (by omega)).trans h0
  refine g_putF hC fb_Comp_10 rfl g1 rfl rfl (Nat.le_of_ble_eq_true rfl) d_Comp_init_12 ?_
  show G X _ _ (ups N1 c (oO 4 [.ref (c + 1), .null, .null, .null, iv 0, .null])) 15 _ _
  obtain ⟨M1, hM1⟩ : ∃ M1, M1 = ups N1 c (oO 4 [.ref (c + 1), .null, .null, .null, iv 0, .null]) := ⟨_, rfl⟩
  rw [← hM1]
  have z1 : M1.2 = c + 2 := by rw [hM1]; show N1.2 = _; rw [y1, nws_2, z0]
  have h1 : M1.1 c = some (oO 4 [.ref (c + 1), .null, .null, .null, iv 0, .null]) := by rw [hM1]; exact ups_s
  have u1 : ∀ x, x ≠ c → M1.1 x = N1.1 x := fun x hx => by rw [hM1]; exact ups_n hx
  have e1 : ∀ x, x < c → M1.1 x = M.1 x := fun x hx => by rw [u1 x (by omega), k1 x (by omega), e0 x hx]
  have hE1 := (e1 _ hEc).trans hE0
  have l1 : isL X.K M1 (c + 1) (kE X.K) 0 [] := b1.eq (u1 _ (by omega)) (u1 _ (by omega))
  clear hM1 u1 c1 k1 b1 g1 a1 h0 z0 e0 y1
  refine g_aload_n hC rfl d_Comp_init_15 ?_
  refine g_new hC ck_AL cl_Comp_7 in_AL ii_AL dv_AL (by rw [hR]; exact Nat.le_of_ble_eq_true rfl) (by rw [hR]; exact Nat.le_of_ble_eq_true rfl) d_Comp_init_16 ?_
  rw [z1]
  have a2 : (nws M1 (oO 6 [.null, iv 0, iv 0])).1 (c + 2) = some (oO 6 [.null, iv 0, iv 0]) := by rw [← z1]; exact nws_s
  refine g_dup hC rfl d_Comp_init_19 ?_
  refine g_callI0 hC (sp_AL_init a2 ((nws_n (by omega)).trans hE1)) oc_AL_init oi_AL_init rfl ml_Comp_9 hR (Nat.le_of_ble_eq_true rfl) (Nat.le_of_ble_eq_true rfl) (Nat.le_of_ble_eq_true rfl) (Nat.le_of_ble_eq_true rfl) (Nat.le_of_ble_eq_true rfl) d_Comp_init_20 (fun r N2 hp => ?_)
  obtain ⟨rfl, b2, y2, c2⟩ := hp
  refine g_s0 ?_
  have k2 : ∀ x, x < c + 2 → N2.1 x = M1.1 x := fun x hx => by rw [c2 x (by omega), nws_n (by omega)]
  have g2 := (k2 c (by omega)).trans h1
  refine g_putF hC fb_Comp_16 rfl g2 rfl rfl (Nat.le_of_ble_eq_true rfl) d_Comp_init_23 ?_
  show G X _ _ (ups N2 c (oO 4 [.ref (c + 1), .ref (c + 2), .null, .null, iv 0, .null])) 26 _ _
  obtain ⟨M2, hM2⟩ : ∃ M2, M2 = ups N2 c (oO 4 [.ref (c + 1), .ref (c + 2), .null, .null, iv 0, .null]) := ⟨_, rfl⟩
  rw [← hM2]
  have z2 : M2.2 = c + 3 := by rw [hM2]; show N2.2 = _; rw [y2, nws_2, z1]
  have h2 : M2.1 c = some (oO 4 [.ref (c + 1), .ref (c + 2), .null, .null, iv 0, .null]) := by rw [hM2]; exact ups_s
  have u2 : ∀ x, x ≠ c → M2.1 x = N2.1 x := fun x hx => by rw [hM2]; exact ups_n hx
  have e2 : ∀ x, x < c → M2.1 x = M.1 x := fun x hx => by rw [u2 x (by omega), k2 x (by omega), e1 x hx]
  have hE2 := (e2 _ hEc).trans hE0
  have l2 : isL X.K M2 (c + 2) (kE X.K) 0 [] := b2.eq (u2 _ (by omega)) (u2 _ (by omega))
  have l1 := l1.eq (M' := M2) ((u2 _ (by omega)).trans (k2 _ (by omega))) ((u2 _ (by omega)).trans (k2 _ (by omega)))
  clear hM2 u2 c2 k2 b2 g2 a2 h1 z1 e1 y2
  refine g_aload_n hC rfl d_Comp_init_26 ?_
  refine g_new hC ck_AL cl_Comp_7 in_AL ii_AL dv_AL (by rw [hR]; exact Nat.le_of_ble_eq_true rfl) (by rw [hR]; exact Nat.le_of_ble_eq_true rfl) d_Comp_init_27 ?_
  rw [z2]
  have a3 : (nws M2 (oO 6 [.null, iv 0, iv 0])).1 (c + 3) = some (oO 6 [.null, iv 0, iv 0]) := by rw [← z2]; exact nws_s
  refine g_dup hC rfl d_Comp_init_30 ?_
  refine g_callI0 hC (sp_AL_init a3 ((nws_n (by omega)).trans hE2)) oc_AL_init oi_AL_init rfl ml_Comp_9 hR (Nat.le_of_ble_eq_true rfl) (Nat.le_of_ble_eq_true rfl) (Nat.le_of_ble_eq_true rfl) (Nat.le_of_ble_eq_true rfl) (Nat.le_of_ble_eq_true rfl) d_Comp_init_31 (fun r N3 hp => ?_)
  obtain ⟨rfl, b3, y3, c3⟩ := hp
  refine g_s0 ?_
  have k3 : ∀ x, x < c + 3 → N3.1 x = M2.1 x := fun x hx => by rw [c3 x (by omega), nws_n (by omega)]
  have g3 := (k3 c (by omega)).trans h2
  refine g_putF hC fb_Comp_19 rfl g3 rfl rfl (Nat.le_of_ble_eq_true rfl) d_Comp_init_34 ?_
  show G X _ _ (ups N3 c (oO 4 [.ref (c + 1), .ref (c + 2), .ref (c + 3), .null, iv 0, .null])) 37 _ _
  obtain ⟨M3, hM3⟩ : ∃ M3, M3 = ups N3 c (oO 4 [.ref (c + 1), .ref (c + 2), .ref (c + 3), .null, iv 0, .null]) := ⟨_, rfl⟩
  rw [← hM3]
  have z3 : M3.2 = c + 4 := by rw [hM3]; show N3.2 = _; rw [y3, nws_2, z2]
  have h3 : M3.1 c = some (oO 4 [.ref (c + 1), .ref (c + 2), .ref (c + 3), .null, iv 0, .null]) := by rw [hM3]; exact ups_s
  have u3 : ∀ x, x ≠ c → M3.1 x = N3.1 x := fun x hx => by rw [hM3]; exact ups_n hx
  have e3 : ∀ x, x < c → M3.1 x = M.1 x := fun x hx => by rw [u3 x (by omega), k3 x (by omega), e2 x hx]
  have hE3 := (e3 _ hEc).trans hE0
  have l3 : isL X.K M3 (c + 3) (kE X.K) 0 [] := b3.eq (u3 _ (by omega)) (u3 _ (by omega))
  have l1 := l1.eq (M' := M3) ((u3 _ (by omega)).trans (k3 _ (by omega))) ((u3 _ (by omega)).trans (k3 _ (by omega)))
  have l2 := l2.eq (M' := M3) ((u3 _ (by omega)).trans (k3 _ (by omega))) ((u3 _ (by omega)).trans (k3 _ (by omega)))
  clear hM3 u3 c3 k3 b3 g3 a3 h2 z2 e2 y3
  refine g_aload_n hC rfl d_Comp_init_37 ?_
  refine g_bipush hC (by decide) d_Comp_init_38 ?_
  refine g_newI hC (tb1 85 rfl) (n := 12) rfl (by decide) (by rw [hR]; exact Nat.le_of_ble_eq_true rfl) (by rw [hR]; exact Nat.le_of_ble_eq_true rfl) d_Comp_init_40 ?_
  rw [z3]
  have g4 : (nws M3 (oI X.K 12 (fun _ => 0))).1 c = some (oO 4 [.ref (c + 1), .ref (c + 2), .ref (c + 3), .null, iv 0, .null]) := (nws_n (by omega)).trans h3
  have w4 : (nws M3 (oI X.K 12 (fun _ => 0))).1 (c + 4) = some (oI X.K 12 (fun _ => 0)) := by rw [← z3]; exact nws_s
  refine g_putF hC fb_Comp_22 rfl g4 rfl rfl (Nat.le_of_ble_eq_true rfl) d_Comp_init_42 ?_
  show G X _ _ (ups (nws M3 (oI X.K 12 (fun _ => 0))) c (oO 4 [.ref (c + 1), .ref (c + 2), .ref (c + 3), .ref (c + 4), iv 0, .null])) 45 _ _
  obtain ⟨M4, hM4⟩ : ∃ M4, M4 = ups (nws M3 (oI X.K 12 (fun _ => 0))) c (oO 4 [.ref (c + 1), .ref (c + 2), .ref (c + 3), .ref (c + 4), iv 0, .null]) := ⟨_, rfl⟩
  rw [← hM4]
  have z4 : M4.2 = c + 5 := by rw [hM4]; show M3.2 + 1 = _; omega
  have h4 : M4.1 c = some (oO 4 [.ref (c + 1), .ref (c + 2), .ref (c + 3), .ref (c + 4), iv 0, .null]) := by rw [hM4]; exact ups_s
  have u4 : ∀ x, x ≠ c → x ≠ c + 4 → M4.1 x = M3.1 x := fun x hx h2 => by rw [hM4, ups_n hx, nws_n (by omega)]
  have v4 : M4.1 (c + 4) = some (oI X.K 12 (fun _ => 0)) := by rw [hM4, ups_n (by omega)]; exact w4
  have e4 : ∀ x, x < c → M4.1 x = M.1 x := fun x hx => by rw [u4 x (by omega) (by omega), e3 x hx]
  have l1 := l1.eq (M' := M4) (u4 _ (by omega) (by omega)) (u4 _ (by omega) (by omega))
  have l2 := l2.eq (M' := M4) (u4 _ (by omega) (by omega)) (u4 _ (by omega) (by omega))
  have l3 := l3.eq (M' := M4) (u4 _ (by omega) (by omega)) (u4 _ (by omega) (by omega))
  clear hM4 u4 w4 g4
  refine g_aload_n hC rfl d_Comp_init_45 ?_
  refine g_new hC ck_Desk cl_Comp_26 in_Desk ii_Desk dv_Desk (by rw [hR]; exact Nat.le_of_ble_eq_true rfl) (by rw [hR]; exact Nat.le_of_ble_eq_true rfl) d_Comp_init_46 ?_
  rw [z4]
  have a5 : (nws M4 (oO 2 [.null, .null, .null, .null, .null, .null])).1 (c + 5) = some (oO 2 [.null, .null, .null, .null, .null, .null]) := by rw [← z4]; exact nws_s
  refine g_dup hC rfl d_Comp_init_49 ?_
  refine g_callIN0 hC (sp_Desk_init a5 (by rw [nws_2, z4])) oc_Desk_init oi_Desk_init rfl mn_Comp_28 hR (Nat.le_of_ble_eq_true rfl) (Nat.le_of_ble_eq_true rfl) (Nat.le_of_ble_eq_true rfl) (Nat.le_of_ble_eq_true rfl) (Nat.le_of_ble_eq_true rfl) d_Comp_init_50 (fun r N5 hp => ?_)
  obtain ⟨rfl, dk, hx, y5, c5⟩ := hp
  refine g_s0 ?_
  have k5 : ∀ x, x < c + 5 → N5.1 x = M4.1 x := fun x hx => by rw [c5 x (by omega), nws_n (by omega)]
  have g5 := (k5 c (by omega)).trans h4
  refine g_putF hC fb_Comp_29 rfl g5 rfl rfl (Nat.le_of_ble_eq_true rfl) d_Comp_init_53 ?_
  show G X _ _ (ups N5 c (oO 4 [.ref (c + 1), .ref (c + 2), .ref (c + 3), .ref (c + 4), iv 0, .ref (c + 5)])) 56 _ _
  obtain ⟨M5, hM5⟩ : ∃ M5, M5 = ups N5 c (oO 4 [.ref (c + 1), .ref (c + 2), .ref (c + 3), .ref (c + 4), iv 0, .ref (c + 5)]) := ⟨_, rfl⟩
  rw [← hM5]
  have z5 : M5.2 = c + 24 := by rw [hM5]; show N5.2 = _; omega
  have h5 : M5.1 c = some (oO 4 [.ref (c + 1), .ref (c + 2), .ref (c + 3), .ref (c + 4), iv 0, .ref (c + 5)]) := by rw [hM5]; exact ups_s
  have u5 : ∀ x, x ≠ c → M5.1 x = N5.1 x := fun x hx => by rw [hM5]; exact ups_n hx
  have e5 : ∀ x, x < c → M5.1 x = M.1 x := fun x hx => by rw [u5 x (by omega), k5 x (by omega), e4 x hx]
  have v5 : M5.1 (c + 4) = some (oI X.K 12 (fun _ => 0)) := (u5 _ (by omega)).trans ((k5 _ (by omega)).trans v4)
  have l1 := l1.eq (M' := M5) ((u5 _ (by omega)).trans (k5 _ (by omega))) ((u5 _ (by omega)).trans (k5 _ (by omega)))
  have l2 := l2.eq (M' := M5) ((u5 _ (by omega)).trans (k5 _ (by omega))) ((u5 _ (by omega)).trans (k5 _ (by omega)))
  have l3 := l3.eq (M' := M5) ((u5 _ (by omega)).trans (k5 _ (by omega))) ((u5 _ (by omega)).trans (k5 _ (by omega)))
  have dk5 := dk.eq (M' := M5) (fun z _ _ => u5 z (by omega))
  have hx5 := hx.eq (M' := M5) (fun z _ _ => u5 z (by omega))
  have hE5 := (e5 _ hEc).trans hE0
  refine g_vret hC hQ (by decide) (by decide) d_Comp_init_56 ⟨rfl, ⟨[], [], [], ⟨h5, _, v5, fun i hi => absurd hi (Nat.not_lt_zero i)⟩, ⟨dk5, hx5⟩, ⟨⟨_, 0, by omega, Or.inl rfl, l1⟩, ⟨_, 0, by omega, Or.inl rfl, l2⟩, ⟨_, 0, by omega, Or.inl rfl, l3⟩⟩, ⟨rfl, fun i p x hp => by simp at hp⟩, fun p hp => by simp at hp, ⟨rfl, fun k r cs hr => by simp at hr⟩, ⟨List.nodup_nil, by simp, fun p hp => by simp at hp, List.nodup_nil, fun r hr => by simp at hr⟩, ?_, hE5, hEc⟩, z5, e5⟩
  intro a b f n m n' m' ha hb g1 g2
  refine Or.inr ?_
  rcases ha with rfl | rfl | rfl | ⟨r, hr, _⟩
  · obtain ⟨⟨mc, k1⟩, _⟩ := l1
    rw [k1] at g1; simp at g1; exact g1.1.symm
  · obtain ⟨⟨mc, k1⟩, _⟩ := l2
    rw [k1] at g1; simp at g1; exact g1.1.symm
  · obtain ⟨⟨mc, k1⟩, _⟩ := l3
    rw [k1] at g1; simp at g1; exact g1.1.symm
  · simp at hr
