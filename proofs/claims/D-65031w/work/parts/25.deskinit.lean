/-! Desk() -/
theorem dv_Whole : ∀ j, j < 2 → defaultValue (t_Whole j) = vp_V [.null, iv 0] j := fun j hj => by
  rcases (show j = 0 ∨ j = 1 by omega) with rfl | rfl
  · rfl
  · decide
theorem dv_Frac : ∀ j, j < 4 → defaultValue (t_Frac j) = vp_V [.null, .null, iv 0, iv 0] j := fun j hj => by
  rcases (show j = 0 ∨ j = 1 ∨ j = 2 ∨ j = 3 by omega) with rfl | rfl | rfl | rfl
  · rfl
  · rfl
  · decide
  · decide
theorem d_Desk_init_0 : dn m_Desk_init.2.1 0 (.aload_n 0) 1 1 := ⟨by decide +kernel, rfl⟩
theorem d_Desk_init_1 : dn m_Desk_init.2.1 1 (.invokespecial 3) 3 4 := ⟨by decide +kernel, rfl⟩
theorem d_Desk_init_4 : dn m_Desk_init.2.1 4 (.aload_n 0) 1 5 := ⟨by decide +kernel, rfl⟩
theorem d_Desk_init_5 : dn m_Desk_init.2.1 5 (.new 9) 3 8 := ⟨by decide +kernel, rfl⟩
theorem d_Desk_init_8 : dn m_Desk_init.2.1 8 (.dup) 1 9 := ⟨by decide +kernel, rfl⟩
theorem d_Desk_init_9 : dn m_Desk_init.2.1 9 (.sipush 740) 3 12 := ⟨by decide +kernel, rfl⟩
theorem d_Desk_init_12 : dn m_Desk_init.2.1 12 (.invokespecial 11) 3 15 := ⟨by decide +kernel, rfl⟩
theorem d_Desk_init_15 : dn m_Desk_init.2.1 15 (.putfield 14) 3 18 := ⟨by decide +kernel, rfl⟩
theorem d_Desk_init_18 : dn m_Desk_init.2.1 18 (.aload_n 0) 1 19 := ⟨by decide +kernel, rfl⟩
theorem d_Desk_init_19 : dn m_Desk_init.2.1 19 (.new 20) 3 22 := ⟨by decide +kernel, rfl⟩
theorem d_Desk_init_22 : dn m_Desk_init.2.1 22 (.dup) 1 23 := ⟨by decide +kernel, rfl⟩
theorem d_Desk_init_23 : dn m_Desk_init.2.1 23 (.sipush 740) 3 26 := ⟨by decide +kernel, rfl⟩
theorem d_Desk_init_26 : dn m_Desk_init.2.1 26 (.invokespecial 22) 3 29 := ⟨by decide +kernel, rfl⟩
theorem d_Desk_init_29 : dn m_Desk_init.2.1 29 (.putfield 23) 3 32 := ⟨by decide +kernel, rfl⟩
theorem d_Desk_init_32 : dn m_Desk_init.2.1 32 (.aload_n 0) 1 33 := ⟨by decide +kernel, rfl⟩
theorem d_Desk_init_33 : dn m_Desk_init.2.1 33 (.new 20) 3 36 := ⟨by decide +kernel, rfl⟩
theorem d_Desk_init_36 : dn m_Desk_init.2.1 36 (.dup) 1 37 := ⟨by decide +kernel, rfl⟩
theorem d_Desk_init_37 : dn m_Desk_init.2.1 37 (.sipush 740) 3 40 := ⟨by decide +kernel, rfl⟩
theorem d_Desk_init_40 : dn m_Desk_init.2.1 40 (.invokespecial 22) 3 43 := ⟨by decide +kernel, rfl⟩
theorem d_Desk_init_43 : dn m_Desk_init.2.1 43 (.putfield 27) 3 46 := ⟨by decide +kernel, rfl⟩
theorem d_Desk_init_46 : dn m_Desk_init.2.1 46 (.aload_n 0) 1 47 := ⟨by decide +kernel, rfl⟩
theorem d_Desk_init_47 : dn m_Desk_init.2.1 47 (.new 20) 3 50 := ⟨by decide +kernel, rfl⟩
theorem d_Desk_init_50 : dn m_Desk_init.2.1 50 (.dup) 1 51 := ⟨by decide +kernel, rfl⟩
theorem d_Desk_init_51 : dn m_Desk_init.2.1 51 (.sipush 740) 3 54 := ⟨by decide +kernel, rfl⟩
theorem d_Desk_init_54 : dn m_Desk_init.2.1 54 (.invokespecial 22) 3 57 := ⟨by decide +kernel, rfl⟩
theorem d_Desk_init_57 : dn m_Desk_init.2.1 57 (.putfield 30) 3 60 := ⟨by decide +kernel, rfl⟩
theorem d_Desk_init_60 : dn m_Desk_init.2.1 60 (.aload_n 0) 1 61 := ⟨by decide +kernel, rfl⟩
theorem d_Desk_init_61 : dn m_Desk_init.2.1 61 (.new 20) 3 64 := ⟨by decide +kernel, rfl⟩
theorem d_Desk_init_64 : dn m_Desk_init.2.1 64 (.dup) 1 65 := ⟨by decide +kernel, rfl⟩
theorem d_Desk_init_65 : dn m_Desk_init.2.1 65 (.sipush 740) 3 68 := ⟨by decide +kernel, rfl⟩
theorem d_Desk_init_68 : dn m_Desk_init.2.1 68 (.invokespecial 22) 3 71 := ⟨by decide +kernel, rfl⟩
theorem d_Desk_init_71 : dn m_Desk_init.2.1 71 (.putfield 33) 3 74 := ⟨by decide +kernel, rfl⟩
theorem d_Desk_init_74 : dn m_Desk_init.2.1 74 (.aload_n 0) 1 75 := ⟨by decide +kernel, rfl⟩
theorem d_Desk_init_75 : dn m_Desk_init.2.1 75 (.new 9) 3 78 := ⟨by decide +kernel, rfl⟩
theorem d_Desk_init_78 : dn m_Desk_init.2.1 78 (.dup) 1 79 := ⟨by decide +kernel, rfl⟩
theorem d_Desk_init_79 : dn m_Desk_init.2.1 79 (.sipush 740) 3 82 := ⟨by decide +kernel, rfl⟩
theorem d_Desk_init_82 : dn m_Desk_init.2.1 82 (.invokespecial 11) 3 85 := ⟨by decide +kernel, rfl⟩
theorem d_Desk_init_85 : dn m_Desk_init.2.1 85 (.putfield 36) 3 88 := ⟨by decide +kernel, rfl⟩
theorem d_Desk_init_88 : dn m_Desk_init.2.1 88 (.return_) 1 89 := ⟨by decide +kernel, rfl⟩
theorem sp_Desk_init {l : Launch} {K : KC} {M : AH} {d : Nat} (h0 : M.1 d = some (oO 2 [.null, .null, .null, .null, .null, .null])) (z0 : M.2 = d + 1) :
    Sp l K m_Desk_init 3 18 5944 [.ref d] M (fun r M' => r = none ∧ dkx K M' d ∧ fx K M' (d + 14) 740 ∧ M'.2 = d + 19 ∧ ∀ x, x < d ∨ d + 19 ≤ x → M'.1 x = M.1 x) := by
  refine Sp.ofG R_Desk rfl (by decide) [some (.ref d)] rfl (Nat.le_of_ble_eq_true rfl) ?_
  intro X hl hK hN hR hC hQ
  subst hl hK
  have e0 : ∀ x, x < d ∨ d + 19 ≤ x → M.1 x = M.1 x := fun _ _ => rfl
  refine g_aload_n hC rfl d_Desk_init_0 ?_
  refine g_objInit hC ml_Desk_3 (by rw [hR]; exact Nat.le_of_ble_eq_true rfl) (by rw [hR]; exact Nat.le_of_ble_eq_true rfl) d_Desk_init_1 ?_
  refine g_aload_n hC rfl d_Desk_init_4 ?_
  refine g_new hC ck_Frac cl_Desk_9 in_Frac ii_Frac dv_Frac (by rw [hR]; exact Nat.le_of_ble_eq_true rfl) (by rw [hR]; exact Nat.le_of_ble_eq_true rfl) d_Desk_init_5 ?_
  rw [z0]
  have a1 : (nws M (oO 1 [.null, .null, iv 0, iv 0])).1 (d + 1) = some (oO 1 [.null, .null, iv 0, iv 0]) := by rw [← z0]; exact nws_s
  refine g_dup hC rfl d_Desk_init_8 ?_
  refine g_sipush hC (by decide) d_Desk_init_9 ?_
  refine g_callI1 hC (sp_Frac_init (cap := 740) a1 (by rw [nws_2, z0]) (by decide)) oc_Frac_init oi_Frac_init rfl ml_Desk_11 hR (Nat.le_of_ble_eq_true rfl) (Nat.le_of_ble_eq_true rfl) (Nat.le_of_ble_eq_true rfl) (Nat.le_of_ble_eq_true rfl) (Nat.le_of_ble_eq_true rfl) d_Desk_init_12 (fun r N1 hp => ?_)
  obtain ⟨rfl, b1, y1, c1⟩ := hp
  refine g_s0 ?_
  have c1' : ∀ x, x < d + 1 ∨ d + 6 ≤ x → N1.1 x = M.1 x := fun x hx => by rw [c1 x (by omega), nws_n (by omega)]
  have g1 := (c1' d (by omega)).trans h0
  refine g_putF hC fb_Desk_14 rfl g1 rfl rfl (Nat.le_of_ble_eq_true rfl) d_Desk_init_15 ?_
  show G X _ _ (ups N1 d (oO 2 [.ref (d + 1), .null, .null, .null, .null, .null])) 18 _ _
  obtain ⟨M1, hM1⟩ : ∃ M1, M1 = ups N1 d (oO 2 [.ref (d + 1), .null, .null, .null, .null, .null]) := ⟨_, rfl⟩
  rw [← hM1]
  have z1 : M1.2 = d + 6 := by rw [hM1]; show N1.2 = _; omega
  have h1 : M1.1 d = some (oO 2 [.ref (d + 1), .null, .null, .null, .null, .null]) := by rw [hM1]; exact ups_s
  have u1 : ∀ x, x ≠ d → M1.1 x = N1.1 x := fun x hx => by rw [hM1]; exact ups_n hx
  have w1 := b1.fx.eq (M' := M1) (fun x x1 x2 => u1 x (by omega))
  have e1 : ∀ x, x < d ∨ d + 19 ≤ x → M1.1 x = M.1 x := fun x hx => by rw [u1 x (by omega), c1' x (by omega), e0 x hx]
  clear hM1 u1 c1 c1' b1 g1 a1 h0 z0 e0
  refine g_aload_n hC rfl d_Desk_init_18 ?_
  refine g_new hC ck_Whole cl_Desk_20 in_Whole ii_Whole dv_Whole (by rw [hR]; exact Nat.le_of_ble_eq_true rfl) (by rw [hR]; exact Nat.le_of_ble_eq_true rfl) d_Desk_init_19 ?_
  rw [z1]
  have a2 : (nws M1 (oO 0 [.null, iv 0])).1 (d + 6) = some (oO 0 [.null, iv 0]) := by rw [← z1]; exact nws_s
  refine g_dup hC rfl d_Desk_init_22 ?_
  refine g_sipush hC (by decide) d_Desk_init_23 ?_
  refine g_callI1 hC (sp_Whole_init (cap := 740) a2 (by rw [nws_2, z1]) (by decide)) oc_Whole_init oi_Whole_init rfl ml_Desk_22 hR (Nat.le_of_ble_eq_true rfl) (Nat.le_of_ble_eq_true rfl) (Nat.le_of_ble_eq_true rfl) (Nat.le_of_ble_eq_true rfl) (Nat.le_of_ble_eq_true rfl) d_Desk_init_26 (fun r N2 hp => ?_)
  obtain ⟨rfl, b2, y2, c2⟩ := hp
  refine g_s0 ?_
  have c2' : ∀ x, x < d + 6 ∨ d + 8 ≤ x → N2.1 x = M1.1 x := fun x hx => by rw [c2 x (by omega) (by omega), nws_n (by omega)]
  have g2 := (c2' d (by omega)).trans h1
  refine g_putF hC fb_Desk_23 rfl g2 rfl rfl (Nat.le_of_ble_eq_true rfl) d_Desk_init_29 ?_
  show G X _ _ (ups N2 d (oO 2 [.ref (d + 1), .ref (d + 6), .null, .null, .null, .null])) 32 _ _
  obtain ⟨M2, hM2⟩ : ∃ M2, M2 = ups N2 d (oO 2 [.ref (d + 1), .ref (d + 6), .null, .null, .null, .null]) := ⟨_, rfl⟩
  rw [← hM2]
  have z2 : M2.2 = d + 8 := by rw [hM2]; show N2.2 = _; omega
  have h2 : M2.1 d = some (oO 2 [.ref (d + 1), .ref (d + 6), .null, .null, .null, .null]) := by rw [hM2]; exact ups_s
  have u2 : ∀ x, x ≠ d → M2.1 x = N2.1 x := fun x hx => by rw [hM2]; exact ups_n hx
  have w2 : wx X.K M2 (d + 6) 740 := ⟨_, _, b2.eq (u2 _ (by omega)) (u2 _ (by omega))⟩
  have e2 : ∀ x, x < d ∨ d + 19 ≤ x → M2.1 x = M.1 x := fun x hx => by rw [u2 x (by omega), c2' x (by omega), e1 x hx]
  have w1 := w1.eq (M' := M2) (fun x x1 x2 => (u2 x (by omega)).trans (c2' x (by omega)))
  clear hM2 u2 c2 c2' b2 g2 a2 h1 z1 e1
  refine g_aload_n hC rfl d_Desk_init_32 ?_
  refine g_new hC ck_Whole cl_Desk_20 in_Whole ii_Whole dv_Whole (by rw [hR]; exact Nat.le_of_ble_eq_true rfl) (by rw [hR]; exact Nat.le_of_ble_eq_true rfl) d_Desk_init_33 ?_
  rw [z2]
  have a3 : (nws M2 (oO 0 [.null, iv 0])).1 (d + 8) = some (oO 0 [.null, iv 0]) := by rw [← z2]; exact nws_s
  refine g_dup hC rfl d_Desk_init_36 ?_
  refine g_sipush hC (by decide) d_Desk_init_37 ?_
  refine g_callI1 hC (sp_Whole_init (cap := 740) a3 (by rw [nws_2, z2]) (by decide)) oc_Whole_init oi_Whole_init rfl ml_Desk_22 hR (Nat.le_of_ble_eq_true rfl) (Nat.le_of_ble_eq_true rfl) (Nat.le_of_ble_eq_true rfl) (Nat.le_of_ble_eq_true rfl) (Nat.le_of_ble_eq_true rfl) d_Desk_init_40 (fun r N3 hp => ?_)
  obtain ⟨rfl, b3, y3, c3⟩ := hp
  refine g_s0 ?_
  have c3' : ∀ x, x < d + 8 ∨ d + 10 ≤ x → N3.1 x = M2.1 x := fun x hx => by rw [c3 x (by omega) (by omega), nws_n (by omega)]
  have g3 := (c3' d (by omega)).trans h2
  refine g_putF hC fb_Desk_27 rfl g3 rfl rfl (Nat.le_of_ble_eq_true rfl) d_Desk_init_43 ?_
  show G X _ _ (ups N3 d (oO 2 [.ref (d + 1), .ref (d + 6), .ref (d + 8), .null, .null, .null])) 46 _ _
  obtain ⟨M3, hM3⟩ : ∃ M3, M3 = ups N3 d (oO 2 [.ref (d + 1), .ref (d + 6), .ref (d + 8), .null, .null, .null]) := ⟨_, rfl⟩
  rw [← hM3]
  have z3 : M3.2 = d + 10 := by rw [hM3]; show N3.2 = _; omega
  have h3 : M3.1 d = some (oO 2 [.ref (d + 1), .ref (d + 6), .ref (d + 8), .null, .null, .null]) := by rw [hM3]; exact ups_s
  have u3 : ∀ x, x ≠ d → M3.1 x = N3.1 x := fun x hx => by rw [hM3]; exact ups_n hx
  have w3 : wx X.K M3 (d + 8) 740 := ⟨_, _, b3.eq (u3 _ (by omega)) (u3 _ (by omega))⟩
  have e3 : ∀ x, x < d ∨ d + 19 ≤ x → M3.1 x = M.1 x := fun x hx => by rw [u3 x (by omega), c3' x (by omega), e2 x hx]
  have w1 := w1.eq (M' := M3) (fun x x1 x2 => (u3 x (by omega)).trans (c3' x (by omega)))
  have w2 := w2.eq (M' := M3) ((u3 _ (by omega)).trans (c3' _ (by omega))) ((u3 _ (by omega)).trans (c3' _ (by omega)))
  clear hM3 u3 c3 c3' b3 g3 a3 h2 z2 e2
  refine g_aload_n hC rfl d_Desk_init_46 ?_
  refine g_new hC ck_Whole cl_Desk_20 in_Whole ii_Whole dv_Whole (by rw [hR]; exact Nat.le_of_ble_eq_true rfl) (by rw [hR]; exact Nat.le_of_ble_eq_true rfl) d_Desk_init_47 ?_
  rw [z3]
  have a4 : (nws M3 (oO 0 [.null, iv 0])).1 (d + 10) = some (oO 0 [.null, iv 0]) := by rw [← z3]; exact nws_s
  refine g_dup hC rfl d_Desk_init_50 ?_
  refine g_sipush hC (by decide) d_Desk_init_51 ?_
  refine g_callI1 hC (sp_Whole_init (cap := 740) a4 (by rw [nws_2, z3]) (by decide)) oc_Whole_init oi_Whole_init rfl ml_Desk_22 hR (Nat.le_of_ble_eq_true rfl) (Nat.le_of_ble_eq_true rfl) (Nat.le_of_ble_eq_true rfl) (Nat.le_of_ble_eq_true rfl) (Nat.le_of_ble_eq_true rfl) d_Desk_init_54 (fun r N4 hp => ?_)
  obtain ⟨rfl, b4, y4, c4⟩ := hp
  refine g_s0 ?_
  have c4' : ∀ x, x < d + 10 ∨ d + 12 ≤ x → N4.1 x = M3.1 x := fun x hx => by rw [c4 x (by omega) (by omega), nws_n (by omega)]
  have g4 := (c4' d (by omega)).trans h3
  refine g_putF hC fb_Desk_30 rfl g4 rfl rfl (Nat.le_of_ble_eq_true rfl) d_Desk_init_57 ?_
  show G X _ _ (ups N4 d (oO 2 [.ref (d + 1), .ref (d + 6), .ref (d + 8), .ref (d + 10), .null, .null])) 60 _ _
  obtain ⟨M4, hM4⟩ : ∃ M4, M4 = ups N4 d (oO 2 [.ref (d + 1), .ref (d + 6), .ref (d + 8), .ref (d + 10), .null, .null]) := ⟨_, rfl⟩
  rw [← hM4]
  have z4 : M4.2 = d + 12 := by rw [hM4]; show N4.2 = _; omega
  have h4 : M4.1 d = some (oO 2 [.ref (d + 1), .ref (d + 6), .ref (d + 8), .ref (d + 10), .null, .null]) := by rw [hM4]; exact ups_s
  have u4 : ∀ x, x ≠ d → M4.1 x = N4.1 x := fun x hx => by rw [hM4]; exact ups_n hx
  have w4 : wx X.K M4 (d + 10) 740 := ⟨_, _, b4.eq (u4 _ (by omega)) (u4 _ (by omega))⟩
  have e4 : ∀ x, x < d ∨ d + 19 ≤ x → M4.1 x = M.1 x := fun x hx => by rw [u4 x (by omega), c4' x (by omega), e3 x hx]
  have w1 := w1.eq (M' := M4) (fun x x1 x2 => (u4 x (by omega)).trans (c4' x (by omega)))
  have w2 := w2.eq (M' := M4) ((u4 _ (by omega)).trans (c4' _ (by omega))) ((u4 _ (by omega)).trans (c4' _ (by omega)))
  have w3 := w3.eq (M' := M4) ((u4 _ (by omega)).trans (c4' _ (by omega))) ((u4 _ (by omega)).trans (c4' _ (by omega)))
  clear hM4 u4 c4 c4' b4 g4 a4 h3 z3 e3
  refine g_aload_n hC rfl d_Desk_init_60 ?_
  refine g_new hC ck_Whole cl_Desk_20 in_Whole ii_Whole dv_Whole (by rw [hR]; exact Nat.le_of_ble_eq_true rfl) (by rw [hR]; exact Nat.le_of_ble_eq_true rfl) d_Desk_init_61 ?_
  rw [z4]
  have a5 : (nws M4 (oO 0 [.null, iv 0])).1 (d + 12) = some (oO 0 [.null, iv 0]) := by rw [← z4]; exact nws_s
  refine g_dup hC rfl d_Desk_init_64 ?_
  refine g_sipush hC (by decide) d_Desk_init_65 ?_
  refine g_callI1 hC (sp_Whole_init (cap := 740) a5 (by rw [nws_2, z4]) (by decide)) oc_Whole_init oi_Whole_init rfl ml_Desk_22 hR (Nat.le_of_ble_eq_true rfl) (Nat.le_of_ble_eq_true rfl) (Nat.le_of_ble_eq_true rfl) (Nat.le_of_ble_eq_true rfl) (Nat.le_of_ble_eq_true rfl) d_Desk_init_68 (fun r N5 hp => ?_)
  obtain ⟨rfl, b5, y5, c5⟩ := hp
  refine g_s0 ?_
  have c5' : ∀ x, x < d + 12 ∨ d + 14 ≤ x → N5.1 x = M4.1 x := fun x hx => by rw [c5 x (by omega) (by omega), nws_n (by omega)]
  have g5 := (c5' d (by omega)).trans h4
  refine g_putF hC fb_Desk_33 rfl g5 rfl rfl (Nat.le_of_ble_eq_true rfl) d_Desk_init_71 ?_
  show G X _ _ (ups N5 d (oO 2 [.ref (d + 1), .ref (d + 6), .ref (d + 8), .ref (d + 10), .ref (d + 12), .null])) 74 _ _
  obtain ⟨M5, hM5⟩ : ∃ M5, M5 = ups N5 d (oO 2 [.ref (d + 1), .ref (d + 6), .ref (d + 8), .ref (d + 10), .ref (d + 12), .null]) := ⟨_, rfl⟩
  rw [← hM5]
  have z5 : M5.2 = d + 14 := by rw [hM5]; show N5.2 = _; omega
  have h5 : M5.1 d = some (oO 2 [.ref (d + 1), .ref (d + 6), .ref (d + 8), .ref (d + 10), .ref (d + 12), .null]) := by rw [hM5]; exact ups_s
  have u5 : ∀ x, x ≠ d → M5.1 x = N5.1 x := fun x hx => by rw [hM5]; exact ups_n hx
  have w5 : wx X.K M5 (d + 12) 740 := ⟨_, _, b5.eq (u5 _ (by omega)) (u5 _ (by omega))⟩
  have e5 : ∀ x, x < d ∨ d + 19 ≤ x → M5.1 x = M.1 x := fun x hx => by rw [u5 x (by omega), c5' x (by omega), e4 x hx]
  have w1 := w1.eq (M' := M5) (fun x x1 x2 => (u5 x (by omega)).trans (c5' x (by omega)))
  have w2 := w2.eq (M' := M5) ((u5 _ (by omega)).trans (c5' _ (by omega))) ((u5 _ (by omega)).trans (c5' _ (by omega)))
  have w3 := w3.eq (M' := M5) ((u5 _ (by omega)).trans (c5' _ (by omega))) ((u5 _ (by omega)).trans (c5' _ (by omega)))
  have w4 := w4.eq (M' := M5) ((u5 _ (by omega)).trans (c5' _ (by omega))) ((u5 _ (by omega)).trans (c5' _ (by omega)))
  clear hM5 u5 c5 c5' b5 g5 a5 h4 z4 e4
  refine g_aload_n hC rfl d_Desk_init_74 ?_
  refine g_new hC ck_Frac cl_Desk_9 in_Frac ii_Frac dv_Frac (by rw [hR]; exact Nat.le_of_ble_eq_true rfl) (by rw [hR]; exact Nat.le_of_ble_eq_true rfl) d_Desk_init_75 ?_
  rw [z5]
  have a6 : (nws M5 (oO 1 [.null, .null, iv 0, iv 0])).1 (d + 14) = some (oO 1 [.null, .null, iv 0, iv 0]) := by rw [← z5]; exact nws_s
  refine g_dup hC rfl d_Desk_init_78 ?_
  refine g_sipush hC (by decide) d_Desk_init_79 ?_
  refine g_callI1 hC (sp_Frac_init (cap := 740) a6 (by rw [nws_2, z5]) (by decide)) oc_Frac_init oi_Frac_init rfl ml_Desk_11 hR (Nat.le_of_ble_eq_true rfl) (Nat.le_of_ble_eq_true rfl) (Nat.le_of_ble_eq_true rfl) (Nat.le_of_ble_eq_true rfl) (Nat.le_of_ble_eq_true rfl) d_Desk_init_82 (fun r N6 hp => ?_)
  obtain ⟨rfl, b6, y6, c6⟩ := hp
  refine g_s0 ?_
  have c6' : ∀ x, x < d + 14 ∨ d + 19 ≤ x → N6.1 x = M5.1 x := fun x hx => by rw [c6 x (by omega), nws_n (by omega)]
  have g6 := (c6' d (by omega)).trans h5
  refine g_putF hC fb_Desk_36 rfl g6 rfl rfl (Nat.le_of_ble_eq_true rfl) d_Desk_init_85 ?_
  show G X _ _ (ups N6 d (oO 2 [.ref (d + 1), .ref (d + 6), .ref (d + 8), .ref (d + 10), .ref (d + 12), .ref (d + 14)])) 88 _ _
  obtain ⟨M6, hM6⟩ : ∃ M6, M6 = ups N6 d (oO 2 [.ref (d + 1), .ref (d + 6), .ref (d + 8), .ref (d + 10), .ref (d + 12), .ref (d + 14)]) := ⟨_, rfl⟩
  rw [← hM6]
  have z6 : M6.2 = d + 19 := by rw [hM6]; show N6.2 = _; omega
  have h6 : M6.1 d = some (oO 2 [.ref (d + 1), .ref (d + 6), .ref (d + 8), .ref (d + 10), .ref (d + 12), .ref (d + 14)]) := by rw [hM6]; exact ups_s
  have u6 : ∀ x, x ≠ d → M6.1 x = N6.1 x := fun x hx => by rw [hM6]; exact ups_n hx
  have w6 := b6.fx.eq (M' := M6) (fun x x1 x2 => u6 x (by omega))
  have e6 : ∀ x, x < d ∨ d + 19 ≤ x → M6.1 x = M.1 x := fun x hx => by rw [u6 x (by omega), c6' x (by omega), e5 x hx]
  have w1 := w1.eq (M' := M6) (fun x x1 x2 => (u6 x (by omega)).trans (c6' x (by omega)))
  have w2 := w2.eq (M' := M6) ((u6 _ (by omega)).trans (c6' _ (by omega))) ((u6 _ (by omega)).trans (c6' _ (by omega)))
  have w3 := w3.eq (M' := M6) ((u6 _ (by omega)).trans (c6' _ (by omega))) ((u6 _ (by omega)).trans (c6' _ (by omega)))
  have w4 := w4.eq (M' := M6) ((u6 _ (by omega)).trans (c6' _ (by omega))) ((u6 _ (by omega)).trans (c6' _ (by omega)))
  have w5 := w5.eq (M' := M6) ((u6 _ (by omega)).trans (c6' _ (by omega))) ((u6 _ (by omega)).trans (c6' _ (by omega)))
  clear hM6 u6 c6 c6' b6 g6 a6 h5 z5 e5
  obtain ⟨mi, un, w1, w1a, w1b⟩ := w1
  refine g_vret hC hQ (by decide) (by decide) d_Desk_init_88 ⟨rfl, ⟨mi, un, h6, w1, w1a, w1b, w2, w3, w4, w5⟩, w6, z6, e6⟩
