/-! Desk: times, over, times(int), against -/
theorem d_Desk_times_0 : dn m_Desk_times.2.1 0 (.aload_n 0) 1 1 := ⟨by decide +kernel, rfl⟩
theorem d_Desk_times_1 : dn m_Desk_times.2.1 1 (.getfield 23) 3 4 := ⟨by decide +kernel, rfl⟩
theorem d_Desk_times_4 : dn m_Desk_times.2.1 4 (.aload_n 0) 1 5 := ⟨by decide +kernel, rfl⟩
theorem d_Desk_times_5 : dn m_Desk_times.2.1 5 (.getfield 14) 3 8 := ⟨by decide +kernel, rfl⟩
theorem d_Desk_times_8 : dn m_Desk_times.2.1 8 (.getfield 39) 3 11 := ⟨by decide +kernel, rfl⟩
theorem d_Desk_times_11 : dn m_Desk_times.2.1 11 (.aload_n 1) 1 12 := ⟨by decide +kernel, rfl⟩
theorem d_Desk_times_12 : dn m_Desk_times.2.1 12 (.getfield 39) 3 15 := ⟨by decide +kernel, rfl⟩
theorem d_Desk_times_15 : dn m_Desk_times.2.1 15 (.invokevirtual 72) 3 18 := ⟨by decide +kernel, rfl⟩
theorem d_Desk_times_18 : dn m_Desk_times.2.1 18 (.aload_n 0) 1 19 := ⟨by decide +kernel, rfl⟩
theorem d_Desk_times_19 : dn m_Desk_times.2.1 19 (.getfield 14) 3 22 := ⟨by decide +kernel, rfl⟩
theorem d_Desk_times_22 : dn m_Desk_times.2.1 22 (.getfield 39) 3 25 := ⟨by decide +kernel, rfl⟩
theorem d_Desk_times_25 : dn m_Desk_times.2.1 25 (.aload_n 0) 1 26 := ⟨by decide +kernel, rfl⟩
theorem d_Desk_times_26 : dn m_Desk_times.2.1 26 (.getfield 23) 3 29 := ⟨by decide +kernel, rfl⟩
theorem d_Desk_times_29 : dn m_Desk_times.2.1 29 (.invokevirtual 64) 3 32 := ⟨by decide +kernel, rfl⟩
theorem d_Desk_times_32 : dn m_Desk_times.2.1 32 (.aload_n 0) 1 33 := ⟨by decide +kernel, rfl⟩
theorem d_Desk_times_33 : dn m_Desk_times.2.1 33 (.getfield 23) 3 36 := ⟨by decide +kernel, rfl⟩
theorem d_Desk_times_36 : dn m_Desk_times.2.1 36 (.aload_n 0) 1 37 := ⟨by decide +kernel, rfl⟩
theorem d_Desk_times_37 : dn m_Desk_times.2.1 37 (.getfield 14) 3 40 := ⟨by decide +kernel, rfl⟩
theorem d_Desk_times_40 : dn m_Desk_times.2.1 40 (.getfield 46) 3 43 := ⟨by decide +kernel, rfl⟩
theorem d_Desk_times_43 : dn m_Desk_times.2.1 43 (.aload_n 1) 1 44 := ⟨by decide +kernel, rfl⟩
theorem d_Desk_times_44 : dn m_Desk_times.2.1 44 (.getfield 46) 3 47 := ⟨by decide +kernel, rfl⟩
theorem d_Desk_times_47 : dn m_Desk_times.2.1 47 (.invokevirtual 72) 3 50 := ⟨by decide +kernel, rfl⟩
theorem d_Desk_times_50 : dn m_Desk_times.2.1 50 (.aload_n 0) 1 51 := ⟨by decide +kernel, rfl⟩
theorem d_Desk_times_51 : dn m_Desk_times.2.1 51 (.getfield 14) 3 54 := ⟨by decide +kernel, rfl⟩
theorem d_Desk_times_54 : dn m_Desk_times.2.1 54 (.getfield 46) 3 57 := ⟨by decide +kernel, rfl⟩
theorem d_Desk_times_57 : dn m_Desk_times.2.1 57 (.aload_n 0) 1 58 := ⟨by decide +kernel, rfl⟩
theorem d_Desk_times_58 : dn m_Desk_times.2.1 58 (.getfield 23) 3 61 := ⟨by decide +kernel, rfl⟩
theorem d_Desk_times_61 : dn m_Desk_times.2.1 61 (.invokevirtual 64) 3 64 := ⟨by decide +kernel, rfl⟩
theorem d_Desk_times_64 : dn m_Desk_times.2.1 64 (.aload_n 0) 1 65 := ⟨by decide +kernel, rfl⟩
theorem d_Desk_times_65 : dn m_Desk_times.2.1 65 (.getfield 14) 3 68 := ⟨by decide +kernel, rfl⟩
theorem d_Desk_times_68 : dn m_Desk_times.2.1 68 (.aload_n 0) 1 69 := ⟨by decide +kernel, rfl⟩
theorem d_Desk_times_69 : dn m_Desk_times.2.1 69 (.getfield 14) 3 72 := ⟨by decide +kernel, rfl⟩
theorem d_Desk_times_72 : dn m_Desk_times.2.1 72 (.getfield 49) 3 75 := ⟨by decide +kernel, rfl⟩
theorem d_Desk_times_75 : dn m_Desk_times.2.1 75 (.aload_n 1) 1 76 := ⟨by decide +kernel, rfl⟩
theorem d_Desk_times_76 : dn m_Desk_times.2.1 76 (.getfield 49) 3 79 := ⟨by decide +kernel, rfl⟩
theorem d_Desk_times_79 : db m_Desk_times.2.1 79 (.if_icmp .eq) 86 82 := ⟨7, by decide +kernel, by decide, rfl⟩
theorem d_Desk_times_82 : dn m_Desk_times.2.1 82 (.iconst 1) 1 83 := ⟨by decide +kernel, rfl⟩
theorem d_Desk_times_83 : db m_Desk_times.2.1 83 (.goto) 87 86 := ⟨4, by decide +kernel, by decide, rfl⟩
theorem d_Desk_times_86 : dn m_Desk_times.2.1 86 (.iconst 0) 1 87 := ⟨by decide +kernel, rfl⟩
theorem d_Desk_times_87 : dn m_Desk_times.2.1 87 (.putfield 49) 3 90 := ⟨by decide +kernel, rfl⟩
theorem d_Desk_times_90 : dn m_Desk_times.2.1 90 (.aload_n 0) 1 91 := ⟨by decide +kernel, rfl⟩
theorem d_Desk_times_91 : dn m_Desk_times.2.1 91 (.getfield 14) 3 94 := ⟨by decide +kernel, rfl⟩
theorem d_Desk_times_94 : dn m_Desk_times.2.1 94 (.dup) 1 95 := ⟨by decide +kernel, rfl⟩
theorem d_Desk_times_95 : dn m_Desk_times.2.1 95 (.getfield 53) 3 98 := ⟨by decide +kernel, rfl⟩
theorem d_Desk_times_98 : dn m_Desk_times.2.1 98 (.aload_n 1) 1 99 := ⟨by decide +kernel, rfl⟩
theorem d_Desk_times_99 : dn m_Desk_times.2.1 99 (.getfield 53) 3 102 := ⟨by decide +kernel, rfl⟩
theorem d_Desk_times_102 : dn m_Desk_times.2.1 102 (.iadd) 1 103 := ⟨by decide +kernel, rfl⟩
theorem d_Desk_times_103 : dn m_Desk_times.2.1 103 (.putfield 53) 3 106 := ⟨by decide +kernel, rfl⟩
theorem d_Desk_times_106 : dn m_Desk_times.2.1 106 (.aload_n 0) 1 107 := ⟨by decide +kernel, rfl⟩
theorem d_Desk_times_107 : dn m_Desk_times.2.1 107 (.invokevirtual 57) 3 110 := ⟨by decide +kernel, rfl⟩
theorem d_Desk_times_110 : dn m_Desk_times.2.1 110 (.return_) 1 111 := ⟨by decide +kernel, rfl⟩
theorem sp_Desk_times {l : Launch} {K : KC} {M : AH} {d p cap i j i' j' m : Nat} {x y : Rat} {un uo : Int} (hm : mdx K M d x un) (ho : opx K M p cap y uo) (hdis : p + 5 ≤ d ∨ d + 14 ≤ p) (hcap : cap ≤ 1000) (bx : bdq x i j) (bY : bdq y i' j') (m1 : i + i' ≤ m) (m2 : j + j' ≤ m) (m4 : m ≤ 730) :
    Sp l K m_Desk_times 4 0 0 [.ref d, .ref p] M (fun r M' => r = none ∧ mdx K M' d (x * y) (un + uo) ∧ frM M M' d) := by
  refine Sp.ofG R_Desk rfl (by decide) [some (.ref d), some (.ref p)] rfl (Nat.le_of_ble_eq_true rfl) ?_
  intro X hl hK hN hR hC hQ
  subst hl hK
  obtain ⟨mi, a, b, hD, hA, hB, qx⟩ := hm
  obtain ⟨mo, c, e, hF, qy⟩ := ho
  have b1 := qx.bd bx
  have b2 := qy.bd bY
  have t1 : ((a * c : Nat) : Int) < pw m := Int.lt_of_lt_of_le (mul_lt_pw b1.1 b2.1) (pow_le m1)
  have t2 : ((b * e : Nat) : Int) < pw m := Int.lt_of_lt_of_le (mul_lt_pw b1.2 b2.2) (pow_le m2)
  have hpos : 0 < b * e := Nat.mul_pos qx.pos qy.pos
  have up := fun {v : Nat} (h : (v : Int) < pw m) => Int.lt_of_lt_of_le h (pow_le (show m ≤ 740 by omega))
  refine g_aload_n hC rfl d_Desk_times_0 ?_
  refine g_get hC fb_Desk_23 hD.o rfl d_Desk_times_1 ?_
  refine g_aload_n hC rfl d_Desk_times_4 ?_
  refine g_get hC fb_Desk_14 hD.o rfl d_Desk_times_5 ?_
  refine g_get hC fb_Desk_39 hD.m rfl d_Desk_times_8 ?_
  refine g_aload_n hC rfl d_Desk_times_11 ?_
  refine g_get hC fb_Desk_39 hF.1 rfl d_Desk_times_12 ?_
  refine g_callV2 hC (sp_Whole_multiply hD.x hA hF.2.1 (by omega) (by omega) b1.1 b2.1 (by omega) (by decide) (by decide) hcap) oc_Whole_multiply ov_Whole_multiply ml_Desk_72 hD.x.rc.choose_spec rfl hR (Nat.le_of_ble_eq_true rfl) (Nat.le_of_ble_eq_true rfl) (Nat.le_of_ble_eq_true rfl) (Nat.le_of_ble_eq_true rfl) (Nat.le_of_ble_eq_true rfl) d_Desk_times_15 (fun r M1 hp => ?_)
  obtain ⟨rfl, hX1, f1⟩ := hp
  refine g_s0 ?_
  have D1 := hD.fw i6 f1 hX1.tox
  have F1 := (frM.rf).fw i6 f1
  have hB1 := hB.fr f1 (by omega) (by omega) (by omega)
  have hF1 := hF.eq (M' := M1) (fun z z1 z2 => F1.2 z (by omega))
  refine g_aload_n hC rfl d_Desk_times_18 ?_
  refine g_get hC fb_Desk_14 D1.o rfl d_Desk_times_19 ?_
  refine g_get hC fb_Desk_39 D1.m rfl d_Desk_times_22 ?_
  refine g_aload_n hC rfl d_Desk_times_25 ?_
  refine g_get hC fb_Desk_23 D1.o rfl d_Desk_times_26 ?_
  refine g_callV1 hC (sp_Whole_copy D1.a hX1 (up t1) (by omega) (by decide) (by decide)) oc_Whole_copy ov_Whole_copy ml_Desk_64 D1.a.rc.choose_spec rfl hR (Nat.le_of_ble_eq_true rfl) (Nat.le_of_ble_eq_true rfl) (Nat.le_of_ble_eq_true rfl) (Nat.le_of_ble_eq_true rfl) (Nat.le_of_ble_eq_true rfl) d_Desk_times_29 (fun r M2 hp => ?_)
  obtain ⟨rfl, hA2, f2⟩ := hp
  refine g_s0 ?_
  have D2 := D1.fw i2 f2 hA2.tox
  have F2 := F1.fw i2 f2
  have hB2 := hB1.fr f2 (by omega) (by omega) (by omega)
  have hF2 := hF.eq (M' := M2) (fun z z1 z2 => F2.2 z (by omega))
  refine g_aload_n hC rfl d_Desk_times_32 ?_
  refine g_get hC fb_Desk_23 D2.o rfl d_Desk_times_33 ?_
  refine g_aload_n hC rfl d_Desk_times_36 ?_
  refine g_get hC fb_Desk_14 D2.o rfl d_Desk_times_37 ?_
  refine g_get hC fb_Desk_46 D2.m rfl d_Desk_times_40 ?_
  refine g_aload_n hC rfl d_Desk_times_43 ?_
  refine g_get hC fb_Desk_46 hF2.1 rfl d_Desk_times_44 ?_
  refine g_callV2 hC (sp_Whole_multiply D2.x hB2 hF2.2.2 (by omega) (by omega) b1.2 b2.2 (by omega) (by decide) (by decide) hcap) oc_Whole_multiply ov_Whole_multiply ml_Desk_72 D2.x.rc.choose_spec rfl hR (Nat.le_of_ble_eq_true rfl) (Nat.le_of_ble_eq_true rfl) (Nat.le_of_ble_eq_true rfl) (Nat.le_of_ble_eq_true rfl) (Nat.le_of_ble_eq_true rfl) d_Desk_times_47 (fun r M3 hp => ?_)
  obtain ⟨rfl, hX3, f3⟩ := hp
  refine g_s0 ?_
  have D3 := D2.fw i6 f3 hX3.tox
  have F3 := F2.fw i6 f3
  have hA3 := hA2.fr f3 (by omega) (by omega) (by omega)
  refine g_aload_n hC rfl d_Desk_times_50 ?_
  refine g_get hC fb_Desk_14 D3.o rfl d_Desk_times_51 ?_
  refine g_get hC fb_Desk_46 D3.m rfl d_Desk_times_54 ?_
  refine g_aload_n hC rfl d_Desk_times_57 ?_
  refine g_get hC fb_Desk_23 D3.o rfl d_Desk_times_58 ?_
  refine g_callV1 hC (sp_Whole_copy D3.b hX3 (up t2) (by omega) (by decide) (by decide)) oc_Whole_copy ov_Whole_copy ml_Desk_64 D3.b.rc.choose_spec rfl hR (Nat.le_of_ble_eq_true rfl) (Nat.le_of_ble_eq_true rfl) (Nat.le_of_ble_eq_true rfl) (Nat.le_of_ble_eq_true rfl) (Nat.le_of_ble_eq_true rfl) d_Desk_times_61 (fun r M4 hp => ?_)
  obtain ⟨rfl, hB4, f4⟩ := hp
  refine g_s0 ?_
  have D4 := D3.fw i4 f4 hB4.tox
  have F4 := F3.fw i4 f4
  have hA4 := hA3.fr f4 (by omega) (by omega) (by omega)
  have hF4 := hF.eq (M' := M4) (fun z z1 z2 => F4.2 z (by omega))
  clear D1 D2 D3 F1 F2 F3 f1 f2 f3 f4 hX1 hX3 hA2 hA3 hB1 hB2 hF1 hF2
  have J : G X 0 0 M4 87 [some (.ref d), some (.ref p)] [iv (bz (mi != mo)), .ref (d + 1)] := by
    refine g_put hC fb_Desk_49 D4.m (nar_b _) (fit_b _) (Nat.le_of_ble_eq_true rfl) d_Desk_times_87 ?_
    have D5 := D4.sm (mi' := (mi != mo)) (un' := un)
    have hA5 := hA4.sm (d := d) (e := oO 1 [.ref (d + 2), .ref (d + 4), iv (bz (mi != mo)), iv un]) (by omega) (by omega)
    have hB5 := hB4.sm (d := d) (e := oO 1 [.ref (d + 2), .ref (d + 4), iv (bz (mi != mo)), iv un]) (by omega) (by omega)
    have F5 := F4.sm (e := oO 1 [.ref (d + 2), .ref (d + 4), iv (bz (mi != mo)), iv un])
    show G X 0 0 (ups M4 (d + 1) (oO 1 [.ref (d + 2), .ref (d + 4), iv (bz (mi != mo)), iv un])) 90 _ _
    generalize ups M4 (d + 1) (oO 1 [.ref (d + 2), .ref (d + 4), iv (bz (mi != mo)), iv un]) = M5 at *
    have hF5 := hF.eq (M' := M5) (fun z z1 z2 => F5.2 z (by omega))
    refine g_aload_n hC rfl d_Desk_times_90 ?_
    refine g_get hC fb_Desk_14 D5.o rfl d_Desk_times_91 ?_
    refine g_dup hC rfl d_Desk_times_94 ?_
    refine g_get hC fb_Desk_53 D5.m rfl d_Desk_times_95 ?_
    refine g_aload_n hC rfl d_Desk_times_98 ?_
    refine g_get hC fb_Desk_53 hF5.1 rfl d_Desk_times_99 ?_
    refine g_iadd hC d_Desk_times_102 ?_
    refine g_put hC fb_Desk_53 D5.m rfl rfl (Nat.le_of_ble_eq_true rfl) d_Desk_times_103 ?_
    have D6 := D5.sm (mi' := (mi != mo)) (un' := un + uo)
    have hA6 := hA5.sm (d := d) (e := oO 1 [.ref (d + 2), .ref (d + 4), iv (bz (mi != mo)), iv (un + uo)]) (by omega) (by omega)
    have hB6 := hB5.sm (d := d) (e := oO 1 [.ref (d + 2), .ref (d + 4), iv (bz (mi != mo)), iv (un + uo)]) (by omega) (by omega)
    have F6 := F5.sm (e := oO 1 [.ref (d + 2), .ref (d + 4), iv (bz (mi != mo)), iv (un + uo)])
    show G X 0 0 (ups M5 (d + 1) (oO 1 [.ref (d + 2), .ref (d + 4), iv (bz (mi != mo)), iv (un + uo)])) 106 _ _
    generalize ups M5 (d + 1) (oO 1 [.ref (d + 2), .ref (d + 4), iv (bz (mi != mo)), iv (un + uo)]) = M6 at *
    refine g_aload_n hC rfl d_Desk_times_106 ?_
    refine g_callV0 hC (sp_Desk_reduce D6 hA6 hB6 hpos t1 t2 m4) oc_Desk_reduce ov_Desk_reduce ml_Desk_57 D6.o rfl hR (Nat.le_of_ble_eq_true rfl) (Nat.le_of_ble_eq_true rfl) (Nat.le_of_ble_eq_true rfl) (Nat.le_of_ble_eq_true rfl) (Nat.le_of_ble_eq_true rfl) d_Desk_times_107 (fun r M7 hp => ?_)
    obtain ⟨rfl, h7, f7⟩ := hp
    refine g_s0 ?_
    rw [← mul_eq qx qy] at h7
    refine g_vret hC hQ (by decide) (by decide) d_Desk_times_110 ⟨rfl, h7, F6.trans f7⟩
  refine g_aload_n hC rfl d_Desk_times_64 ?_
  refine g_get hC fb_Desk_14 D4.o rfl d_Desk_times_65 ?_
  refine g_aload_n hC rfl d_Desk_times_68 ?_
  refine g_get hC fb_Desk_14 D4.o rfl d_Desk_times_69 ?_
  refine g_get hC fb_Desk_49 D4.m rfl d_Desk_times_72 ?_
  refine g_aload_n hC rfl d_Desk_times_75 ?_
  refine g_get hC fb_Desk_49 hF4.1 rfl d_Desk_times_76 ?_
  refine g_icmp_eq hC (bz_I _) (bz_I _) d_Desk_times_79 (fun hc => ?_) (fun hc => ?_)
  · have := bz_eq.mp hc
    refine g_iconst hC d_Desk_times_86 ?_
    rw [show bz (mi != mo) = 0 by rw [this]; simp [bz]] at J
    exact J
  · have : mi ≠ mo := fun h => hc (congrArg bz h)
    refine g_iconst hC d_Desk_times_82 ?_
    refine g_goto hC d_Desk_times_83 ?_
    rw [show bz (mi != mo) = 1 by cases mi <;> cases mo <;> simp [bz] at *] at J
    exact J
theorem d_Desk_over_0 : dn m_Desk_over.2.1 0 (.aload_n 0) 1 1 := ⟨by decide +kernel, rfl⟩
theorem d_Desk_over_1 : dn m_Desk_over.2.1 1 (.getfield 23) 3 4 := ⟨by decide +kernel, rfl⟩
theorem d_Desk_over_4 : dn m_Desk_over.2.1 4 (.aload_n 0) 1 5 := ⟨by decide +kernel, rfl⟩
theorem d_Desk_over_5 : dn m_Desk_over.2.1 5 (.getfield 14) 3 8 := ⟨by decide +kernel, rfl⟩
theorem d_Desk_over_8 : dn m_Desk_over.2.1 8 (.getfield 39) 3 11 := ⟨by decide +kernel, rfl⟩
theorem d_Desk_over_11 : dn m_Desk_over.2.1 11 (.aload_n 1) 1 12 := ⟨by decide +kernel, rfl⟩
theorem d_Desk_over_12 : dn m_Desk_over.2.1 12 (.getfield 46) 3 15 := ⟨by decide +kernel, rfl⟩
theorem d_Desk_over_15 : dn m_Desk_over.2.1 15 (.invokevirtual 72) 3 18 := ⟨by decide +kernel, rfl⟩
theorem d_Desk_over_18 : dn m_Desk_over.2.1 18 (.aload_n 0) 1 19 := ⟨by decide +kernel, rfl⟩
theorem d_Desk_over_19 : dn m_Desk_over.2.1 19 (.getfield 14) 3 22 := ⟨by decide +kernel, rfl⟩
theorem d_Desk_over_22 : dn m_Desk_over.2.1 22 (.getfield 39) 3 25 := ⟨by decide +kernel, rfl⟩
theorem d_Desk_over_25 : dn m_Desk_over.2.1 25 (.aload_n 0) 1 26 := ⟨by decide +kernel, rfl⟩
theorem d_Desk_over_26 : dn m_Desk_over.2.1 26 (.getfield 23) 3 29 := ⟨by decide +kernel, rfl⟩
theorem d_Desk_over_29 : dn m_Desk_over.2.1 29 (.invokevirtual 64) 3 32 := ⟨by decide +kernel, rfl⟩
theorem d_Desk_over_32 : dn m_Desk_over.2.1 32 (.aload_n 0) 1 33 := ⟨by decide +kernel, rfl⟩
theorem d_Desk_over_33 : dn m_Desk_over.2.1 33 (.getfield 23) 3 36 := ⟨by decide +kernel, rfl⟩
theorem d_Desk_over_36 : dn m_Desk_over.2.1 36 (.aload_n 0) 1 37 := ⟨by decide +kernel, rfl⟩
theorem d_Desk_over_37 : dn m_Desk_over.2.1 37 (.getfield 14) 3 40 := ⟨by decide +kernel, rfl⟩
theorem d_Desk_over_40 : dn m_Desk_over.2.1 40 (.getfield 46) 3 43 := ⟨by decide +kernel, rfl⟩
theorem d_Desk_over_43 : dn m_Desk_over.2.1 43 (.aload_n 1) 1 44 := ⟨by decide +kernel, rfl⟩
theorem d_Desk_over_44 : dn m_Desk_over.2.1 44 (.getfield 39) 3 47 := ⟨by decide +kernel, rfl⟩
theorem d_Desk_over_47 : dn m_Desk_over.2.1 47 (.invokevirtual 72) 3 50 := ⟨by decide +kernel, rfl⟩
theorem d_Desk_over_50 : dn m_Desk_over.2.1 50 (.aload_n 0) 1 51 := ⟨by decide +kernel, rfl⟩
theorem d_Desk_over_51 : dn m_Desk_over.2.1 51 (.getfield 14) 3 54 := ⟨by decide +kernel, rfl⟩
theorem d_Desk_over_54 : dn m_Desk_over.2.1 54 (.getfield 46) 3 57 := ⟨by decide +kernel, rfl⟩
theorem d_Desk_over_57 : dn m_Desk_over.2.1 57 (.aload_n 0) 1 58 := ⟨by decide +kernel, rfl⟩
theorem d_Desk_over_58 : dn m_Desk_over.2.1 58 (.getfield 23) 3 61 := ⟨by decide +kernel, rfl⟩
theorem d_Desk_over_61 : dn m_Desk_over.2.1 61 (.invokevirtual 64) 3 64 := ⟨by decide +kernel, rfl⟩
theorem d_Desk_over_64 : dn m_Desk_over.2.1 64 (.aload_n 0) 1 65 := ⟨by decide +kernel, rfl⟩
theorem d_Desk_over_65 : dn m_Desk_over.2.1 65 (.getfield 14) 3 68 := ⟨by decide +kernel, rfl⟩
theorem d_Desk_over_68 : dn m_Desk_over.2.1 68 (.aload_n 0) 1 69 := ⟨by decide +kernel, rfl⟩
theorem d_Desk_over_69 : dn m_Desk_over.2.1 69 (.getfield 14) 3 72 := ⟨by decide +kernel, rfl⟩
theorem d_Desk_over_72 : dn m_Desk_over.2.1 72 (.getfield 49) 3 75 := ⟨by decide +kernel, rfl⟩
theorem d_Desk_over_75 : dn m_Desk_over.2.1 75 (.aload_n 1) 1 76 := ⟨by decide +kernel, rfl⟩
theorem d_Desk_over_76 : dn m_Desk_over.2.1 76 (.getfield 49) 3 79 := ⟨by decide +kernel, rfl⟩
theorem d_Desk_over_79 : db m_Desk_over.2.1 79 (.if_icmp .eq) 86 82 := ⟨7, by decide +kernel, by decide, rfl⟩
theorem d_Desk_over_82 : dn m_Desk_over.2.1 82 (.iconst 1) 1 83 := ⟨by decide +kernel, rfl⟩
theorem d_Desk_over_83 : db m_Desk_over.2.1 83 (.goto) 87 86 := ⟨4, by decide +kernel, by decide, rfl⟩
theorem d_Desk_over_86 : dn m_Desk_over.2.1 86 (.iconst 0) 1 87 := ⟨by decide +kernel, rfl⟩
theorem d_Desk_over_87 : dn m_Desk_over.2.1 87 (.putfield 49) 3 90 := ⟨by decide +kernel, rfl⟩
theorem d_Desk_over_90 : dn m_Desk_over.2.1 90 (.aload_n 0) 1 91 := ⟨by decide +kernel, rfl⟩
theorem d_Desk_over_91 : dn m_Desk_over.2.1 91 (.getfield 14) 3 94 := ⟨by decide +kernel, rfl⟩
theorem d_Desk_over_94 : dn m_Desk_over.2.1 94 (.dup) 1 95 := ⟨by decide +kernel, rfl⟩
theorem d_Desk_over_95 : dn m_Desk_over.2.1 95 (.getfield 53) 3 98 := ⟨by decide +kernel, rfl⟩
theorem d_Desk_over_98 : dn m_Desk_over.2.1 98 (.aload_n 1) 1 99 := ⟨by decide +kernel, rfl⟩
theorem d_Desk_over_99 : dn m_Desk_over.2.1 99 (.getfield 53) 3 102 := ⟨by decide +kernel, rfl⟩
theorem d_Desk_over_102 : dn m_Desk_over.2.1 102 (.isub) 1 103 := ⟨by decide +kernel, rfl⟩
theorem d_Desk_over_103 : dn m_Desk_over.2.1 103 (.putfield 53) 3 106 := ⟨by decide +kernel, rfl⟩
theorem d_Desk_over_106 : dn m_Desk_over.2.1 106 (.aload_n 0) 1 107 := ⟨by decide +kernel, rfl⟩
theorem d_Desk_over_107 : dn m_Desk_over.2.1 107 (.invokevirtual 57) 3 110 := ⟨by decide +kernel, rfl⟩
theorem d_Desk_over_110 : dn m_Desk_over.2.1 110 (.return_) 1 111 := ⟨by decide +kernel, rfl⟩
theorem sp_Desk_over {l : Launch} {K : KC} {M : AH} {d p cap i j i' j' m : Nat} {x y : Rat} {un uo : Int} (hm : mdx K M d x un) (ho : opx K M p cap y uo) (hy : y ≠ 0) (hdis : p + 5 ≤ d ∨ d + 14 ≤ p) (hcap : cap ≤ 1000) (bx : bdq x i j) (bY : bdq y i' j') (m1 : i + j' ≤ m) (m2 : j + i' ≤ m) (m4 : m ≤ 730) :
    Sp l K m_Desk_over 4 0 0 [.ref d, .ref p] M (fun r M' => r = none ∧ mdx K M' d (x / y) (un - uo) ∧ frM M M' d) := by
  refine Sp.ofG R_Desk rfl (by decide) [some (.ref d), some (.ref p)] rfl (Nat.le_of_ble_eq_true rfl) ?_
  intro X hl hK hN hR hC hQ
  subst hl hK
  obtain ⟨mi, a, b, hD, hA, hB, qx⟩ := hm
  obtain ⟨mo, c, e, hF, qy⟩ := ho
  have hc0 : c ≠ 0 := fun h => hy (Rat.num_eq_zero.mp (by have := qy.1; omega))
  have b1 := qx.bd bx
  have b2 := qy.bd bY
  have t1 : ((a * e : Nat) : Int) < pw m := Int.lt_of_lt_of_le (mul_lt_pw b1.1 b2.2) (pow_le m1)
  have t2 : ((b * c : Nat) : Int) < pw m := Int.lt_of_lt_of_le (mul_lt_pw b1.2 b2.1) (pow_le m2)
  have hpos : 0 < b * c := Nat.mul_pos qx.pos (by omega)
  have up := fun {v : Nat} (h : (v : Int) < pw m) => Int.lt_of_lt_of_le h (pow_le (show m ≤ 740 by omega))
  refine g_aload_n hC rfl d_Desk_over_0 ?_
  refine g_get hC fb_Desk_23 hD.o rfl d_Desk_over_1 ?_
  refine g_aload_n hC rfl d_Desk_over_4 ?_
  refine g_get hC fb_Desk_14 hD.o rfl d_Desk_over_5 ?_
  refine g_get hC fb_Desk_39 hD.m rfl d_Desk_over_8 ?_
  refine g_aload_n hC rfl d_Desk_over_11 ?_
  refine g_get hC fb_Desk_46 hF.1 rfl d_Desk_over_12 ?_
  refine g_callV2 hC (sp_Whole_multiply hD.x hA hF.2.2 (by omega) (by omega) b1.1 b2.2 (by omega) (by decide) (by decide) hcap) oc_Whole_multiply ov_Whole_multiply ml_Desk_72 hD.x.rc.choose_spec rfl hR (Nat.le_of_ble_eq_true rfl) (Nat.le_of_ble_eq_true rfl) (Nat.le_of_ble_eq_true rfl) (Nat.le_of_ble_eq_true rfl) (Nat.le_of_ble_eq_true rfl) d_Desk_over_15 (fun r M1 hp => ?_)
  obtain ⟨rfl, hX1, f1⟩ := hp
  refine g_s0 ?_
  have D1 := hD.fw i6 f1 hX1.tox
  have F1 := (frM.rf).fw i6 f1
  have hB1 := hB.fr f1 (by omega) (by omega) (by omega)
  have hF1 := hF.eq (M' := M1) (fun z z1 z2 => F1.2 z (by omega))
  refine g_aload_n hC rfl d_Desk_over_18 ?_
  refine g_get hC fb_Desk_14 D1.o rfl d_Desk_over_19 ?_
  refine g_get hC fb_Desk_39 D1.m rfl d_Desk_over_22 ?_
  refine g_aload_n hC rfl d_Desk_over_25 ?_
  refine g_get hC fb_Desk_23 D1.o rfl d_Desk_over_26 ?_
  refine g_callV1 hC (sp_Whole_copy D1.a hX1 (up t1) (by omega) (by decide) (by decide)) oc_Whole_copy ov_Whole_copy ml_Desk_64 D1.a.rc.choose_spec rfl hR (Nat.le_of_ble_eq_true rfl) (Nat.le_of_ble_eq_true rfl) (Nat.le_of_ble_eq_true rfl) (Nat.le_of_ble_eq_true rfl) (Nat.le_of_ble_eq_true rfl) d_Desk_over_29 (fun r M2 hp => ?_)
  obtain ⟨rfl, hA2, f2⟩ := hp
  refine g_s0 ?_
  have D2 := D1.fw i2 f2 hA2.tox
  have F2 := F1.fw i2 f2
  have hB2 := hB1.fr f2 (by omega) (by omega) (by omega)
  have hF2 := hF.eq (M' := M2) (fun z z1 z2 => F2.2 z (by omega))
  refine g_aload_n hC rfl d_Desk_over_32 ?_
  refine g_get hC fb_Desk_23 D2.o rfl d_Desk_over_33 ?_
  refine g_aload_n hC rfl d_Desk_over_36 ?_
  refine g_get hC fb_Desk_14 D2.o rfl d_Desk_over_37 ?_
  refine g_get hC fb_Desk_46 D2.m rfl d_Desk_over_40 ?_
  refine g_aload_n hC rfl d_Desk_over_43 ?_
  refine g_get hC fb_Desk_39 hF2.1 rfl d_Desk_over_44 ?_
  refine g_callV2 hC (sp_Whole_multiply D2.x hB2 hF2.2.1 (by omega) (by omega) b1.2 b2.1 (by omega) (by decide) (by decide) hcap) oc_Whole_multiply ov_Whole_multiply ml_Desk_72 D2.x.rc.choose_spec rfl hR (Nat.le_of_ble_eq_true rfl) (Nat.le_of_ble_eq_true rfl) (Nat.le_of_ble_eq_true rfl) (Nat.le_of_ble_eq_true rfl) (Nat.le_of_ble_eq_true rfl) d_Desk_over_47 (fun r M3 hp => ?_)
  obtain ⟨rfl, hX3, f3⟩ := hp
  refine g_s0 ?_
  have D3 := D2.fw i6 f3 hX3.tox
  have F3 := F2.fw i6 f3
  have hA3 := hA2.fr f3 (by omega) (by omega) (by omega)
  refine g_aload_n hC rfl d_Desk_over_50 ?_
  refine g_get hC fb_Desk_14 D3.o rfl d_Desk_over_51 ?_
  refine g_get hC fb_Desk_46 D3.m rfl d_Desk_over_54 ?_
  refine g_aload_n hC rfl d_Desk_over_57 ?_
  refine g_get hC fb_Desk_23 D3.o rfl d_Desk_over_58 ?_
  refine g_callV1 hC (sp_Whole_copy D3.b hX3 (up t2) (by omega) (by decide) (by decide)) oc_Whole_copy ov_Whole_copy ml_Desk_64 D3.b.rc.choose_spec rfl hR (Nat.le_of_ble_eq_true rfl) (Nat.le_of_ble_eq_true rfl) (Nat.le_of_ble_eq_true rfl) (Nat.le_of_ble_eq_true rfl) (Nat.le_of_ble_eq_true rfl) d_Desk_over_61 (fun r M4 hp => ?_)
  obtain ⟨rfl, hB4, f4⟩ := hp
  refine g_s0 ?_
  have D4 := D3.fw i4 f4 hB4.tox
  have F4 := F3.fw i4 f4
  have hA4 := hA3.fr f4 (by omega) (by omega) (by omega)
  have hF4 := hF.eq (M' := M4) (fun z z1 z2 => F4.2 z (by omega))
  clear D1 D2 D3 F1 F2 F3 f1 f2 f3 f4 hX1 hX3 hA2 hA3 hB1 hB2 hF1 hF2
  have J : G X 0 0 M4 87 [some (.ref d), some (.ref p)] [iv (bz (mi != mo)), .ref (d + 1)] := by
    refine g_put hC fb_Desk_49 D4.m (nar_b _) (fit_b _) (Nat.le_of_ble_eq_true rfl) d_Desk_over_87 ?_
    have D5 := D4.sm (mi' := (mi != mo)) (un' := un)
    have hA5 := hA4.sm (d := d) (e := oO 1 [.ref (d + 2), .ref (d + 4), iv (bz (mi != mo)), iv un]) (by omega) (by omega)
    have hB5 := hB4.sm (d := d) (e := oO 1 [.ref (d + 2), .ref (d + 4), iv (bz (mi != mo)), iv un]) (by omega) (by omega)
    have F5 := F4.sm (e := oO 1 [.ref (d + 2), .ref (d + 4), iv (bz (mi != mo)), iv un])
    show G X 0 0 (ups M4 (d + 1) (oO 1 [.ref (d + 2), .ref (d + 4), iv (bz (mi != mo)), iv un])) 90 _ _
    generalize ups M4 (d + 1) (oO 1 [.ref (d + 2), .ref (d + 4), iv (bz (mi != mo)), iv un]) = M5 at *
    have hF5 := hF.eq (M' := M5) (fun z z1 z2 => F5.2 z (by omega))
    refine g_aload_n hC rfl d_Desk_over_90 ?_
    refine g_get hC fb_Desk_14 D5.o rfl d_Desk_over_91 ?_
    refine g_dup hC rfl d_Desk_over_94 ?_
    refine g_get hC fb_Desk_53 D5.m rfl d_Desk_over_95 ?_
    refine g_aload_n hC rfl d_Desk_over_98 ?_
    refine g_get hC fb_Desk_53 hF5.1 rfl d_Desk_over_99 ?_
    refine g_isub hC d_Desk_over_102 ?_
    refine g_put hC fb_Desk_53 D5.m rfl rfl (Nat.le_of_ble_eq_true rfl) d_Desk_over_103 ?_
    have D6 := D5.sm (mi' := (mi != mo)) (un' := un - uo)
    have hA6 := hA5.sm (d := d) (e := oO 1 [.ref (d + 2), .ref (d + 4), iv (bz (mi != mo)), iv (un - uo)]) (by omega) (by omega)
    have hB6 := hB5.sm (d := d) (e := oO 1 [.ref (d + 2), .ref (d + 4), iv (bz (mi != mo)), iv (un - uo)]) (by omega) (by omega)
    have F6 := F5.sm (e := oO 1 [.ref (d + 2), .ref (d + 4), iv (bz (mi != mo)), iv (un - uo)])
    show G X 0 0 (ups M5 (d + 1) (oO 1 [.ref (d + 2), .ref (d + 4), iv (bz (mi != mo)), iv (un - uo)])) 106 _ _
    generalize ups M5 (d + 1) (oO 1 [.ref (d + 2), .ref (d + 4), iv (bz (mi != mo)), iv (un - uo)]) = M6 at *
    refine g_aload_n hC rfl d_Desk_over_106 ?_
    refine g_callV0 hC (sp_Desk_reduce D6 hA6 hB6 hpos t1 t2 m4) oc_Desk_reduce ov_Desk_reduce ml_Desk_57 D6.o rfl hR (Nat.le_of_ble_eq_true rfl) (Nat.le_of_ble_eq_true rfl) (Nat.le_of_ble_eq_true rfl) (Nat.le_of_ble_eq_true rfl) (Nat.le_of_ble_eq_true rfl) d_Desk_over_107 (fun r M7 hp => ?_)
    obtain ⟨rfl, h7, f7⟩ := hp
    refine g_s0 ?_
    rw [← div_eq qx qy hc0] at h7
    refine g_vret hC hQ (by decide) (by decide) d_Desk_over_110 ⟨rfl, h7, F6.trans f7⟩
  refine g_aload_n hC rfl d_Desk_over_64 ?_
  refine g_get hC fb_Desk_14 D4.o rfl d_Desk_over_65 ?_
  refine g_aload_n hC rfl d_Desk_over_68 ?_
  refine g_get hC fb_Desk_14 D4.o rfl d_Desk_over_69 ?_
  refine g_get hC fb_Desk_49 D4.m rfl d_Desk_over_72 ?_
  refine g_aload_n hC rfl d_Desk_over_75 ?_
  refine g_get hC fb_Desk_49 hF4.1 rfl d_Desk_over_76 ?_
  refine g_icmp_eq hC (bz_I _) (bz_I _) d_Desk_over_79 (fun hc => ?_) (fun hc => ?_)
  · have := bz_eq.mp hc
    refine g_iconst hC d_Desk_over_86 ?_
    rw [show bz (mi != mo) = 0 by rw [this]; simp [bz]] at J
    exact J
  · have : mi ≠ mo := fun h => hc (congrArg bz h)
    refine g_iconst hC d_Desk_over_82 ?_
    refine g_goto hC d_Desk_over_83 ?_
    rw [show bz (mi != mo) = 1 by cases mi <;> cases mo <;> simp [bz] at *] at J
    exact J
theorem d_Desk_timesI_0 : dn m_Desk_timesI.2.1 0 (.aload_n 0) 1 1 := ⟨by decide +kernel, rfl⟩
theorem d_Desk_timesI_1 : dn m_Desk_timesI.2.1 1 (.getfield 14) 3 4 := ⟨by decide +kernel, rfl⟩
theorem d_Desk_timesI_4 : dn m_Desk_timesI.2.1 4 (.getfield 39) 3 7 := ⟨by decide +kernel, rfl⟩
theorem d_Desk_timesI_7 : dn m_Desk_timesI.2.1 7 (.iload_n 1) 1 8 := ⟨by decide +kernel, rfl⟩
theorem d_Desk_timesI_8 : dn m_Desk_timesI.2.1 8 (.invokevirtual 86) 3 11 := ⟨by decide +kernel, rfl⟩
theorem d_Desk_timesI_11 : dn m_Desk_timesI.2.1 11 (.aload_n 0) 1 12 := ⟨by decide +kernel, rfl⟩
theorem d_Desk_timesI_12 : dn m_Desk_timesI.2.1 12 (.invokevirtual 57) 3 15 := ⟨by decide +kernel, rfl⟩
theorem d_Desk_timesI_15 : dn m_Desk_timesI.2.1 15 (.return_) 1 16 := ⟨by decide +kernel, rfl⟩
theorem sp_Desk_timesI {l : Launch} {K : KC} {M : AH} {d i k : Nat} {x : Rat} {un : Int} (hm : mdx K M d x un) (hk : k ≤ 1000000000) (bx : bdq x i i) (hi : i + 2 ≤ 730) :
    Sp l K m_Desk_timesI 4 0 0 [.ref d, iv k] M (fun r M' => r = none ∧ mdx K M' d (x * (k : Rat)) un ∧ frM M M' d) := by
  refine Sp.ofG R_Desk rfl (by decide) [some (.ref d), some (iv k)] rfl (Nat.le_of_ble_eq_true rfl) ?_
  intro X hl hK hN hR hC hQ
  subst hl hK
  obtain ⟨mi, a, b, hD, hA, hB, qx⟩ := hm
  have b1 := qx.bd bx
  have hk2 : (k : Int) < pw 2 := by
    have : pw 2 = 1000000000000000000 := by decide
    omega
  have t1 := mul_lt_pw b1.1 hk2
  refine g_aload_n hC rfl d_Desk_timesI_0 ?_
  refine g_get hC fb_Desk_14 hD.o rfl d_Desk_timesI_1 ?_
  refine g_get hC fb_Desk_39 hD.m rfl d_Desk_timesI_4 ?_
  refine g_iload_n hC rfl d_Desk_timesI_7 ?_
  refine g_callV1 hC (sp_Whole_times hA hk (Int.lt_of_lt_of_le t1 (pow_le (by omega))) (by decide)) oc_Whole_times ov_Whole_times ml_Desk_86 hA.rc.choose_spec rfl hR (Nat.le_of_ble_eq_true rfl) (Nat.le_of_ble_eq_true rfl) (Nat.le_of_ble_eq_true rfl) (Nat.le_of_ble_eq_true rfl) (Nat.le_of_ble_eq_true rfl) d_Desk_timesI_8 (fun r M1 hp => ?_)
  obtain ⟨rfl, hA1, f1⟩ := hp
  refine g_s0 ?_
  have D1 := hD.fw i2 f1 hA1.tox
  have F1 := (frM.rf).fw i2 f1
  have hB1 := hB.fr f1 (by omega) (by omega) (by omega)
  refine g_aload_n hC rfl d_Desk_timesI_11 ?_
  refine g_callV0 hC (sp_Desk_reduce D1 hA1 hB1 qx.pos t1 (Int.lt_of_lt_of_le b1.2 (pow_le (by omega))) hi) oc_Desk_reduce ov_Desk_reduce ml_Desk_57 D1.o rfl hR (Nat.le_of_ble_eq_true rfl) (Nat.le_of_ble_eq_true rfl) (Nat.le_of_ble_eq_true rfl) (Nat.le_of_ble_eq_true rfl) (Nat.le_of_ble_eq_true rfl) d_Desk_timesI_12 (fun r M2 hp => ?_)
  obtain ⟨rfl, h2, f2⟩ := hp
  refine g_s0 ?_
  rw [← tim_eq qx] at h2
  refine g_vret hC hQ (by decide) (by decide) d_Desk_timesI_15 ⟨rfl, h2, F1.trans f2⟩
def dkx (K : KC) (M : AH) (d : Nat) : Prop := ∃ (mi : Bool) (un : Int), DK K M d mi un
theorem mdx.x {K : KC} {M : AH} {d : Nat} {x : Rat} {un : Int} (h : mdx K M d x un) : dkx K M d := by
  obtain ⟨mi, a, b, hD, _⟩ := h
  exact ⟨mi, un, hD⟩
theorem sgn_I (mi : Bool) (a : Nat) : I32 (sgn mi a) := by
  unfold I32
  rcases sgn_in mi a with h | h | h <;> rw [h] <;> omega
theorem d_Desk_against_0 : dn m_Desk_against.2.1 0 (.aload_n 1) 1 1 := ⟨by decide +kernel, rfl⟩
theorem d_Desk_against_1 : dn m_Desk_against.2.1 1 (.invokevirtual 89) 3 4 := ⟨by decide +kernel, rfl⟩
theorem d_Desk_against_4 : dn m_Desk_against.2.1 4 (.aload_n 2) 1 5 := ⟨by decide +kernel, rfl⟩
theorem d_Desk_against_5 : dn m_Desk_against.2.1 5 (.invokevirtual 89) 3 8 := ⟨by decide +kernel, rfl⟩
theorem d_Desk_against_8 : db m_Desk_against.2.1 8 (.if_icmp .eq) 23 11 := ⟨15, by decide +kernel, by decide, rfl⟩
theorem d_Desk_against_11 : dn m_Desk_against.2.1 11 (.aload_n 1) 1 12 := ⟨by decide +kernel, rfl⟩
theorem d_Desk_against_12 : dn m_Desk_against.2.1 12 (.invokevirtual 89) 3 15 := ⟨by decide +kernel, rfl⟩
theorem d_Desk_against_15 : dn m_Desk_against.2.1 15 (.aload_n 2) 1 16 := ⟨by decide +kernel, rfl⟩
theorem d_Desk_against_16 : dn m_Desk_against.2.1 16 (.invokevirtual 89) 3 19 := ⟨by decide +kernel, rfl⟩
theorem d_Desk_against_19 : dn m_Desk_against.2.1 19 (.invokestatic 93) 3 22 := ⟨by decide +kernel, rfl⟩
theorem d_Desk_against_22 : dn m_Desk_against.2.1 22 (.ireturn) 1 23 := ⟨by decide +kernel, rfl⟩
theorem d_Desk_against_23 : dn m_Desk_against.2.1 23 (.aload_n 0) 1 24 := ⟨by decide +kernel, rfl⟩
theorem d_Desk_against_24 : dn m_Desk_against.2.1 24 (.getfield 23) 3 27 := ⟨by decide +kernel, rfl⟩
theorem d_Desk_against_27 : dn m_Desk_against.2.1 27 (.aload_n 1) 1 28 := ⟨by decide +kernel, rfl⟩
theorem d_Desk_against_28 : dn m_Desk_against.2.1 28 (.getfield 39) 3 31 := ⟨by decide +kernel, rfl⟩
theorem d_Desk_against_31 : dn m_Desk_against.2.1 31 (.aload_n 2) 1 32 := ⟨by decide +kernel, rfl⟩
theorem d_Desk_against_32 : dn m_Desk_against.2.1 32 (.getfield 46) 3 35 := ⟨by decide +kernel, rfl⟩
theorem d_Desk_against_35 : dn m_Desk_against.2.1 35 (.invokevirtual 72) 3 38 := ⟨by decide +kernel, rfl⟩
theorem d_Desk_against_38 : dn m_Desk_against.2.1 38 (.aload_n 0) 1 39 := ⟨by decide +kernel, rfl⟩
theorem d_Desk_against_39 : dn m_Desk_against.2.1 39 (.getfield 27) 3 42 := ⟨by decide +kernel, rfl⟩
theorem d_Desk_against_42 : dn m_Desk_against.2.1 42 (.aload_n 2) 1 43 := ⟨by decide +kernel, rfl⟩
theorem d_Desk_against_43 : dn m_Desk_against.2.1 43 (.getfield 39) 3 46 := ⟨by decide +kernel, rfl⟩
theorem d_Desk_against_46 : dn m_Desk_against.2.1 46 (.aload_n 1) 1 47 := ⟨by decide +kernel, rfl⟩
theorem d_Desk_against_47 : dn m_Desk_against.2.1 47 (.getfield 46) 3 50 := ⟨by decide +kernel, rfl⟩
theorem d_Desk_against_50 : dn m_Desk_against.2.1 50 (.invokevirtual 72) 3 53 := ⟨by decide +kernel, rfl⟩
theorem d_Desk_against_53 : dn m_Desk_against.2.1 53 (.aload_n 1) 1 54 := ⟨by decide +kernel, rfl⟩
theorem d_Desk_against_54 : dn m_Desk_against.2.1 54 (.getfield 49) 3 57 := ⟨by decide +kernel, rfl⟩
theorem d_Desk_against_57 : db m_Desk_against.2.1 57 (.ifCond .eq) 74 60 := ⟨17, by decide +kernel, by decide, rfl⟩
theorem d_Desk_against_60 : dn m_Desk_against.2.1 60 (.aload_n 0) 1 61 := ⟨by decide +kernel, rfl⟩
theorem d_Desk_against_61 : dn m_Desk_against.2.1 61 (.getfield 27) 3 64 := ⟨by decide +kernel, rfl⟩
theorem d_Desk_against_64 : dn m_Desk_against.2.1 64 (.aload_n 0) 1 65 := ⟨by decide +kernel, rfl⟩
theorem d_Desk_against_65 : dn m_Desk_against.2.1 65 (.getfield 23) 3 68 := ⟨by decide +kernel, rfl⟩
theorem d_Desk_against_68 : dn m_Desk_against.2.1 68 (.invokevirtual 79) 3 71 := ⟨by decide +kernel, rfl⟩
theorem d_Desk_against_71 : db m_Desk_against.2.1 71 (.goto) 85 74 := ⟨14, by decide +kernel, by decide, rfl⟩
theorem d_Desk_against_74 : dn m_Desk_against.2.1 74 (.aload_n 0) 1 75 := ⟨by decide +kernel, rfl⟩
theorem d_Desk_against_75 : dn m_Desk_against.2.1 75 (.getfield 23) 3 78 := ⟨by decide +kernel, rfl⟩
theorem d_Desk_against_78 : dn m_Desk_against.2.1 78 (.aload_n 0) 1 79 := ⟨by decide +kernel, rfl⟩
theorem d_Desk_against_79 : dn m_Desk_against.2.1 79 (.getfield 27) 3 82 := ⟨by decide +kernel, rfl⟩
theorem d_Desk_against_82 : dn m_Desk_against.2.1 82 (.invokevirtual 79) 3 85 := ⟨by decide +kernel, rfl⟩
theorem d_Desk_against_85 : dn m_Desk_against.2.1 85 (.ireturn) 1 86 := ⟨by decide +kernel, rfl⟩
theorem sp_Desk_against {l : Launch} {K : KC} {M : AH} {d p r cap cr i j i' j' : Nat} {x y : Rat} {un ux uy : Int} {mi0 : Bool} (hD : DK K M d mi0 un) (hx : opx K M p cap x ux) (hy : opx K M r cr y uy) (hdp : p + 5 ≤ d ∨ d + 14 ≤ p) (hdr : r + 5 ≤ d ∨ d + 14 ≤ r) (hcap : cap ≤ 1000) (hcr : cr ≤ 1000) (bx : bdq x i j) (bY : bdq y i' j') (m1 : i + j' ≤ 740) (m2 : i' + j ≤ 740) :
    Sp l K m_Desk_against 2 0 0 [.ref d, .ref p, .ref r] M (fun v M' => v = some (iv (czr x y)) ∧ DK K M' d mi0 un ∧ frM M M' d) := by
  refine Sp.ofG R_Desk rfl (by decide) [some (.ref d), some (.ref p), some (.ref r)] rfl (Nat.le_of_ble_eq_true rfl) ?_
  intro X hl hK hN hR hC hQ
  subst hl hK
  obtain ⟨mi, a, b, hF, qx⟩ := hx
  obtain ⟨mo, c, e, hE, qy⟩ := hy
  have b1 := qx.bd bx
  have b2 := qy.bd bY
  rw [czr_sgn qx qy] at hQ
  refine g_aload_n hC rfl d_Desk_against_0 ?_
  refine g_callV0 hC (sp_Frac_sign hF hcap) oc_Frac_sign ov_Frac_sign ml_Desk_89 hF.1 rfl hR (Nat.le_of_ble_eq_true rfl) (Nat.le_of_ble_eq_true rfl) (Nat.le_of_ble_eq_true rfl) (Nat.le_of_ble_eq_true rfl) (Nat.le_of_ble_eq_true rfl) d_Desk_against_1 (fun r M hp => ?_)
  obtain ⟨rfl, rfl⟩ := hp
  refine g_sv ?_
  refine g_aload_n hC rfl d_Desk_against_4 ?_
  refine g_callV0 hC (sp_Frac_sign hE hcr) oc_Frac_sign ov_Frac_sign ml_Desk_89 hE.1 rfl hR (Nat.le_of_ble_eq_true rfl) (Nat.le_of_ble_eq_true rfl) (Nat.le_of_ble_eq_true rfl) (Nat.le_of_ble_eq_true rfl) (Nat.le_of_ble_eq_true rfl) d_Desk_against_5 (fun r M hp => ?_)
  obtain ⟨rfl, rfl⟩ := hp
  refine g_sv ?_
  show G X 0 0 M 8 _ [iv (sgn mo c), iv (sgn mi a)]
  refine g_icmp_eq hC (sgn_I _ _) (sgn_I _ _) d_Desk_against_8 (fun hc => ?_) (fun hc => ?_)
  · rw [if_neg (fun h => h hc)] at hQ
    refine g_aload_n hC rfl d_Desk_against_23 ?_
    refine g_get hC fb_Desk_23 hD.o rfl d_Desk_against_24 ?_
    refine g_aload_n hC rfl d_Desk_against_27 ?_
    refine g_get hC fb_Desk_39 hF.1 rfl d_Desk_against_28 ?_
    refine g_aload_n hC rfl d_Desk_against_31 ?_
    refine g_get hC fb_Desk_46 hE.1 rfl d_Desk_against_32 ?_
    refine g_callV2 hC (sp_Whole_multiply hD.x hF.2.1 hE.2.2 (by omega) (by omega) b1.1 b2.2 (by omega) (by decide) hcap hcr) oc_Whole_multiply ov_Whole_multiply ml_Desk_72 hD.x.rc.choose_spec rfl hR (Nat.le_of_ble_eq_true rfl) (Nat.le_of_ble_eq_true rfl) (Nat.le_of_ble_eq_true rfl) (Nat.le_of_ble_eq_true rfl) (Nat.le_of_ble_eq_true rfl) d_Desk_against_35 (fun r M1 hp => ?_)
    obtain ⟨rfl, hX1, f1⟩ := hp
    refine g_s0 ?_
    have D1 := hD.fw i6 f1 hX1.tox
    have F1 := (frM.rf).fw i6 f1
    have hF1 := hF.eq (M' := M1) (fun z z1 z2 => F1.2 z (by omega))
    have hE1 := hE.eq (M' := M1) (fun z z1 z2 => F1.2 z (by omega))
    refine g_aload_n hC rfl d_Desk_against_38 ?_
    refine g_get hC fb_Desk_27 D1.o rfl d_Desk_against_39 ?_
    refine g_aload_n hC rfl d_Desk_against_42 ?_
    refine g_get hC fb_Desk_39 hE1.1 rfl d_Desk_against_43 ?_
    refine g_aload_n hC rfl d_Desk_against_46 ?_
    refine g_get hC fb_Desk_46 hF1.1 rfl d_Desk_against_47 ?_
    refine g_callV2 hC (sp_Whole_multiply D1.y hE1.2.1 hF1.2.2 (by omega) (by omega) b2.1 b1.2 (by omega) (by decide) hcr hcap) oc_Whole_multiply ov_Whole_multiply ml_Desk_72 D1.y.rc.choose_spec rfl hR (Nat.le_of_ble_eq_true rfl) (Nat.le_of_ble_eq_true rfl) (Nat.le_of_ble_eq_true rfl) (Nat.le_of_ble_eq_true rfl) (Nat.le_of_ble_eq_true rfl) d_Desk_against_50 (fun r M2 hp => ?_)
    obtain ⟨rfl, hY2, f2⟩ := hp
    refine g_s0 ?_
    have D2 := D1.fw i8 f2 hY2.tox
    have F2 := F1.fw i8 f2
    have hX2 := hX1.fr f2 (by omega) (by omega) (by omega)
    have hF2 := hF.eq (M' := M2) (fun z z1 z2 => F2.2 z (by omega))
    refine g_aload_n hC rfl d_Desk_against_53 ?_
    refine g_get hC fb_Desk_49 hF2.1 rfl d_Desk_against_54 ?_
    refine g_if_eq hC (bz_I _) d_Desk_against_57 (fun c9 => ?_) (fun c9 => ?_)
    · rw [if_neg (fun h => by rw [h, bz_t] at c9; omega)] at hQ
      refine g_aload_n hC rfl d_Desk_against_74 ?_
      refine g_get hC fb_Desk_23 D2.o rfl d_Desk_against_75 ?_
      refine g_aload_n hC rfl d_Desk_against_78 ?_
      refine g_get hC fb_Desk_27 D2.o rfl d_Desk_against_79 ?_
      refine g_callV1 hC (sp_Whole_against hX2 hY2 (by decide) (by decide)) oc_Whole_against ov_Whole_against ml_Desk_79 hX2.rc.choose_spec rfl hR (Nat.le_of_ble_eq_true rfl) (Nat.le_of_ble_eq_true rfl) (Nat.le_of_ble_eq_true rfl) (Nat.le_of_ble_eq_true rfl) (Nat.le_of_ble_eq_true rfl) d_Desk_against_82 (fun r M2 hp => ?_)
      obtain ⟨rfl, rfl⟩ := hp
      refine g_sv ?_
      refine g_iret hC hQ (by decide) (by decide) d_Desk_against_85 ⟨rfl, D2, F2⟩
    · rw [if_pos (by cases mi with | true => rfl | false => exact absurd bz_f c9)] at hQ
      refine g_aload_n hC rfl d_Desk_against_60 ?_
      refine g_get hC fb_Desk_27 D2.o rfl d_Desk_against_61 ?_
      refine g_aload_n hC rfl d_Desk_against_64 ?_
      refine g_get hC fb_Desk_23 D2.o rfl d_Desk_against_65 ?_
      refine g_callV1 hC (sp_Whole_against hY2 hX2 (by decide) (by decide)) oc_Whole_against ov_Whole_against ml_Desk_79 hY2.rc.choose_spec rfl hR (Nat.le_of_ble_eq_true rfl) (Nat.le_of_ble_eq_true rfl) (Nat.le_of_ble_eq_true rfl) (Nat.le_of_ble_eq_true rfl) (Nat.le_of_ble_eq_true rfl) d_Desk_against_68 (fun r M2 hp => ?_)
      obtain ⟨rfl, rfl⟩ := hp
      refine g_sv ?_
      refine g_goto hC d_Desk_against_71 ?_
      refine g_iret hC hQ (by decide) (by decide) d_Desk_against_85 ⟨rfl, D2, F2⟩
  · rw [if_pos hc] at hQ
    refine g_aload_n hC rfl d_Desk_against_11 ?_
    refine g_callV0 hC (sp_Frac_sign hF hcap) oc_Frac_sign ov_Frac_sign ml_Desk_89 hF.1 rfl hR (Nat.le_of_ble_eq_true rfl) (Nat.le_of_ble_eq_true rfl) (Nat.le_of_ble_eq_true rfl) (Nat.le_of_ble_eq_true rfl) (Nat.le_of_ble_eq_true rfl) d_Desk_against_12 (fun r M hp => ?_)
    obtain ⟨rfl, rfl⟩ := hp
    refine g_sv ?_
    refine g_aload_n hC rfl d_Desk_against_15 ?_
    refine g_callV0 hC (sp_Frac_sign hE hcr) oc_Frac_sign ov_Frac_sign ml_Desk_89 hE.1 rfl hR (Nat.le_of_ble_eq_true rfl) (Nat.le_of_ble_eq_true rfl) (Nat.le_of_ble_eq_true rfl) (Nat.le_of_ble_eq_true rfl) (Nat.le_of_ble_eq_true rfl) d_Desk_against_16 (fun r M hp => ?_)
    obtain ⟨rfl, rfl⟩ := hp
    refine g_sv ?_
    show G X 0 0 M 19 _ [iv (sgn mo c), iv (sgn mi a)]
    refine g_callS2 hC (sp_compare (sgn_I _ _) (sgn_I _ _)) oc_Int_compare os_Int_compare ml_Desk_93 hR (Nat.le_of_ble_eq_true rfl) (Nat.le_of_ble_eq_true rfl) (Nat.le_of_ble_eq_true rfl) (Nat.le_of_ble_eq_true rfl) (Nat.le_of_ble_eq_true rfl) d_Desk_against_19 (fun r M hp => ?_)
    obtain ⟨rfl, rfl⟩ := hp
    refine g_sv ?_
    refine g_iret hC hQ (by decide) (by decide) d_Desk_against_22 ⟨rfl, hD, frM.rf⟩
