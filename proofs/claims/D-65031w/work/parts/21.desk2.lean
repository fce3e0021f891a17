/-! Desk: set, add, times, over, against -/
def opx (K : KC) (M : AH) (p cap : Nat) (x : Rat) (un : Int) : Prop := ∃ (mi : Bool) (a b : Nat), isF K M p cap a b mi un ∧ isQ mi a b x
theorem opx.eq {K : KC} {M M' : AH} {p cap : Nat} {x : Rat} {un : Int} (h : opx K M p cap x un) (he : ∀ x, p ≤ x → x < p + 5 → M'.1 x = M.1 x) : opx K M' p cap x un := by
  obtain ⟨mi, a, b, h1, h2⟩ := h
  exact ⟨mi, a, b, h1.eq he, h2⟩
theorem bz_eq {a b : Bool} : bz a = bz b ↔ a = b := by cases a <;> cases b <;> simp [bz]
theorem bz_I (a : Bool) : I32 (bz a) := by unfold I32; cases a <;> simp [bz]
def qv (above below : Int) : Rat := mkRat (sg (decide (above < 0) != decide (below < 0)) above.natAbs) below.natAbs
theorem abs_3 {v : Int} (h : I64 v) : (v.natAbs : Int) < pw 3 := by
  have : pw 3 = 1000000000000000000000000000 := by decide
  have h1 := h.1
  have h2 := h.2
  omega
theorem bdq_qv {a b : Int} (ha : I64 a) (hb : I64 b) (h0 : b ≠ 0) : bdq (qv a b) 3 3 := bdq_mk (by rw [sg_abs]; exact abs_3 ha) (abs_3 hb) (by omega)
theorem d_Desk_set_0 : dn m_Desk_set.2.1 0 (.aload_n 0) 1 1 := ⟨by decide +kernel, rfl⟩
theorem d_Desk_set_1 : dn m_Desk_set.2.1 1 (.getfield 14) 3 4 := ⟨by decide +kernel, rfl⟩
theorem d_Desk_set_4 : dn m_Desk_set.2.1 4 (.getfield 39) 3 7 := ⟨by decide +kernel, rfl⟩
theorem d_Desk_set_7 : dn m_Desk_set.2.1 7 (.lload_n 1) 1 8 := ⟨by decide +kernel, rfl⟩
theorem d_Desk_set_8 : dn m_Desk_set.2.1 8 (.invokevirtual 42) 3 11 := ⟨by decide +kernel, rfl⟩
theorem d_Desk_set_11 : dn m_Desk_set.2.1 11 (.aload_n 0) 1 12 := ⟨by decide +kernel, rfl⟩
theorem d_Desk_set_12 : dn m_Desk_set.2.1 12 (.getfield 14) 3 15 := ⟨by decide +kernel, rfl⟩
theorem d_Desk_set_15 : dn m_Desk_set.2.1 15 (.getfield 46) 3 18 := ⟨by decide +kernel, rfl⟩
theorem d_Desk_set_18 : dn m_Desk_set.2.1 18 (.lload_n 3) 1 19 := ⟨by decide +kernel, rfl⟩
theorem d_Desk_set_19 : dn m_Desk_set.2.1 19 (.invokevirtual 42) 3 22 := ⟨by decide +kernel, rfl⟩
theorem d_Desk_set_22 : dn m_Desk_set.2.1 22 (.aload_n 0) 1 23 := ⟨by decide +kernel, rfl⟩
theorem d_Desk_set_23 : dn m_Desk_set.2.1 23 (.getfield 14) 3 26 := ⟨by decide +kernel, rfl⟩
theorem d_Desk_set_26 : dn m_Desk_set.2.1 26 (.lload_n 1) 1 27 := ⟨by decide +kernel, rfl⟩
theorem d_Desk_set_27 : dn m_Desk_set.2.1 27 (.lconst 0) 1 28 := ⟨by decide +kernel, rfl⟩
theorem d_Desk_set_28 : dn m_Desk_set.2.1 28 (.lcmp) 1 29 := ⟨by decide +kernel, rfl⟩
theorem d_Desk_set_29 : db m_Desk_set.2.1 29 (.ifCond .ge) 36 32 := ⟨7, by decide +kernel, by decide, rfl⟩
theorem d_Desk_set_32 : dn m_Desk_set.2.1 32 (.iconst 1) 1 33 := ⟨by decide +kernel, rfl⟩
theorem d_Desk_set_33 : db m_Desk_set.2.1 33 (.goto) 37 36 := ⟨4, by decide +kernel, by decide, rfl⟩
theorem d_Desk_set_36 : dn m_Desk_set.2.1 36 (.iconst 0) 1 37 := ⟨by decide +kernel, rfl⟩
theorem d_Desk_set_37 : dn m_Desk_set.2.1 37 (.lload_n 3) 1 38 := ⟨by decide +kernel, rfl⟩
theorem d_Desk_set_38 : dn m_Desk_set.2.1 38 (.lconst 0) 1 39 := ⟨by decide +kernel, rfl⟩
theorem d_Desk_set_39 : dn m_Desk_set.2.1 39 (.lcmp) 1 40 := ⟨by decide +kernel, rfl⟩
theorem d_Desk_set_40 : db m_Desk_set.2.1 40 (.ifCond .ge) 47 43 := ⟨7, by decide +kernel, by decide, rfl⟩
theorem d_Desk_set_43 : dn m_Desk_set.2.1 43 (.iconst 1) 1 44 := ⟨by decide +kernel, rfl⟩
theorem d_Desk_set_44 : db m_Desk_set.2.1 44 (.goto) 48 47 := ⟨4, by decide +kernel, by decide, rfl⟩
theorem d_Desk_set_47 : dn m_Desk_set.2.1 47 (.iconst 0) 1 48 := ⟨by decide +kernel, rfl⟩
theorem d_Desk_set_48 : db m_Desk_set.2.1 48 (.if_icmp .eq) 55 51 := ⟨7, by decide +kernel, by decide, rfl⟩
theorem d_Desk_set_51 : dn m_Desk_set.2.1 51 (.iconst 1) 1 52 := ⟨by decide +kernel, rfl⟩
theorem d_Desk_set_52 : db m_Desk_set.2.1 52 (.goto) 56 55 := ⟨4, by decide +kernel, by decide, rfl⟩
theorem d_Desk_set_55 : dn m_Desk_set.2.1 55 (.iconst 0) 1 56 := ⟨by decide +kernel, rfl⟩
theorem d_Desk_set_56 : dn m_Desk_set.2.1 56 (.putfield 49) 3 59 := ⟨by decide +kernel, rfl⟩
theorem d_Desk_set_59 : dn m_Desk_set.2.1 59 (.aload_n 0) 1 60 := ⟨by decide +kernel, rfl⟩
theorem d_Desk_set_60 : dn m_Desk_set.2.1 60 (.getfield 14) 3 63 := ⟨by decide +kernel, rfl⟩
theorem d_Desk_set_63 : dn m_Desk_set.2.1 63 (.iload 5) 2 65 := ⟨by decide +kernel, rfl⟩
theorem d_Desk_set_65 : dn m_Desk_set.2.1 65 (.putfield 53) 3 68 := ⟨by decide +kernel, rfl⟩
theorem d_Desk_set_68 : dn m_Desk_set.2.1 68 (.aload_n 0) 1 69 := ⟨by decide +kernel, rfl⟩
theorem d_Desk_set_69 : dn m_Desk_set.2.1 69 (.invokevirtual 57) 3 72 := ⟨by decide +kernel, rfl⟩
theorem d_Desk_set_72 : dn m_Desk_set.2.1 72 (.return_) 1 73 := ⟨by decide +kernel, rfl⟩
theorem sp_Desk_set {l : Launch} {K : KC} {M : AH} {d : Nat} {mi : Bool} {un : Int} {above below unit : Int} (hD : DK K M d mi un) (h1 : I64 above) (h2 : I64 below) (h0 : below ≠ 0) :
    Sp l K m_Desk_set 4 0 0 [.ref d, jv above, jv below, iv unit] M (fun r M' => r = none ∧ mdx K M' d (qv above below) unit ∧ frM M M' d) := by
  refine Sp.ofG R_Desk rfl (by decide) [some (.ref d), some (jv above), none, some (jv below), none, some (iv unit)] rfl (Nat.le_of_ble_eq_true rfl) ?_
  intro X hl hK hN hR hC hQ
  subst hl hK
  refine g_aload_n hC rfl d_Desk_set_0 ?_
  refine g_get hC fb_Desk_14 hD.o rfl d_Desk_set_1 ?_
  refine g_get hC fb_Desk_39 hD.m rfl d_Desk_set_4 ?_
  refine g_lload_n hC rfl d_Desk_set_7 ?_
  refine g_callV1 hC (sp_Whole_set hD.a h1 (by decide) (by decide)) oc_Whole_set ov_Whole_set ml_Desk_42 hD.a.rc.choose_spec rfl hR (Nat.le_of_ble_eq_true rfl) (Nat.le_of_ble_eq_true rfl) (Nat.le_of_ble_eq_true rfl) (Nat.le_of_ble_eq_true rfl) (Nat.le_of_ble_eq_true rfl) d_Desk_set_8 (fun r M1 hp => ?_)
  obtain ⟨rfl, hA1, f1⟩ := hp
  refine g_s0 ?_
  have D1 := hD.fw i2 f1 hA1.tox
  have F1 := (frM.rf).fw i2 f1
  refine g_aload_n hC rfl d_Desk_set_11 ?_
  refine g_get hC fb_Desk_14 D1.o rfl d_Desk_set_12 ?_
  refine g_get hC fb_Desk_46 D1.m rfl d_Desk_set_15 ?_
  refine g_lload_n hC rfl d_Desk_set_18 ?_
  refine g_callV1 hC (sp_Whole_set D1.b h2 (by decide) (by decide)) oc_Whole_set ov_Whole_set ml_Desk_42 D1.b.rc.choose_spec rfl hR (Nat.le_of_ble_eq_true rfl) (Nat.le_of_ble_eq_true rfl) (Nat.le_of_ble_eq_true rfl) (Nat.le_of_ble_eq_true rfl) (Nat.le_of_ble_eq_true rfl) d_Desk_set_19 (fun r M2 hp => ?_)
  obtain ⟨rfl, hB2, f2⟩ := hp
  refine g_s0 ?_
  have D2 := D1.fw i4 f2 hB2.tox
  have F2 := F1.fw i4 f2
  have hA2 := hA1.fr f2 (by omega) (by omega) (by omega)
  have J : ∀ z : Int, z = bz (decide (above < 0) != decide (below < 0)) → G X 0 0 M2 56 [some (.ref d), some (jv above), none, some (jv below), none, some (iv unit)] [iv z, .ref (d + 1)] := by
    intro z hz
    subst hz
    refine g_put hC fb_Desk_49 D2.m (nar_b _) (fit_b _) (Nat.le_of_ble_eq_true rfl) d_Desk_set_56 ?_
    have D3 := D2.sm (mi' := decide (above < 0) != decide (below < 0)) (un' := un)
    have hA3 := hA2.sm (d := d) (e := oO 1 [.ref (d + 2), .ref (d + 4), iv (bz (decide (above < 0) != decide (below < 0))), iv un]) (by omega) (by omega)
    have hB3 := hB2.sm (d := d) (e := oO 1 [.ref (d + 2), .ref (d + 4), iv (bz (decide (above < 0) != decide (below < 0))), iv un]) (by omega) (by omega)
    have F3 := F2.sm (e := oO 1 [.ref (d + 2), .ref (d + 4), iv (bz (decide (above < 0) != decide (below < 0))), iv un])
    show G X 0 0 (ups M2 (d + 1) (oO 1 [.ref (d + 2), .ref (d + 4), iv (bz (decide (above < 0) != decide (below < 0))), iv un])) 59 _ _
    generalize ups M2 (d + 1) (oO 1 [.ref (d + 2), .ref (d + 4), iv (bz (decide (above < 0) != decide (below < 0))), iv un]) = M3 at *
    refine g_aload_n hC rfl d_Desk_set_59 ?_
    refine g_get hC fb_Desk_14 D3.o rfl d_Desk_set_60 ?_
    refine g_iload hC rfl d_Desk_set_63 ?_
    refine g_put hC fb_Desk_53 D3.m rfl rfl (Nat.le_of_ble_eq_true rfl) d_Desk_set_65 ?_
    have D4 := D3.sm (mi' := decide (above < 0) != decide (below < 0)) (un' := unit)
    have hA4 := hA3.sm (d := d) (e := oO 1 [.ref (d + 2), .ref (d + 4), iv (bz (decide (above < 0) != decide (below < 0))), iv unit]) (by omega) (by omega)
    have hB4 := hB3.sm (d := d) (e := oO 1 [.ref (d + 2), .ref (d + 4), iv (bz (decide (above < 0) != decide (below < 0))), iv unit]) (by omega) (by omega)
    have F4 := F3.sm (e := oO 1 [.ref (d + 2), .ref (d + 4), iv (bz (decide (above < 0) != decide (below < 0))), iv unit])
    show G X 0 0 (ups M3 (d + 1) (oO 1 [.ref (d + 2), .ref (d + 4), iv (bz (decide (above < 0) != decide (below < 0))), iv unit])) 68 _ _
    generalize ups M3 (d + 1) (oO 1 [.ref (d + 2), .ref (d + 4), iv (bz (decide (above < 0) != decide (below < 0))), iv unit]) = M4 at *
    refine g_aload_n hC rfl d_Desk_set_68 ?_
    refine g_callV0 hC (sp_Desk_reduce D4 hA4 hB4 (by omega) (abs_3 h1) (abs_3 h2) (by decide)) oc_Desk_reduce ov_Desk_reduce ml_Desk_57 D4.o rfl hR (Nat.le_of_ble_eq_true rfl) (Nat.le_of_ble_eq_true rfl) (Nat.le_of_ble_eq_true rfl) (Nat.le_of_ble_eq_true rfl) (Nat.le_of_ble_eq_true rfl) d_Desk_set_69 (fun r M5 hp => ?_)
    obtain ⟨rfl, hm, f5⟩ := hp
    refine g_s0 ?_
    refine g_vret hC hQ (by decide) (by decide) d_Desk_set_72 ⟨rfl, hm, F4.trans f5⟩
  have J2 : ∀ z y : Int, z = bz (decide (above < 0)) → y = bz (decide (below < 0)) → G X 0 0 M2 48 [some (.ref d), some (jv above), none, some (jv below), none, some (iv unit)] [iv y, iv z, .ref (d + 1)] := by
    intro z y hz hy
    subst hz hy
    refine g_icmp_eq hC (bz_I _) (bz_I _) d_Desk_set_48 (fun c => ?_) (fun c => ?_)
    · refine g_iconst hC d_Desk_set_55 ?_
      exact J 0 (by rw [bz_eq.mp c]; simp [bz])
    · refine g_iconst hC d_Desk_set_51 ?_
      refine g_goto hC d_Desk_set_52 ?_
      refine J 1 ?_
      have : decide (above < 0) ≠ decide (below < 0) := fun h => c (congrArg bz h)
      cases hx : decide (above < 0) <;> cases hy : decide (below < 0) <;> simp [hx, hy, bz] at *
  have J1 : ∀ z : Int, z = bz (decide (above < 0)) → G X 0 0 M2 37 [some (.ref d), some (jv above), none, some (jv below), none, some (iv unit)] [iv z, .ref (d + 1)] := by
    intro z hz
    refine g_lload_n hC rfl d_Desk_set_37 ?_
    refine g_lconst (z := 0) hC (by decide) d_Desk_set_38 ?_
    refine g_lcmp hC h2 j0 d_Desk_set_39 ?_
    refine g_lif_ge hC d_Desk_set_40 (fun c => ?_) (fun c => ?_)
    · refine g_iconst hC d_Desk_set_47 ?_
      exact J2 z 0 hz (by rw [decide_eq_false (by omega)]; rfl)
    · refine g_iconst hC d_Desk_set_43 ?_
      refine g_goto hC d_Desk_set_44 ?_
      exact J2 z 1 hz (by rw [decide_eq_true (by omega)]; rfl)
  refine g_aload_n hC rfl d_Desk_set_22 ?_
  refine g_get hC fb_Desk_14 D2.o rfl d_Desk_set_23 ?_
  refine g_lload_n hC rfl d_Desk_set_26 ?_
  refine g_lconst (z := 0) hC (by decide) d_Desk_set_27 ?_
  refine g_lcmp hC h1 j0 d_Desk_set_28 ?_
  refine g_lif_ge hC d_Desk_set_29 (fun c => ?_) (fun c => ?_)
  · refine g_iconst hC d_Desk_set_36 ?_
    exact J1 0 (by rw [decide_eq_false (by omega)]; rfl)
  · refine g_iconst hC d_Desk_set_32 ?_
    refine g_goto hC d_Desk_set_33 ?_
    exact J1 1 (by rw [decide_eq_true (by omega)]; rfl)
theorem d_Desk_add_0 : dn m_Desk_add.2.1 0 (.aload_n 1) 1 1 := ⟨by decide +kernel, rfl⟩
theorem d_Desk_add_1 : dn m_Desk_add.2.1 1 (.getfield 49) 3 4 := ⟨by decide +kernel, rfl⟩
theorem d_Desk_add_4 : dn m_Desk_add.2.1 4 (.iload_n 2) 1 5 := ⟨by decide +kernel, rfl⟩
theorem d_Desk_add_5 : db m_Desk_add.2.1 5 (.if_icmp .eq) 12 8 := ⟨7, by decide +kernel, by decide, rfl⟩
theorem d_Desk_add_8 : dn m_Desk_add.2.1 8 (.iconst 1) 1 9 := ⟨by decide +kernel, rfl⟩
theorem d_Desk_add_9 : db m_Desk_add.2.1 9 (.goto) 13 12 := ⟨4, by decide +kernel, by decide, rfl⟩
theorem d_Desk_add_12 : dn m_Desk_add.2.1 12 (.iconst 0) 1 13 := ⟨by decide +kernel, rfl⟩
theorem d_Desk_add_13 : dn m_Desk_add.2.1 13 (.istore_n 3) 1 14 := ⟨by decide +kernel, rfl⟩
theorem d_Desk_add_14 : dn m_Desk_add.2.1 14 (.aload_n 0) 1 15 := ⟨by decide +kernel, rfl⟩
theorem d_Desk_add_15 : dn m_Desk_add.2.1 15 (.getfield 23) 3 18 := ⟨by decide +kernel, rfl⟩
theorem d_Desk_add_18 : dn m_Desk_add.2.1 18 (.aload_n 0) 1 19 := ⟨by decide +kernel, rfl⟩
theorem d_Desk_add_19 : dn m_Desk_add.2.1 19 (.getfield 14) 3 22 := ⟨by decide +kernel, rfl⟩
theorem d_Desk_add_22 : dn m_Desk_add.2.1 22 (.getfield 39) 3 25 := ⟨by decide +kernel, rfl⟩
theorem d_Desk_add_25 : dn m_Desk_add.2.1 25 (.aload_n 1) 1 26 := ⟨by decide +kernel, rfl⟩
theorem d_Desk_add_26 : dn m_Desk_add.2.1 26 (.getfield 46) 3 29 := ⟨by decide +kernel, rfl⟩
theorem d_Desk_add_29 : dn m_Desk_add.2.1 29 (.invokevirtual 72) 3 32 := ⟨by decide +kernel, rfl⟩
theorem d_Desk_add_32 : dn m_Desk_add.2.1 32 (.aload_n 0) 1 33 := ⟨by decide +kernel, rfl⟩
theorem d_Desk_add_33 : dn m_Desk_add.2.1 33 (.getfield 27) 3 36 := ⟨by decide +kernel, rfl⟩
theorem d_Desk_add_36 : dn m_Desk_add.2.1 36 (.aload_n 1) 1 37 := ⟨by decide +kernel, rfl⟩
theorem d_Desk_add_37 : dn m_Desk_add.2.1 37 (.getfield 39) 3 40 := ⟨by decide +kernel, rfl⟩
theorem d_Desk_add_40 : dn m_Desk_add.2.1 40 (.aload_n 0) 1 41 := ⟨by decide +kernel, rfl⟩
theorem d_Desk_add_41 : dn m_Desk_add.2.1 41 (.getfield 14) 3 44 := ⟨by decide +kernel, rfl⟩
theorem d_Desk_add_44 : dn m_Desk_add.2.1 44 (.getfield 46) 3 47 := ⟨by decide +kernel, rfl⟩
theorem d_Desk_add_47 : dn m_Desk_add.2.1 47 (.invokevirtual 72) 3 50 := ⟨by decide +kernel, rfl⟩
theorem d_Desk_add_50 : dn m_Desk_add.2.1 50 (.aload_n 0) 1 51 := ⟨by decide +kernel, rfl⟩
theorem d_Desk_add_51 : dn m_Desk_add.2.1 51 (.getfield 30) 3 54 := ⟨by decide +kernel, rfl⟩
theorem d_Desk_add_54 : dn m_Desk_add.2.1 54 (.aload_n 0) 1 55 := ⟨by decide +kernel, rfl⟩
theorem d_Desk_add_55 : dn m_Desk_add.2.1 55 (.getfield 14) 3 58 := ⟨by decide +kernel, rfl⟩
theorem d_Desk_add_58 : dn m_Desk_add.2.1 58 (.getfield 46) 3 61 := ⟨by decide +kernel, rfl⟩
theorem d_Desk_add_61 : dn m_Desk_add.2.1 61 (.aload_n 1) 1 62 := ⟨by decide +kernel, rfl⟩
theorem d_Desk_add_62 : dn m_Desk_add.2.1 62 (.getfield 46) 3 65 := ⟨by decide +kernel, rfl⟩
theorem d_Desk_add_65 : dn m_Desk_add.2.1 65 (.invokevirtual 72) 3 68 := ⟨by decide +kernel, rfl⟩
theorem d_Desk_add_68 : dn m_Desk_add.2.1 68 (.aload_n 0) 1 69 := ⟨by decide +kernel, rfl⟩
theorem d_Desk_add_69 : dn m_Desk_add.2.1 69 (.getfield 14) 3 72 := ⟨by decide +kernel, rfl⟩
theorem d_Desk_add_72 : dn m_Desk_add.2.1 72 (.getfield 46) 3 75 := ⟨by decide +kernel, rfl⟩
theorem d_Desk_add_75 : dn m_Desk_add.2.1 75 (.aload_n 0) 1 76 := ⟨by decide +kernel, rfl⟩
theorem d_Desk_add_76 : dn m_Desk_add.2.1 76 (.getfield 30) 3 79 := ⟨by decide +kernel, rfl⟩
theorem d_Desk_add_79 : dn m_Desk_add.2.1 79 (.invokevirtual 64) 3 82 := ⟨by decide +kernel, rfl⟩
theorem d_Desk_add_82 : dn m_Desk_add.2.1 82 (.aload_n 0) 1 83 := ⟨by decide +kernel, rfl⟩
theorem d_Desk_add_83 : dn m_Desk_add.2.1 83 (.getfield 14) 3 86 := ⟨by decide +kernel, rfl⟩
theorem d_Desk_add_86 : dn m_Desk_add.2.1 86 (.getfield 49) 3 89 := ⟨by decide +kernel, rfl⟩
theorem d_Desk_add_89 : dn m_Desk_add.2.1 89 (.iload_n 3) 1 90 := ⟨by decide +kernel, rfl⟩
theorem d_Desk_add_90 : db m_Desk_add.2.1 90 (.if_icmp .ne) 121 93 := ⟨31, by decide +kernel, by decide, rfl⟩
theorem d_Desk_add_93 : dn m_Desk_add.2.1 93 (.aload_n 0) 1 94 := ⟨by decide +kernel, rfl⟩
theorem d_Desk_add_94 : dn m_Desk_add.2.1 94 (.getfield 23) 3 97 := ⟨by decide +kernel, rfl⟩
theorem d_Desk_add_97 : dn m_Desk_add.2.1 97 (.aload_n 0) 1 98 := ⟨by decide +kernel, rfl⟩
theorem d_Desk_add_98 : dn m_Desk_add.2.1 98 (.getfield 27) 3 101 := ⟨by decide +kernel, rfl⟩
theorem d_Desk_add_101 : dn m_Desk_add.2.1 101 (.invokevirtual 76) 3 104 := ⟨by decide +kernel, rfl⟩
theorem d_Desk_add_104 : dn m_Desk_add.2.1 104 (.aload_n 0) 1 105 := ⟨by decide +kernel, rfl⟩
theorem d_Desk_add_105 : dn m_Desk_add.2.1 105 (.getfield 14) 3 108 := ⟨by decide +kernel, rfl⟩
theorem d_Desk_add_108 : dn m_Desk_add.2.1 108 (.getfield 39) 3 111 := ⟨by decide +kernel, rfl⟩
theorem d_Desk_add_111 : dn m_Desk_add.2.1 111 (.aload_n 0) 1 112 := ⟨by decide +kernel, rfl⟩
theorem d_Desk_add_112 : dn m_Desk_add.2.1 112 (.getfield 23) 3 115 := ⟨by decide +kernel, rfl⟩
theorem d_Desk_add_115 : dn m_Desk_add.2.1 115 (.invokevirtual 64) 3 118 := ⟨by decide +kernel, rfl⟩
theorem d_Desk_add_118 : db m_Desk_add.2.1 118 (.goto) 196 121 := ⟨78, by decide +kernel, by decide, rfl⟩
theorem d_Desk_add_121 : dn m_Desk_add.2.1 121 (.aload_n 0) 1 122 := ⟨by decide +kernel, rfl⟩
theorem d_Desk_add_122 : dn m_Desk_add.2.1 122 (.getfield 23) 3 125 := ⟨by decide +kernel, rfl⟩
theorem d_Desk_add_125 : dn m_Desk_add.2.1 125 (.aload_n 0) 1 126 := ⟨by decide +kernel, rfl⟩
theorem d_Desk_add_126 : dn m_Desk_add.2.1 126 (.getfield 27) 3 129 := ⟨by decide +kernel, rfl⟩
theorem d_Desk_add_129 : dn m_Desk_add.2.1 129 (.invokevirtual 79) 3 132 := ⟨by decide +kernel, rfl⟩
theorem d_Desk_add_132 : db m_Desk_add.2.1 132 (.ifCond .lt) 163 135 := ⟨31, by decide +kernel, by decide, rfl⟩
theorem d_Desk_add_135 : dn m_Desk_add.2.1 135 (.aload_n 0) 1 136 := ⟨by decide +kernel, rfl⟩
theorem d_Desk_add_136 : dn m_Desk_add.2.1 136 (.getfield 23) 3 139 := ⟨by decide +kernel, rfl⟩
theorem d_Desk_add_139 : dn m_Desk_add.2.1 139 (.aload_n 0) 1 140 := ⟨by decide +kernel, rfl⟩
theorem d_Desk_add_140 : dn m_Desk_add.2.1 140 (.getfield 27) 3 143 := ⟨by decide +kernel, rfl⟩
theorem d_Desk_add_143 : dn m_Desk_add.2.1 143 (.invokevirtual 83) 3 146 := ⟨by decide +kernel, rfl⟩
theorem d_Desk_add_146 : dn m_Desk_add.2.1 146 (.aload_n 0) 1 147 := ⟨by decide +kernel, rfl⟩
theorem d_Desk_add_147 : dn m_Desk_add.2.1 147 (.getfield 14) 3 150 := ⟨by decide +kernel, rfl⟩
theorem d_Desk_add_150 : dn m_Desk_add.2.1 150 (.getfield 39) 3 153 := ⟨by decide +kernel, rfl⟩
theorem d_Desk_add_153 : dn m_Desk_add.2.1 153 (.aload_n 0) 1 154 := ⟨by decide +kernel, rfl⟩
theorem d_Desk_add_154 : dn m_Desk_add.2.1 154 (.getfield 23) 3 157 := ⟨by decide +kernel, rfl⟩
theorem d_Desk_add_157 : dn m_Desk_add.2.1 157 (.invokevirtual 64) 3 160 := ⟨by decide +kernel, rfl⟩
theorem d_Desk_add_160 : db m_Desk_add.2.1 160 (.goto) 196 163 := ⟨36, by decide +kernel, by decide, rfl⟩
theorem d_Desk_add_163 : dn m_Desk_add.2.1 163 (.aload_n 0) 1 164 := ⟨by decide +kernel, rfl⟩
theorem d_Desk_add_164 : dn m_Desk_add.2.1 164 (.getfield 27) 3 167 := ⟨by decide +kernel, rfl⟩
theorem d_Desk_add_167 : dn m_Desk_add.2.1 167 (.aload_n 0) 1 168 := ⟨by decide +kernel, rfl⟩
theorem d_Desk_add_168 : dn m_Desk_add.2.1 168 (.getfield 23) 3 171 := ⟨by decide +kernel, rfl⟩
theorem d_Desk_add_171 : dn m_Desk_add.2.1 171 (.invokevirtual 83) 3 174 := ⟨by decide +kernel, rfl⟩
theorem d_Desk_add_174 : dn m_Desk_add.2.1 174 (.aload_n 0) 1 175 := ⟨by decide +kernel, rfl⟩
theorem d_Desk_add_175 : dn m_Desk_add.2.1 175 (.getfield 14) 3 178 := ⟨by decide +kernel, rfl⟩
theorem d_Desk_add_178 : dn m_Desk_add.2.1 178 (.getfield 39) 3 181 := ⟨by decide +kernel, rfl⟩
theorem d_Desk_add_181 : dn m_Desk_add.2.1 181 (.aload_n 0) 1 182 := ⟨by decide +kernel, rfl⟩
theorem d_Desk_add_182 : dn m_Desk_add.2.1 182 (.getfield 27) 3 185 := ⟨by decide +kernel, rfl⟩
theorem d_Desk_add_185 : dn m_Desk_add.2.1 185 (.invokevirtual 64) 3 188 := ⟨by decide +kernel, rfl⟩
theorem d_Desk_add_188 : dn m_Desk_add.2.1 188 (.aload_n 0) 1 189 := ⟨by decide +kernel, rfl⟩
theorem d_Desk_add_189 : dn m_Desk_add.2.1 189 (.getfield 14) 3 192 := ⟨by decide +kernel, rfl⟩
theorem d_Desk_add_192 : dn m_Desk_add.2.1 192 (.iload_n 3) 1 193 := ⟨by decide +kernel, rfl⟩
theorem d_Desk_add_193 : dn m_Desk_add.2.1 193 (.putfield 49) 3 196 := ⟨by decide +kernel, rfl⟩
theorem d_Desk_add_196 : dn m_Desk_add.2.1 196 (.aload_n 0) 1 197 := ⟨by decide +kernel, rfl⟩
theorem d_Desk_add_197 : dn m_Desk_add.2.1 197 (.invokevirtual 57) 3 200 := ⟨by decide +kernel, rfl⟩
theorem d_Desk_add_200 : dn m_Desk_add.2.1 200 (.return_) 1 201 := ⟨by decide +kernel, rfl⟩
theorem sp_Desk_add {l : Launch} {K : KC} {M : AH} {d p cap i j i' j' m : Nat} {x y : Rat} {un uo : Int} {less : Bool} (hm : mdx K M d x un) (ho : opx K M p cap y uo) (hdis : p + 5 ≤ d ∨ d + 14 ≤ p) (hcap : cap ≤ 1000) (bx : bdq x i j) (bY : bdq y i' j') (m1 : i + j' ≤ m) (m2 : i' + j ≤ m) (m3 : j + j' ≤ m) (m4 : m ≤ 729) :
    Sp l K m_Desk_add 4 0 0 [.ref d, .ref p, iv (bz less)] M (fun r M' => r = none ∧ mdx K M' d (x + lsq less y) un ∧ frM M M' d) := by
  refine Sp.ofG R_Desk rfl (by decide) [some (.ref d), some (.ref p), some (iv (bz less)), none] rfl (Nat.le_of_ble_eq_true rfl) ?_
  intro X hl hK hN hR hC hQ
  subst hl hK
  obtain ⟨mi, a, b, hD, hA, hB, qx⟩ := hm
  obtain ⟨mo, c, e, hF, qy⟩ := ho
  have b1 := qx.bd bx
  have b2 := qy.bd bY
  have hbe : 0 < b * e := Nat.mul_pos qx.pos qy.pos
  have t1 := mul_lt_pw b1.1 b2.2
  have t2 := mul_lt_pw b2.1 b1.2
  have t3 := mul_lt_pw b1.2 b2.2
  have t1' : ((a * e : Nat) : Int) < pw m := Int.lt_of_lt_of_le t1 (pow_le m1)
  have t2' : ((c * b : Nat) : Int) < pw m := Int.lt_of_lt_of_le t2 (pow_le m2)
  have t3' : ((b * e : Nat) : Int) < pw m := Int.lt_of_lt_of_le t3 (pow_le m3)
  have t4 := add_lt_pw t1' t2'
  have up1 := fun {v : Nat} (h : (v : Int) < pw m) => Int.lt_of_lt_of_le h (pow_le (show m ≤ m + 1 by omega))
  have up2 := fun {v : Nat} (h : (v : Int) < pw (m + 1)) => Int.lt_of_lt_of_le h (pow_le (show m + 1 ≤ 740 by omega))
  have J : G X 0 0 M 13 [some (.ref d), some (.ref p), some (iv (bz less)), none] [iv (bz (mo != less))] := by
    first | refine g_ist3 hC d_Desk_add_13 rfl (hN 3 rfl) ?_ | (refine g_fg2 ?_; refine g_ist3 hC d_Desk_add_13 rfl (hN 3 rfl) ?_)
    refine g_aload_n hC rfl d_Desk_add_14 ?_
    refine g_get hC fb_Desk_23 hD.o rfl d_Desk_add_15 ?_
    refine g_aload_n hC rfl d_Desk_add_18 ?_
    refine g_get hC fb_Desk_14 hD.o rfl d_Desk_add_19 ?_
    refine g_get hC fb_Desk_39 hD.m rfl d_Desk_add_22 ?_
    refine g_aload_n hC rfl d_Desk_add_25 ?_
    refine g_get hC fb_Desk_46 hF.1 rfl d_Desk_add_26 ?_
    refine g_callV2 hC (sp_Whole_multiply hD.x hA hF.2.2 (by omega) (by omega) b1.1 b2.2 (by omega) (by decide) (by decide) hcap) oc_Whole_multiply ov_Whole_multiply ml_Desk_72 hD.x.rc.choose_spec rfl hR (Nat.le_of_ble_eq_true rfl) (Nat.le_of_ble_eq_true rfl) (Nat.le_of_ble_eq_true rfl) (Nat.le_of_ble_eq_true rfl) (Nat.le_of_ble_eq_true rfl) d_Desk_add_29 (fun r M1 hp => ?_)
    obtain ⟨rfl, hX1, f1⟩ := hp
    refine g_s0 ?_
    have D1 := hD.fw i6 f1 hX1.tox
    have F1 := (frM.rf).fw i6 f1
    have hA1 := hA.fr f1 (by omega) (by omega) (by omega)
    have hB1 := hB.fr f1 (by omega) (by omega) (by omega)
    have hF1 := hF.eq (M' := M1) (fun z z1 z2 => F1.2 z (by omega))
    refine g_aload_n hC rfl d_Desk_add_32 ?_
    refine g_get hC fb_Desk_27 D1.o rfl d_Desk_add_33 ?_
    refine g_aload_n hC rfl d_Desk_add_36 ?_
    refine g_get hC fb_Desk_39 hF1.1 rfl d_Desk_add_37 ?_
    refine g_aload_n hC rfl d_Desk_add_40 ?_
    refine g_get hC fb_Desk_14 D1.o rfl d_Desk_add_41 ?_
    refine g_get hC fb_Desk_46 D1.m rfl d_Desk_add_44 ?_
    refine g_callV2 hC (sp_Whole_multiply D1.y hF1.2.1 hB1 (by omega) (by omega) b2.1 b1.2 (by omega) (by decide) hcap (by decide)) oc_Whole_multiply ov_Whole_multiply ml_Desk_72 D1.y.rc.choose_spec rfl hR (Nat.le_of_ble_eq_true rfl) (Nat.le_of_ble_eq_true rfl) (Nat.le_of_ble_eq_true rfl) (Nat.le_of_ble_eq_true rfl) (Nat.le_of_ble_eq_true rfl) d_Desk_add_47 (fun r M2 hp => ?_)
    obtain ⟨rfl, hY2, f2⟩ := hp
    refine g_s0 ?_
    have D2 := D1.fw i8 f2 hY2.tox
    have F2 := F1.fw i8 f2
    have hX2 := hX1.fr f2 (by omega) (by omega) (by omega)
    have hB2 := hB1.fr f2 (by omega) (by omega) (by omega)
    have hF2 := hF.eq (M' := M2) (fun z z1 z2 => F2.2 z (by omega))
    refine g_aload_n hC rfl d_Desk_add_50 ?_
    refine g_get hC fb_Desk_30 D2.o rfl d_Desk_add_51 ?_
    refine g_aload_n hC rfl d_Desk_add_54 ?_
    refine g_get hC fb_Desk_14 D2.o rfl d_Desk_add_55 ?_
    refine g_get hC fb_Desk_46 D2.m rfl d_Desk_add_58 ?_
    refine g_aload_n hC rfl d_Desk_add_61 ?_
    refine g_get hC fb_Desk_46 hF2.1 rfl d_Desk_add_62 ?_
    refine g_callV2 hC (sp_Whole_multiply D2.q hB2 hF2.2.2 (by omega) (by omega) b1.2 b2.2 (by omega) (by decide) (by decide) hcap) oc_Whole_multiply ov_Whole_multiply ml_Desk_72 D2.q.rc.choose_spec rfl hR (Nat.le_of_ble_eq_true rfl) (Nat.le_of_ble_eq_true rfl) (Nat.le_of_ble_eq_true rfl) (Nat.le_of_ble_eq_true rfl) (Nat.le_of_ble_eq_true rfl) d_Desk_add_65 (fun r M3 hp => ?_)
    obtain ⟨rfl, hQ3, f3⟩ := hp
    refine g_s0 ?_
    have D3 := D2.fw i10 f3 hQ3.tox
    have F3 := F2.fw i10 f3
    have hX3 := hX2.fr f3 (by omega) (by omega) (by omega)
    have hY3 := hY2.fr f3 (by omega) (by omega) (by omega)
    refine g_aload_n hC rfl d_Desk_add_68 ?_
    refine g_get hC fb_Desk_14 D3.o rfl d_Desk_add_69 ?_
    refine g_get hC fb_Desk_46 D3.m rfl d_Desk_add_72 ?_
    refine g_aload_n hC rfl d_Desk_add_75 ?_
    refine g_get hC fb_Desk_30 D3.o rfl d_Desk_add_76 ?_
    refine g_callV1 hC (sp_Whole_copy D3.b hQ3 (up2 (up1 t3')) (by omega) (by decide) (by decide)) oc_Whole_copy ov_Whole_copy ml_Desk_64 D3.b.rc.choose_spec rfl hR (Nat.le_of_ble_eq_true rfl) (Nat.le_of_ble_eq_true rfl) (Nat.le_of_ble_eq_true rfl) (Nat.le_of_ble_eq_true rfl) (Nat.le_of_ble_eq_true rfl) d_Desk_add_79 (fun r M4 hp => ?_)
    obtain ⟨rfl, hB4, f4⟩ := hp
    refine g_s0 ?_
    have D4 := D3.fw i4 f4 hB4.tox
    have F4 := F3.fw i4 f4
    have hX4 := hX3.fr f4 (by omega) (by omega) (by omega)
    have hY4 := hY3.fr f4 (by omega) (by omega) (by omega)
    clear D1 D2 D3 F1 F2 F3 f1 f2 f3 f4 hX1 hX2 hX3 hY2 hY3 hB1 hB2 hA1 hF1 hF2 hQ3
    -- the end: reduce
    have fin : ∀ (mi' : Bool) (A : Nat) (M5 : AH), DK X.K M5 d mi' un → wv X.K M5 (d + 2) 740 A → wv X.K M5 (d + 4) 740 (b * e) → (A : Int) < pw (m + 1) → sg mi (a * e) + sg (mo != less) (c * b) = sg mi' A → frM M M5 d → G X 0 0 M5 196 [some (.ref d), some (.ref p), some (iv (bz less)), some (iv (bz (mo != less)))] [] := by
      intro mi' A M5 D5 hA5 hB5 hA hs F5
      refine g_aload_n hC rfl d_Desk_add_196 ?_
      refine g_callV0 hC (sp_Desk_reduce D5 hA5 hB5 hbe hA (up1 t3') (by omega)) oc_Desk_reduce ov_Desk_reduce ml_Desk_57 D5.o rfl hR (Nat.le_of_ble_eq_true rfl) (Nat.le_of_ble_eq_true rfl) (Nat.le_of_ble_eq_true rfl) (Nat.le_of_ble_eq_true rfl) (Nat.le_of_ble_eq_true rfl) d_Desk_add_197 (fun r M6 hp => ?_)
      obtain ⟨rfl, h6, f6⟩ := hp
      refine g_s0 ?_
      rw [← hs, ← add_eq qx qy] at h6
      refine g_vret hC hQ (by decide) (by decide) d_Desk_add_200 ⟨rfl, h6, F5.trans f6⟩
    refine g_aload_n hC rfl d_Desk_add_82 ?_
    refine g_get hC fb_Desk_14 D4.o rfl d_Desk_add_83 ?_
    refine g_get hC fb_Desk_49 D4.m rfl d_Desk_add_86 ?_
    refine g_iload_n hC rfl d_Desk_add_89 ?_
    refine g_icmp_ne hC (bz_I _) (bz_I _) d_Desk_add_90 (fun hne => ?_) (fun heq => ?_)
    · have hne' : mi ≠ (mo != less) := fun h => hne (congrArg bz h)
      refine g_aload_n hC rfl d_Desk_add_121 ?_
      refine g_get hC fb_Desk_23 D4.o rfl d_Desk_add_122 ?_
      refine g_aload_n hC rfl d_Desk_add_125 ?_
      refine g_get hC fb_Desk_27 D4.o rfl d_Desk_add_126 ?_
      refine g_callV1 hC (sp_Whole_against hX4 hY4 (by decide) (by decide)) oc_Whole_against ov_Whole_against ml_Desk_79 hX4.rc.choose_spec rfl hR (Nat.le_of_ble_eq_true rfl) (Nat.le_of_ble_eq_true rfl) (Nat.le_of_ble_eq_true rfl) (Nat.le_of_ble_eq_true rfl) (Nat.le_of_ble_eq_true rfl) d_Desk_add_129 (fun r M4 hp => ?_)
      obtain ⟨rfl, rfl⟩ := hp
      refine g_sv ?_
      have hcz := cz_in ((a * e : Nat) : Int) ((c * b : Nat) : Int)
      refine g_if_lt hC (by unfold I32; omega) d_Desk_add_132 (fun c9 => ?_) (fun c9 => ?_)
      · have hlt : a * e ≤ c * b := by
          rcases Int.lt_or_le ((c * b : Nat) : Int) ((a * e : Nat) : Int) with h | h
          · rw [cz_gt h] at c9; omega
          · omega
        refine g_aload_n hC rfl d_Desk_add_163 ?_
        refine g_get hC fb_Desk_27 D4.o rfl d_Desk_add_164 ?_
        refine g_aload_n hC rfl d_Desk_add_167 ?_
        refine g_get hC fb_Desk_23 D4.o rfl d_Desk_add_168 ?_
        refine g_callV1 hC (sp_Whole_take hY4 hX4 (by omega) hlt (by decide) (by decide)) oc_Whole_take ov_Whole_take ml_Desk_83 hY4.rc.choose_spec rfl hR (Nat.le_of_ble_eq_true rfl) (Nat.le_of_ble_eq_true rfl) (Nat.le_of_ble_eq_true rfl) (Nat.le_of_ble_eq_true rfl) (Nat.le_of_ble_eq_true rfl) d_Desk_add_171 (fun r M5 hp => ?_)
        obtain ⟨rfl, hY5, f5⟩ := hp
        refine g_s0 ?_
        have D5 := D4.fw i8 f5 hY5.tox
        have F5 := F4.fw i8 f5
        have hB5 := hB4.fr f5 (by omega) (by omega) (by omega)
        have hle : ((c * b - a * e : Nat) : Int) < pw m := by omega
        refine g_aload_n hC rfl d_Desk_add_174 ?_
        refine g_get hC fb_Desk_14 D5.o rfl d_Desk_add_175 ?_
        refine g_get hC fb_Desk_39 D5.m rfl d_Desk_add_178 ?_
        refine g_aload_n hC rfl d_Desk_add_181 ?_
        refine g_get hC fb_Desk_27 D5.o rfl d_Desk_add_182 ?_
        refine g_callV1 hC (sp_Whole_copy D5.a hY5 (up2 (up1 hle)) (by omega) (by decide) (by decide)) oc_Whole_copy ov_Whole_copy ml_Desk_64 D5.a.rc.choose_spec rfl hR (Nat.le_of_ble_eq_true rfl) (Nat.le_of_ble_eq_true rfl) (Nat.le_of_ble_eq_true rfl) (Nat.le_of_ble_eq_true rfl) (Nat.le_of_ble_eq_true rfl) d_Desk_add_185 (fun r M6 hp => ?_)
        obtain ⟨rfl, hA6, f6⟩ := hp
        refine g_s0 ?_
        have D6 := D5.fw i2 f6 hA6.tox
        have F6 := F5.fw i2 f6
        have hB6 := hB5.fr f6 (by omega) (by omega) (by omega)
        refine g_aload_n hC rfl d_Desk_add_188 ?_
        refine g_get hC fb_Desk_14 D6.o rfl d_Desk_add_189 ?_
        refine g_iload_n hC rfl d_Desk_add_192 ?_
        refine g_put hC fb_Desk_49 D6.m (nar_b _) (fit_b _) (Nat.le_of_ble_eq_true rfl) d_Desk_add_193 ?_
        exact fin (mo != less) _ _ D6.sm (hA6.sm (by omega) (by omega)) (hB6.sm (by omega) (by omega)) (up1 hle) (sg_diff2 hne' hlt) F6.sm
      · have hge : c * b ≤ a * e := by
          rcases Int.lt_or_le ((a * e : Nat) : Int) ((c * b : Nat) : Int) with h | h
          · rw [cz_lt h] at c9; omega
          · omega
        refine g_aload_n hC rfl d_Desk_add_135 ?_
        refine g_get hC fb_Desk_23 D4.o rfl d_Desk_add_136 ?_
        refine g_aload_n hC rfl d_Desk_add_139 ?_
        refine g_get hC fb_Desk_27 D4.o rfl d_Desk_add_140 ?_
        refine g_callV1 hC (sp_Whole_take hX4 hY4 (by omega) hge (by decide) (by decide)) oc_Whole_take ov_Whole_take ml_Desk_83 hX4.rc.choose_spec rfl hR (Nat.le_of_ble_eq_true rfl) (Nat.le_of_ble_eq_true rfl) (Nat.le_of_ble_eq_true rfl) (Nat.le_of_ble_eq_true rfl) (Nat.le_of_ble_eq_true rfl) d_Desk_add_143 (fun r M5 hp => ?_)
        obtain ⟨rfl, hX5, f5⟩ := hp
        refine g_s0 ?_
        have D5 := D4.fw i6 f5 hX5.tox
        have F5 := F4.fw i6 f5
        have hB5 := hB4.fr f5 (by omega) (by omega) (by omega)
        have hle : ((a * e - c * b : Nat) : Int) < pw m := by omega
        refine g_aload_n hC rfl d_Desk_add_146 ?_
        refine g_get hC fb_Desk_14 D5.o rfl d_Desk_add_147 ?_
        refine g_get hC fb_Desk_39 D5.m rfl d_Desk_add_150 ?_
        refine g_aload_n hC rfl d_Desk_add_153 ?_
        refine g_get hC fb_Desk_23 D5.o rfl d_Desk_add_154 ?_
        refine g_callV1 hC (sp_Whole_copy D5.a hX5 (up2 (up1 hle)) (by omega) (by decide) (by decide)) oc_Whole_copy ov_Whole_copy ml_Desk_64 D5.a.rc.choose_spec rfl hR (Nat.le_of_ble_eq_true rfl) (Nat.le_of_ble_eq_true rfl) (Nat.le_of_ble_eq_true rfl) (Nat.le_of_ble_eq_true rfl) (Nat.le_of_ble_eq_true rfl) d_Desk_add_157 (fun r M6 hp => ?_)
        obtain ⟨rfl, hA6, f6⟩ := hp
        refine g_s0 ?_
        refine g_goto hC d_Desk_add_160 ?_
        exact fin mi _ _ (D5.fw i2 f6 hA6.tox) hA6 (hB5.fr f6 (by omega) (by omega) (by omega)) (up1 hle) (sg_diff hne' hge) (F5.fw i2 f6)
    · have heq' : mi = (mo != less) := bz_eq.mp heq
      refine g_aload_n hC rfl d_Desk_add_93 ?_
      refine g_get hC fb_Desk_23 D4.o rfl d_Desk_add_94 ?_
      refine g_aload_n hC rfl d_Desk_add_97 ?_
      refine g_get hC fb_Desk_27 D4.o rfl d_Desk_add_98 ?_
      refine g_callV1 hC (sp_Whole_add hX4 hY4 (by omega) (up2 t4) (by decide) (by decide)) oc_Whole_add ov_Whole_add ml_Desk_76 hX4.rc.choose_spec rfl hR (Nat.le_of_ble_eq_true rfl) (Nat.le_of_ble_eq_true rfl) (Nat.le_of_ble_eq_true rfl) (Nat.le_of_ble_eq_true rfl) (Nat.le_of_ble_eq_true rfl) d_Desk_add_101 (fun r M5 hp => ?_)
      obtain ⟨rfl, hX5, f5⟩ := hp
      refine g_s0 ?_
      have D5 := D4.fw i6 f5 hX5.tox
      have F5 := F4.fw i6 f5
      have hB5 := hB4.fr f5 (by omega) (by omega) (by omega)
      refine g_aload_n hC rfl d_Desk_add_104 ?_
      refine g_get hC fb_Desk_14 D5.o rfl d_Desk_add_105 ?_
      refine g_get hC fb_Desk_39 D5.m rfl d_Desk_add_108 ?_
      refine g_aload_n hC rfl d_Desk_add_111 ?_
      refine g_get hC fb_Desk_23 D5.o rfl d_Desk_add_112 ?_
      refine g_callV1 hC (sp_Whole_copy D5.a hX5 (up2 t4) (by omega) (by decide) (by decide)) oc_Whole_copy ov_Whole_copy ml_Desk_64 D5.a.rc.choose_spec rfl hR (Nat.le_of_ble_eq_true rfl) (Nat.le_of_ble_eq_true rfl) (Nat.le_of_ble_eq_true rfl) (Nat.le_of_ble_eq_true rfl) (Nat.le_of_ble_eq_true rfl) d_Desk_add_115 (fun r M6 hp => ?_)
      obtain ⟨rfl, hA6, f6⟩ := hp
      refine g_s0 ?_
      refine g_goto hC d_Desk_add_118 ?_
      exact fin mi _ _ (D5.fw i2 f6 hA6.tox) hA6 (hB5.fr f6 (by omega) (by omega) (by omega)) t4 (by rw [← heq']; exact sg_same mi _ _) (F5.fw i2 f6)
  refine g_aload_n hC rfl d_Desk_add_0 ?_
  refine g_get hC fb_Desk_49 hF.1 rfl d_Desk_add_1 ?_
  refine g_iload_n hC rfl d_Desk_add_4 ?_
  refine g_icmp_eq hC (bz_I _) (bz_I _) d_Desk_add_5 (fun hc => ?_) (fun hc => ?_)
  · have := bz_eq.mp hc
    refine g_iconst hC d_Desk_add_12 ?_
    rw [show bz (mo != less) = 0 by rw [this]; simp [bz]] at J
    exact J
  · have : mo ≠ less := fun h => hc (congrArg bz h)
    refine g_iconst hC d_Desk_add_8 ?_
    refine g_goto hC d_Desk_add_9 ?_
    rw [show bz (mo != less) = 1 by cases mo <;> cases less <;> simp [bz] at *] at J
    exact J
