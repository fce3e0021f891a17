/-! Comp: round, prism, told, digit -/
theorem rfs_t {n : Nat} : rfs true n = if n = 200 then -3 else 0 := by unfold rfs; rw [if_neg (by decide)]
theorem hx200 {al : Bool} {n : Nat} (hn : n ≤ 200) (c9 : rfs al n = 0) : n < 200 := by
  rcases Nat.lt_or_ge n 200 with q | q
  · exact q
  · exfalso
    unfold rfs at c9
    split at c9
    · omega
    · rw [if_pos (by omega)] at c9; omega
def okR (rule steps : Int) : Bool := decide (0 ≤ rule ∧ rule ≤ 3 ∧ 1 ≤ steps ∧ steps ≤ 1000000000)
theorem d_Comp_round_0 : dn m_Comp_round.2.1 0 (.aload_n 0) 1 1 := ⟨by decide +kernel, rfl⟩
theorem d_Comp_round_1 : dn m_Comp_round.2.1 1 (.iload_n 1) 1 2 := ⟨by decide +kernel, rfl⟩
theorem d_Comp_round_2 : dn m_Comp_round.2.1 2 (.invokevirtual 100) 3 5 := ⟨by decide +kernel, rfl⟩
theorem d_Comp_round_5 : dn m_Comp_round.2.1 5 (.astore 4) 2 7 := ⟨by decide +kernel, rfl⟩
theorem d_Comp_round_7 : dn m_Comp_round.2.1 7 (.iload_n 2) 1 8 := ⟨by decide +kernel, rfl⟩
theorem d_Comp_round_8 : db m_Comp_round.2.1 8 (.ifCond .lt) 31 11 := ⟨23, by decide +kernel, by decide, rfl⟩
theorem d_Comp_round_11 : dn m_Comp_round.2.1 11 (.iload_n 2) 1 12 := ⟨by decide +kernel, rfl⟩
theorem d_Comp_round_12 : dn m_Comp_round.2.1 12 (.iconst 3) 1 13 := ⟨by decide +kernel, rfl⟩
theorem d_Comp_round_13 : db m_Comp_round.2.1 13 (.if_icmp .gt) 31 16 := ⟨18, by decide +kernel, by decide, rfl⟩
theorem d_Comp_round_16 : dn m_Comp_round.2.1 16 (.iload_n 3) 1 17 := ⟨by decide +kernel, rfl⟩
theorem d_Comp_round_17 : dn m_Comp_round.2.1 17 (.iconst 1) 1 18 := ⟨by decide +kernel, rfl⟩
theorem d_Comp_round_18 : db m_Comp_round.2.1 18 (.if_icmp .lt) 31 21 := ⟨13, by decide +kernel, by decide, rfl⟩
theorem d_Comp_round_21 : dn m_Comp_round.2.1 21 (.iload_n 3) 1 22 := ⟨by decide +kernel, rfl⟩
theorem d_Comp_round_22 : dn m_Comp_round.2.1 22 (.ldc 128) 2 24 := ⟨by decide +kernel, rfl⟩
theorem d_Comp_round_24 : db m_Comp_round.2.1 24 (.if_icmp .gt) 31 27 := ⟨7, by decide +kernel, by decide, rfl⟩
theorem d_Comp_round_27 : dn m_Comp_round.2.1 27 (.iconst 1) 1 28 := ⟨by decide +kernel, rfl⟩
theorem d_Comp_round_28 : db m_Comp_round.2.1 28 (.goto) 32 31 := ⟨4, by decide +kernel, by decide, rfl⟩
theorem d_Comp_round_31 : dn m_Comp_round.2.1 31 (.iconst 0) 1 32 := ⟨by decide +kernel, rfl⟩
theorem d_Comp_round_32 : dn m_Comp_round.2.1 32 (.invokestatic 89) 3 35 := ⟨by decide +kernel, rfl⟩
theorem d_Comp_round_35 : dn m_Comp_round.2.1 35 (.aload_n 0) 1 36 := ⟨by decide +kernel, rfl⟩
theorem d_Comp_round_36 : dn m_Comp_round.2.1 36 (.iconst 1) 1 37 := ⟨by decide +kernel, rfl⟩
theorem d_Comp_round_37 : dn m_Comp_round.2.1 37 (.invokevirtual 108) 3 40 := ⟨by decide +kernel, rfl⟩
theorem d_Comp_round_40 : dn m_Comp_round.2.1 40 (.istore 5) 2 42 := ⟨by decide +kernel, rfl⟩
theorem d_Comp_round_42 : dn m_Comp_round.2.1 42 (.iload 5) 2 44 := ⟨by decide +kernel, rfl⟩
theorem d_Comp_round_44 : db m_Comp_round.2.1 44 (.ifCond .eq) 50 47 := ⟨6, by decide +kernel, by decide, rfl⟩
theorem d_Comp_round_47 : dn m_Comp_round.2.1 47 (.iload 5) 2 49 := ⟨by decide +kernel, rfl⟩
theorem d_Comp_round_49 : dn m_Comp_round.2.1 49 (.ireturn) 1 50 := ⟨by decide +kernel, rfl⟩
theorem d_Comp_round_50 : dn m_Comp_round.2.1 50 (.aload_n 0) 1 51 := ⟨by decide +kernel, rfl⟩
theorem d_Comp_round_51 : dn m_Comp_round.2.1 51 (.getfield 29) 3 54 := ⟨by decide +kernel, rfl⟩
theorem d_Comp_round_54 : dn m_Comp_round.2.1 54 (.getfield 63) 3 57 := ⟨by decide +kernel, rfl⟩
theorem d_Comp_round_57 : dn m_Comp_round.2.1 57 (.aload 4) 2 59 := ⟨by decide +kernel, rfl⟩
theorem d_Comp_round_59 : dn m_Comp_round.2.1 59 (.invokevirtual 74) 3 62 := ⟨by decide +kernel, rfl⟩
theorem d_Comp_round_62 : dn m_Comp_round.2.1 62 (.aload_n 0) 1 63 := ⟨by decide +kernel, rfl⟩
theorem d_Comp_round_63 : dn m_Comp_round.2.1 63 (.getfield 29) 3 66 := ⟨by decide +kernel, rfl⟩
theorem d_Comp_round_66 : dn m_Comp_round.2.1 66 (.iload_n 2) 1 67 := ⟨by decide +kernel, rfl⟩
theorem d_Comp_round_67 : dn m_Comp_round.2.1 67 (.iload_n 3) 1 68 := ⟨by decide +kernel, rfl⟩
theorem d_Comp_round_68 : dn m_Comp_round.2.1 68 (.invokevirtual 129) 3 71 := ⟨by decide +kernel, rfl⟩
theorem d_Comp_round_71 : dn m_Comp_round.2.1 71 (.aload_n 0) 1 72 := ⟨by decide +kernel, rfl⟩
theorem d_Comp_round_72 : dn m_Comp_round.2.1 72 (.invokevirtual 97) 3 75 := ⟨by decide +kernel, rfl⟩
theorem d_Comp_round_75 : dn m_Comp_round.2.1 75 (.ireturn) 1 76 := ⟨by decide +kernel, rfl⟩
section Cround
variable {l : Launch} {K : KC} {M : AH} {c : Nat} {xs : List (Rat × Int)} {ws : List (List (Nat × Nat))} {wl : List Int}
theorem g_round_ok {X : CT} {rule steps : Int} {a : Int} {o4 o5 : Option Value} (hC : Cx X R_Comp m_Comp_round.2.1 m_Comp_round.2.2.2 "round" false) (hr : I32 rule) (hs : I32 steps) (J : G X 0 0 M 32 [some (.ref c), some (iv a), some (iv rule), some (iv steps), o4, o5] [iv (bz (okR rule steps))]) : G X 0 0 M 7 [some (.ref c), some (iv a), some (iv rule), some (iv steps), o4, o5] [] := by
  have F : okR rule steps = false → G X 0 0 M 31 [some (.ref c), some (iv a), some (iv rule), some (iv steps), o4, o5] [] := by
    intro q
    rw [q] at J
    refine g_iconst hC d_Comp_round_31 ?_
    exact J
  refine g_iload_n hC rfl d_Comp_round_7 ?_
  refine g_if_lt hC hr d_Comp_round_8 (fun c1 => ?_) (fun c1 => ?_)
  · exact F (decide_eq_false (by omega))
  · refine g_iload_n hC rfl d_Comp_round_11 ?_
    refine g_iconst hC d_Comp_round_12 ?_
    refine g_icmp_gt hC hr (by unfold I32; omega) d_Comp_round_13 (fun c2 => ?_) (fun c2 => ?_)
    · exact F (decide_eq_false (by omega))
    · refine g_iload_n hC rfl d_Comp_round_16 ?_
      refine g_iconst hC d_Comp_round_17 ?_
      refine g_icmp_lt hC hs (by unfold I32; omega) d_Comp_round_18 (fun c3 => ?_) (fun c3 => ?_)
      · exact F (decide_eq_false (by omega))
      · refine g_iload_n hC rfl d_Comp_round_21 ?_
        refine g_ldc (z := 1000000000) hC cn_Comp_128 (by decide) d_Comp_round_22 ?_
        refine g_icmp_gt hC hs (by unfold I32; omega) d_Comp_round_24 (fun c4 => ?_) (fun c4 => ?_)
        · exact F (decide_eq_false (by omega))
        · refine g_iconst hC d_Comp_round_27 ?_
          refine g_goto hC d_Comp_round_28 ?_
          rw [show okR rule steps = true from decide_eq_true (by omega)] at J
          exact J
theorem sp_Comp_round {a rule steps : Int} {x : Rat × Int} (hcx : CX K M c xs ws wl) (hms : MS xs ws wl) (hr : I32 rule) (hs : I32 steps) (hx : vat xs a = some x) (hok : okR rule steps = true) :
    Sp l K m_Comp_round 8 6 508 [.ref c, iv a, iv rule, iv steps] M (fun r M' => r = some (iv (if rfs true xs.length = 0 then kpR xs (rnd rule steps.toNat x.1) else rfs true xs.length)) ∧ CX K M' c (if rfs true xs.length = 0 then kpS xs (rnd rule steps.toNat x.1) x.2 else xs) ws wl) := by
  refine Sp.ofG R_Comp rfl (by decide) [some (.ref c), some (iv a), some (iv rule), some (iv steps), none, none] rfl (Nat.le_of_ble_eq_true rfl) ?_
  intro X hl hK hN hR hC hQ
  subst hl hK
  obtain ⟨vs, ss, rs, h⟩ := hcx
  obtain ⟨k1, p1, mi1, a1, b1, rfl, hk1, hv1, hc1, hF1, q1⟩ := h.at hx
  have o1 : opx X.K M p1 100 x.1 x.2 := ⟨mi1, a1, b1, hF1, q1⟩
  obtain ⟨bx, ux1, ux2⟩ := hms.val hk1
  have hok' := of_decide_eq_true hok
  refine g_aload_n hC rfl d_Comp_round_0 ?_
  refine g_iload_n hC rfl d_Comp_round_1 ?_
  refine g_callV1 hC (sp_Comp_of h hv1 hF1.1) oc_Comp_of ov_Comp_of ml_Comp_100 h.o rfl hR (Nat.le_of_ble_eq_true rfl) (Nat.le_of_ble_eq_true rfl) (Nat.le_of_ble_eq_true rfl) (Nat.le_of_ble_eq_true rfl) (Nat.le_of_ble_eq_true rfl) d_Comp_round_2 (fun r M hp => ?_)
  obtain ⟨rfl, rfl⟩ := hp
  refine g_sv ?_
  first | refine g_ast4 hC d_Comp_round_5 rfl (hN 4 rfl) ?_ | (refine g_fg3 ?_; refine g_ast4 hC d_Comp_round_5 rfl (hN 4 rfl) ?_)
  refine g_round_ok hC hr hs ?_
  rw [hok]
  refine g_callS1 hC sp_Comp_need oc_Comp_need os_Comp_need ml_Comp_89 hR (Nat.le_of_ble_eq_true rfl) (Nat.le_of_ble_eq_true rfl) (Nat.le_of_ble_eq_true rfl) (Nat.le_of_ble_eq_true rfl) (Nat.le_of_ble_eq_true rfl) d_Comp_round_32 (fun r M hp => ?_)
  obtain ⟨rfl, rfl⟩ := hp
  refine g_s0 ?_
  refine g_aload_n hC rfl d_Comp_round_35 ?_
  refine g_iconst hC d_Comp_round_36 ?_
  refine g_callV1 hC (sp_Comp_refusal (al := true) h) oc_Comp_refusal ov_Comp_refusal ml_Comp_108 h.o rfl hR (Nat.le_of_ble_eq_true rfl) (Nat.le_of_ble_eq_true rfl) (Nat.le_of_ble_eq_true rfl) (Nat.le_of_ble_eq_true rfl) (Nat.le_of_ble_eq_true rfl) d_Comp_round_37 (fun r M hp => ?_)
  obtain ⟨rfl, rfl⟩ := hp
  refine g_sv ?_
  have hrf := rfs_in true xs.length
  first | refine g_ist5 hC d_Comp_round_40 rfl (hN 5 rfl) ?_ | (refine g_fg4 ?_; refine g_ist5 hC d_Comp_round_40 rfl (hN 5 rfl) ?_)
  refine g_iload hC rfl d_Comp_round_42 ?_
  refine g_if_eq hC (by unfold I32; omega) d_Comp_round_44 (fun c9 => ?_) (fun c9 => ?_)
  · rw [if_pos c9, if_pos c9] at hQ
    refine g_aload_n hC rfl d_Comp_round_50 ?_
    refine g_get hC fb_Comp_29 h.o rfl d_Comp_round_51 ?_
    refine g_get hC fb_Comp_63 h.d.o rfl d_Comp_round_54 ?_
    refine g_aload hC rfl d_Comp_round_57 ?_
    refine g_callV1 hC (sp_copyQ h.d.fxm o1 (by omega) (b740 bx (by decide) (by decide)) (by decide) (by decide)) oc_Frac_copy ov_Frac_copy ml_Comp_74 h.d.fxm.rc.choose_spec rfl hR (Nat.le_of_ble_eq_true rfl) (Nat.le_of_ble_eq_true rfl) (Nat.le_of_ble_eq_true rfl) (Nat.le_of_ble_eq_true rfl) (Nat.le_of_ble_eq_true rfl) d_Comp_round_59 (fun r M1 hp => ?_)
    obtain ⟨rfl, oc, fc⟩ := hp
    refine g_s0 ?_
    obtain ⟨h1, m1⟩ := h.cp fc oc
    refine g_aload_n hC rfl d_Comp_round_62 ?_
    refine g_get hC fb_Comp_29 h1.o rfl d_Comp_round_63 ?_
    refine g_iload_n hC rfl d_Comp_round_66 ?_
    refine g_iload_n hC rfl d_Comp_round_67 ?_
    obtain ⟨k, rfl⟩ : ∃ k : Nat, steps = k := ⟨steps.toNat, by omega⟩
    rw [Int.toNat_natCast] at hQ
    refine g_callV2 hC (sp_Desk_round (i := 100) m1 (by omega) (by omega) (by omega) (by omega) bx (by decide)) oc_Desk_round ov_Desk_round ml_Comp_129 h1.d.o rfl hR (Nat.le_of_ble_eq_true rfl) (Nat.le_of_ble_eq_true rfl) (Nat.le_of_ble_eq_true rfl) (Nat.le_of_ble_eq_true rfl) (Nat.le_of_ble_eq_true rfl) d_Comp_round_68 (fun r M2 hp => ?_)
    obtain ⟨rfl, m2, f2⟩ := hp
    refine g_s0 ?_
    have h2 := h1.md f2 m2.x
    refine g_aload_n hC rfl d_Comp_round_71 ?_
    refine g_callV0 hC (sp_Comp_keep ⟨vs, ss, rs, h2⟩ hms (hx200 hms.1.1 c9) m2) oc_Comp_keep ov_Comp_keep ml_Comp_97 h2.o rfl hR (Nat.le_of_ble_eq_true rfl) (Nat.le_of_ble_eq_true rfl) (Nat.le_of_ble_eq_true rfl) (Nat.le_of_ble_eq_true rfl) (Nat.le_of_ble_eq_true rfl) d_Comp_round_72 (fun r M3 hp => ?_)
    obtain ⟨rfl, h3⟩ := hp
    refine g_sv ?_
    refine g_iret hC hQ (by decide) (by decide) d_Comp_round_75 ⟨rfl, h3⟩
  · rw [if_neg c9, if_neg c9] at hQ
    refine g_iload hC rfl d_Comp_round_47 ?_
    refine g_iret hC hQ (by decide) (by decide) d_Comp_round_49 ⟨rfl, vs, ss, rs, h⟩
theorem st_Comp_round {a rule steps : Int} (htr : l.stackTraces = false) (hcx : CX K M c xs ws wl) (ha : I32 a) (hv : vat xs a = none) : St l K m_Comp_round 8 6 508 [.ref c, iv a, iv rule, iv steps] M R_IoE := by
  refine St.ofG R_Comp rfl (by decide) [some (.ref c), some (iv a), some (iv rule), some (iv steps), none, none] rfl (Nat.le_of_ble_eq_true rfl) ?_
  intro X hl hK hN hR hC hQ
  subst hl hK
  obtain ⟨vs, ss, rs, h⟩ := hcx
  refine g_aload_n hC rfl d_Comp_round_0 ?_
  refine g_iload_n hC rfl d_Comp_round_1 ?_
  exact g_callVT hC hQ rfl (st_Comp_of htr h ha (vat_none hv)) oc_Comp_of ov_Comp_of ml_Comp_100 h.o rfl rfl (st := []) rfl hR (by decide) (by decide) (by decide) (by decide) (by decide) d_Comp_round_2
theorem st_Comp_round2 {a rule steps : Int} {x : Rat × Int} (htr : l.stackTraces = false) (hcx : CX K M c xs ws wl) (hr : I32 rule) (hs : I32 steps) (hx : vat xs a = some x) (hok : okR rule steps = false) : St l K m_Comp_round 8 6 508 [.ref c, iv a, iv rule, iv steps] M R_IaE := by
  refine St.ofG R_Comp rfl (by decide) [some (.ref c), some (iv a), some (iv rule), some (iv steps), none, none] rfl (Nat.le_of_ble_eq_true rfl) ?_
  intro X hl hK hN hR hC hQ
  subst hl hK
  obtain ⟨vs, ss, rs, h⟩ := hcx
  obtain ⟨k1, p1, mi1, a1, b1, rfl, hk1, hv1, hc1, hF1, q1⟩ := h.at hx
  refine g_aload_n hC rfl d_Comp_round_0 ?_
  refine g_iload_n hC rfl d_Comp_round_1 ?_
  refine g_callV1 hC (sp_Comp_of h hv1 hF1.1) oc_Comp_of ov_Comp_of ml_Comp_100 h.o rfl hR (Nat.le_of_ble_eq_true rfl) (Nat.le_of_ble_eq_true rfl) (Nat.le_of_ble_eq_true rfl) (Nat.le_of_ble_eq_true rfl) (Nat.le_of_ble_eq_true rfl) d_Comp_round_2 (fun r M hp => ?_)
  obtain ⟨rfl, rfl⟩ := hp
  refine g_sv ?_
  first | refine g_ast4 hC d_Comp_round_5 rfl (hN 4 rfl) ?_ | (refine g_fg3 ?_; refine g_ast4 hC d_Comp_round_5 rfl (hN 4 rfl) ?_)
  refine g_round_ok hC hr hs ?_
  rw [hok]
  exact g_callST hC hQ rfl (st_Comp_need htr) oc_Comp_need os_Comp_need ml_Comp_89 rfl (st := []) rfl hR (by decide) (by decide) (by decide) (by decide) (by decide) d_Comp_round_32
end Cround
theorem d_Comp_told_0 : dn m_Comp_told.2.1 0 (.aload_n 0) 1 1 := ⟨by decide +kernel, rfl⟩
theorem d_Comp_told_1 : dn m_Comp_told.2.1 1 (.iload_n 1) 1 2 := ⟨by decide +kernel, rfl⟩
theorem d_Comp_told_2 : dn m_Comp_told.2.1 2 (.invokevirtual 100) 3 5 := ⟨by decide +kernel, rfl⟩
theorem d_Comp_told_5 : dn m_Comp_told.2.1 5 (.astore_n 3) 1 6 := ⟨by decide +kernel, rfl⟩
theorem d_Comp_told_6 : dn m_Comp_told.2.1 6 (.iload_n 2) 1 7 := ⟨by decide +kernel, rfl⟩
theorem d_Comp_told_7 : db m_Comp_told.2.1 7 (.ifCond .lt) 19 10 := ⟨12, by decide +kernel, by decide, rfl⟩
theorem d_Comp_told_10 : dn m_Comp_told.2.1 10 (.iload_n 2) 1 11 := ⟨by decide +kernel, rfl⟩
theorem d_Comp_told_11 : dn m_Comp_told.2.1 11 (.iconst 3) 1 12 := ⟨by decide +kernel, rfl⟩
theorem d_Comp_told_12 : db m_Comp_told.2.1 12 (.if_icmp .gt) 19 15 := ⟨7, by decide +kernel, by decide, rfl⟩
theorem d_Comp_told_15 : dn m_Comp_told.2.1 15 (.iconst 1) 1 16 := ⟨by decide +kernel, rfl⟩
theorem d_Comp_told_16 : db m_Comp_told.2.1 16 (.goto) 20 19 := ⟨4, by decide +kernel, by decide, rfl⟩
theorem d_Comp_told_19 : dn m_Comp_told.2.1 19 (.iconst 0) 1 20 := ⟨by decide +kernel, rfl⟩
theorem d_Comp_told_20 : dn m_Comp_told.2.1 20 (.invokestatic 89) 3 23 := ⟨by decide +kernel, rfl⟩
theorem d_Comp_told_23 : dn m_Comp_told.2.1 23 (.iload_n 2) 1 24 := ⟨by decide +kernel, rfl⟩
theorem d_Comp_told_24 : dn m_Comp_told.2.1 24 (.tableswitch 49 0 2 #[28, 33, 41]) 28 52 := ⟨by decide +kernel, rfl⟩
theorem d_Comp_told_52 : dn m_Comp_told.2.1 52 (.aload_n 3) 1 53 := ⟨by decide +kernel, rfl⟩
theorem d_Comp_told_53 : dn m_Comp_told.2.1 53 (.invokevirtual 118) 3 56 := ⟨by decide +kernel, rfl⟩
theorem d_Comp_told_56 : dn m_Comp_told.2.1 56 (.ireturn) 1 57 := ⟨by decide +kernel, rfl⟩
theorem d_Comp_told_57 : dn m_Comp_told.2.1 57 (.aload_n 3) 1 58 := ⟨by decide +kernel, rfl⟩
theorem d_Comp_told_58 : dn m_Comp_told.2.1 58 (.getfield 144) 3 61 := ⟨by decide +kernel, rfl⟩
theorem d_Comp_told_61 : dn m_Comp_told.2.1 61 (.invokevirtual 147) 3 64 := ⟨by decide +kernel, rfl⟩
theorem d_Comp_told_64 : dn m_Comp_told.2.1 64 (.ireturn) 1 65 := ⟨by decide +kernel, rfl⟩
theorem d_Comp_told_65 : dn m_Comp_told.2.1 65 (.aload_n 3) 1 66 := ⟨by decide +kernel, rfl⟩
theorem d_Comp_told_66 : dn m_Comp_told.2.1 66 (.getfield 134) 3 69 := ⟨by decide +kernel, rfl⟩
theorem d_Comp_told_69 : dn m_Comp_told.2.1 69 (.invokevirtual 147) 3 72 := ⟨by decide +kernel, rfl⟩
theorem d_Comp_told_72 : dn m_Comp_told.2.1 72 (.ireturn) 1 73 := ⟨by decide +kernel, rfl⟩
theorem d_Comp_told_73 : dn m_Comp_told.2.1 73 (.aload_n 3) 1 74 := ⟨by decide +kernel, rfl⟩
theorem d_Comp_told_74 : dn m_Comp_told.2.1 74 (.getfield 104) 3 77 := ⟨by decide +kernel, rfl⟩
theorem d_Comp_told_77 : dn m_Comp_told.2.1 77 (.ireturn) 1 78 := ⟨by decide +kernel, rfl⟩
section Ctold
variable {l : Launch} {K : KC} {M : AH} {c : Nat} {xs : List (Rat × Int)} {ws : List (List (Nat × Nat))} {wl : List Int}
noncomputable def toldR (x : Rat × Int) (w : Int) : Int := if w = 0 then czr x.1 0 else if w = 1 then (dgs x.1.num.natAbs : Int) else if w = 2 then (dgs x.1.den : Int) else x.2
theorem czr0 {mi : Bool} {a b : Nat} {x : Rat} (h : isQ mi a b x) : sgn mi a = czr x 0 := by
  have hq : isQ false 0 1 (0 : Rat) := isQ_0
  rw [czr_sgn h hq]
  have e0 : sgn false 0 = 0 := rfl
  rw [e0]
  have h1 : a * 1 = a := Nat.mul_one a
  have h2 : 0 * b = 0 := Nat.zero_mul b
  rw [h1, h2]
  unfold sgn
  by_cases ha : a = 0
  · subst ha
    rw [if_pos rfl, if_neg (fun h => h rfl)]
    cases mi <;> rfl
  · rw [if_neg ha]
    cases mi with
    | true => rw [if_pos rfl, if_pos (by decide)]; rfl
    | false => rw [if_neg (by decide), if_pos (by decide)]; rfl
def okT (w : Int) : Bool := decide (0 ≤ w ∧ w ≤ 3)
theorem g_told_ok {X : CT} {w a : Int} {o3 : Option Value} (hC : Cx X R_Comp m_Comp_told.2.1 m_Comp_told.2.2.2 "told" false) (hr : I32 w) (J : G X 0 0 M 20 [some (.ref c), some (iv a), some (iv w), o3] [iv (bz (okT w))]) : G X 0 0 M 6 [some (.ref c), some (iv a), some (iv w), o3] [] := by
  have F : okT w = false → G X 0 0 M 19 [some (.ref c), some (iv a), some (iv w), o3] [] := by
    intro q
    rw [q] at J
    refine g_iconst hC d_Comp_told_19 ?_
    exact J
  refine g_iload_n hC rfl d_Comp_told_6 ?_
  refine g_if_lt hC hr d_Comp_told_7 (fun c1 => ?_) (fun c1 => ?_)
  · exact F (decide_eq_false (by omega))
  · refine g_iload_n hC rfl d_Comp_told_10 ?_
    refine g_iconst hC d_Comp_told_11 ?_
    refine g_icmp_gt hC hr (by unfold I32; omega) d_Comp_told_12 (fun c2 => ?_) (fun c2 => ?_)
    · exact F (decide_eq_false (by omega))
    · refine g_iconst hC d_Comp_told_15 ?_
      refine g_goto hC d_Comp_told_16 ?_
      rw [show okT w = true from decide_eq_true (by omega)] at J
      exact J
theorem g_tabO {X : CT} {cs sl : Nat} {pc : Nat} {L : List (Option Value)} {st : List Value} {own : String} {cc : ByteArray} {rt : Option FieldType} {nm : String} {hh : Bool} (hC : Cx X own cc rt nm hh) {dflt lo hi : Int} {offs : Array Int} {len pc' tgt : Nat} {x : Int} (hx : I32 x) (hd : dn cc pc (.tableswitch dflt lo hi offs) len pc') (h : x < lo ∨ hi < x) (ht : (pc : Int) + dflt = (tgt : Int)) (kk : G X cs sl M tgt L st) : G X cs sl M pc L (iv x :: st) := by
  intro H locs ls hH hlo hL
  exact lv_tableOut hC.1 hC.2.1 hd.1 (by rw [ti32 hx]; exact h) ht (kk H locs ls hH hlo hL)
theorem g_tabI {X : CT} {cs sl : Nat} {pc : Nat} {L : List (Option Value)} {st : List Value} {own : String} {cc : ByteArray} {rt : Option FieldType} {nm : String} {hh : Bool} (hC : Cx X own cc rt nm hh) {dflt lo hi off : Int} {offs : Array Int} {len pc' tgt : Nat} {x : Int} (hx : I32 x) (hd : dn cc pc (.tableswitch dflt lo hi offs) len pc') (h1 : lo ≤ x) (h2 : x ≤ hi) (ho : offs[(x - lo).toNat]? = some off) (ht : (pc : Int) + off = (tgt : Int)) (kk : G X cs sl M tgt L st) : G X cs sl M pc L (iv x :: st) := by
  intro H locs ls hH hlo hL
  exact lv_tableIn hC.1 hC.2.1 hd.1 (by rw [ti32 hx]; omega) (by rw [ti32 hx]; omega) (by rw [ti32 hx]; exact ho) ht (kk H locs ls hH hlo hL)
theorem sp_Comp_told {a w : Int} {x : Rat × Int} (hcx : CX K M c xs ws wl) (hms : MS xs ws wl) (hw : I32 w) (hx : vat xs a = some x) (hok : okT w = true) :
    Sp l K m_Comp_told 8 6 508 [.ref c, iv a, iv w] M (fun r M' => r = some (iv (toldR x w)) ∧ M' = M) := by
  refine Sp.ofG R_Comp rfl (by decide) [some (.ref c), some (iv a), some (iv w), none] rfl (Nat.le_of_ble_eq_true rfl) ?_
  intro X hl hK hN hR hC hQ
  subst hl hK
  obtain ⟨vs, ss, rs, h⟩ := hcx
  obtain ⟨k1, p1, mi1, a1, b1, rfl, hk1, hv1, hc1, hF1, q1⟩ := h.at hx
  have hok' := of_decide_eq_true hok
  refine g_aload_n hC rfl d_Comp_told_0 ?_
  refine g_iload_n hC rfl d_Comp_told_1 ?_
  refine g_callV1 hC (sp_Comp_of h hv1 hF1.1) oc_Comp_of ov_Comp_of ml_Comp_100 h.o rfl hR (Nat.le_of_ble_eq_true rfl) (Nat.le_of_ble_eq_true rfl) (Nat.le_of_ble_eq_true rfl) (Nat.le_of_ble_eq_true rfl) (Nat.le_of_ble_eq_true rfl) d_Comp_told_2 (fun r M hp => ?_)
  obtain ⟨rfl, rfl⟩ := hp
  refine g_sv ?_
  first | refine g_ast3 hC d_Comp_told_5 rfl (hN 3 rfl) ?_ | (refine g_fg2 ?_; refine g_ast3 hC d_Comp_told_5 rfl (hN 3 rfl) ?_)
  refine g_told_ok hC hw ?_
  rw [hok]
  refine g_callS1 hC sp_Comp_need oc_Comp_need os_Comp_need ml_Comp_89 hR (Nat.le_of_ble_eq_true rfl) (Nat.le_of_ble_eq_true rfl) (Nat.le_of_ble_eq_true rfl) (Nat.le_of_ble_eq_true rfl) (Nat.le_of_ble_eq_true rfl) d_Comp_told_20 (fun r M hp => ?_)
  obtain ⟨rfl, rfl⟩ := hp
  refine g_s0 ?_
  refine g_iload_n hC rfl d_Comp_told_23 ?_
  rcases (show w = 0 ∨ w = 1 ∨ w = 2 ∨ w = 3 by omega) with rfl | rfl | rfl | rfl
  · refine g_tabI hC (by unfold I32; omega) d_Comp_told_24 (tgt := 52) (by omega) (by omega) (off := 28) rfl (by decide) ?_
    refine g_aload_n hC rfl d_Comp_told_52 ?_
    refine g_callV0 hC (sp_Frac_sign hF1 (by decide)) oc_Frac_sign ov_Frac_sign ml_Comp_118 hF1.1 rfl hR (Nat.le_of_ble_eq_true rfl) (Nat.le_of_ble_eq_true rfl) (Nat.le_of_ble_eq_true rfl) (Nat.le_of_ble_eq_true rfl) (Nat.le_of_ble_eq_true rfl) d_Comp_told_53 (fun r M hp => ?_)
    obtain ⟨rfl, rfl⟩ := hp
    refine g_sv ?_
    show G X 0 0 M 56 _ [iv (sgn mi1 a1)]
    refine g_iret hC hQ (by decide) (by decide) d_Comp_told_56 ⟨by rw [czr0 q1]; rfl, rfl⟩
  · refine g_tabI hC (by unfold I32; omega) d_Comp_told_24 (tgt := 57) (by omega) (by omega) (off := 33) rfl (by decide) ?_
    refine g_aload_n hC rfl d_Comp_told_57 ?_
    refine g_get hC fb_Comp_144 hF1.1 rfl d_Comp_told_58 ?_
    refine g_callV0 hC (sp_Whole_digits hF1.2.1 (by decide)) oc_Whole_digits ov_Whole_digits ml_Comp_147 hF1.2.1.rc.choose_spec rfl hR (Nat.le_of_ble_eq_true rfl) (Nat.le_of_ble_eq_true rfl) (Nat.le_of_ble_eq_true rfl) (Nat.le_of_ble_eq_true rfl) (Nat.le_of_ble_eq_true rfl) d_Comp_told_61 (fun r M hp => ?_)
    obtain ⟨rfl, rfl⟩ := hp
    refine g_sv ?_
    rw [q1.1]
    refine g_iret hC hQ (by decide) (by decide) d_Comp_told_64 ⟨rfl, rfl⟩
  · refine g_tabI hC (by unfold I32; omega) d_Comp_told_24 (tgt := 65) (by omega) (by omega) (off := 41) rfl (by decide) ?_
    refine g_aload_n hC rfl d_Comp_told_65 ?_
    refine g_get hC fb_Comp_134 hF1.1 rfl d_Comp_told_66 ?_
    refine g_callV0 hC (sp_Whole_digits hF1.2.2 (by decide)) oc_Whole_digits ov_Whole_digits ml_Comp_147 hF1.2.2.rc.choose_spec rfl hR (Nat.le_of_ble_eq_true rfl) (Nat.le_of_ble_eq_true rfl) (Nat.le_of_ble_eq_true rfl) (Nat.le_of_ble_eq_true rfl) (Nat.le_of_ble_eq_true rfl) d_Comp_told_69 (fun r M hp => ?_)
    obtain ⟨rfl, rfl⟩ := hp
    refine g_sv ?_
    rw [q1.2.1]
    refine g_iret hC hQ (by decide) (by decide) d_Comp_told_72 ⟨rfl, rfl⟩
  · refine g_tabO hC (by unfold I32; omega) d_Comp_told_24 (tgt := 73) (by omega) (by decide) ?_
    refine g_aload_n hC rfl d_Comp_told_73 ?_
    refine g_get hC fb_Comp_104 hF1.1 rfl d_Comp_told_74 ?_
    refine g_iret hC hQ (by decide) (by decide) d_Comp_told_77 ⟨rfl, rfl⟩
theorem st_Comp_told {a w : Int} (htr : l.stackTraces = false) (hcx : CX K M c xs ws wl) (ha : I32 a) (hv : vat xs a = none) : St l K m_Comp_told 8 6 508 [.ref c, iv a, iv w] M R_IoE := by
  refine St.ofG R_Comp rfl (by decide) [some (.ref c), some (iv a), some (iv w), none] rfl (Nat.le_of_ble_eq_true rfl) ?_
  intro X hl hK hN hR hC hQ
  subst hl hK
  obtain ⟨vs, ss, rs, h⟩ := hcx
  refine g_aload_n hC rfl d_Comp_told_0 ?_
  refine g_iload_n hC rfl d_Comp_told_1 ?_
  exact g_callVT hC hQ rfl (st_Comp_of htr h ha (vat_none hv)) oc_Comp_of ov_Comp_of ml_Comp_100 h.o rfl rfl (st := []) rfl hR (by decide) (by decide) (by decide) (by decide) (by decide) d_Comp_told_2
theorem st_Comp_told2 {a w : Int} {x : Rat × Int} (htr : l.stackTraces = false) (hcx : CX K M c xs ws wl) (hw : I32 w) (hx : vat xs a = some x) (hok : okT w = false) : St l K m_Comp_told 8 6 508 [.ref c, iv a, iv w] M R_IaE := by
  refine St.ofG R_Comp rfl (by decide) [some (.ref c), some (iv a), some (iv w), none] rfl (Nat.le_of_ble_eq_true rfl) ?_
  intro X hl hK hN hR hC hQ
  subst hl hK
  obtain ⟨vs, ss, rs, h⟩ := hcx
  obtain ⟨k1, p1, mi1, a1, b1, rfl, hk1, hv1, hc1, hF1, q1⟩ := h.at hx
  refine g_aload_n hC rfl d_Comp_told_0 ?_
  refine g_iload_n hC rfl d_Comp_told_1 ?_
  refine g_callV1 hC (sp_Comp_of h hv1 hF1.1) oc_Comp_of ov_Comp_of ml_Comp_100 h.o rfl hR (Nat.le_of_ble_eq_true rfl) (Nat.le_of_ble_eq_true rfl) (Nat.le_of_ble_eq_true rfl) (Nat.le_of_ble_eq_true rfl) (Nat.le_of_ble_eq_true rfl) d_Comp_told_2 (fun r M hp => ?_)
  obtain ⟨rfl, rfl⟩ := hp
  refine g_sv ?_
  first | refine g_ast3 hC d_Comp_told_5 rfl (hN 3 rfl) ?_ | (refine g_fg2 ?_; refine g_ast3 hC d_Comp_told_5 rfl (hN 3 rfl) ?_)
  refine g_told_ok hC hw ?_
  rw [hok]
  exact g_callST hC hQ rfl (st_Comp_need htr) oc_Comp_need os_Comp_need ml_Comp_89 rfl (st := []) rfl hR (by decide) (by decide) (by decide) (by decide) (by decide) d_Comp_told_20
end Ctold
