/-! Comp: value, add, times, over, order, round -/
theorem CI.md {K : KC} {M M' : AH} {c : Nat} {vs ss rs : List Nat} {xs : List (Rat × Int)} {ws : List (List (Nat × Nat))} {wl : List Int} (h : CI K M c vs ss rs xs ws wl) (hf : frM M M' (c + 5)) (hd : dkx K M' (c + 5)) : CI K M' c vs ss rs xs ws wl :=
  h.desk ((frD.rf).m hf) hd (h.hx.eq (fun z _ _ => hf.2 z (by omega)))
theorem CI.cp {K : KC} {M M' : AH} {c : Nat} {vs ss rs : List Nat} {xs : List (Rat × Int)} {ws : List (List (Nat × Nat))} {wl : List Int} (h : CI K M c vs ss rs xs ws wl) (hf : frF M M' (c + 5 + 1)) {x : Rat} {un : Int} (ho : opx K M' (c + 5 + 1) 740 x un) : CI K M' c vs ss rs xs ws wl ∧ mdx K M' (c + 5) x un := by
  have hm := mdx_cp h.d ho hf
  exact ⟨h.desk ((frD.rf (d := c + 5)).f hf (by omega) (by omega)) hm.x (h.hx.eq (fun z _ _ => hf.2 z (by omega))), hm⟩
def o_value (xs : List (Rat × Int)) (a b u : Int) : Int × Int × List (Rat × Int) := if b = 0 then (1, 0, xs) else if isU u = false then (2, 0, xs) else if xs.length = 200 then (0, -3, xs) else (0, kpR xs (qv a b), kpS xs (qv a b) u)
theorem d_Comp_value_0 : dn m_Comp_value.2.1 0 (.lload_n 3) 1 1 := ⟨by decide +kernel, rfl⟩
theorem d_Comp_value_1 : dn m_Comp_value.2.1 1 (.lconst 0) 1 2 := ⟨by decide +kernel, rfl⟩
theorem d_Comp_value_2 : dn m_Comp_value.2.1 2 (.lcmp) 1 3 := ⟨by decide +kernel, rfl⟩
theorem d_Comp_value_3 : db m_Comp_value.2.1 3 (.ifCond .ne) 14 6 := ⟨11, by decide +kernel, by decide, rfl⟩
theorem d_Comp_value_6 : dn m_Comp_value.2.1 6 (.new 82) 3 9 := ⟨by decide +kernel, rfl⟩
theorem d_Comp_value_9 : dn m_Comp_value.2.1 9 (.dup) 1 10 := ⟨by decide +kernel, rfl⟩
theorem d_Comp_value_10 : dn m_Comp_value.2.1 10 (.invokespecial 84) 3 13 := ⟨by decide +kernel, rfl⟩
theorem d_Comp_value_13 : dn m_Comp_value.2.1 13 (.athrow) 1 14 := ⟨by decide +kernel, rfl⟩
theorem d_Comp_value_14 : dn m_Comp_value.2.1 14 (.iload 5) 2 16 := ⟨by decide +kernel, rfl⟩
theorem d_Comp_value_16 : dn m_Comp_value.2.1 16 (.invokestatic 85) 3 19 := ⟨by decide +kernel, rfl⟩
theorem d_Comp_value_19 : dn m_Comp_value.2.1 19 (.invokestatic 89) 3 22 := ⟨by decide +kernel, rfl⟩
theorem d_Comp_value_22 : dn m_Comp_value.2.1 22 (.aload_n 0) 1 23 := ⟨by decide +kernel, rfl⟩
theorem d_Comp_value_23 : dn m_Comp_value.2.1 23 (.getfield 10) 3 26 := ⟨by decide +kernel, rfl⟩
theorem d_Comp_value_26 : dn m_Comp_value.2.1 26 (.invokevirtual 39) 3 29 := ⟨by decide +kernel, rfl⟩
theorem d_Comp_value_29 : dn m_Comp_value.2.1 29 (.sipush 200) 3 32 := ⟨by decide +kernel, rfl⟩
theorem d_Comp_value_32 : db m_Comp_value.2.1 32 (.if_icmp .ne) 38 35 := ⟨6, by decide +kernel, by decide, rfl⟩
theorem d_Comp_value_35 : dn m_Comp_value.2.1 35 (.bipush (-3)) 2 37 := ⟨by decide +kernel, rfl⟩
theorem d_Comp_value_37 : dn m_Comp_value.2.1 37 (.ireturn) 1 38 := ⟨by decide +kernel, rfl⟩
theorem d_Comp_value_38 : dn m_Comp_value.2.1 38 (.aload_n 0) 1 39 := ⟨by decide +kernel, rfl⟩
theorem d_Comp_value_39 : dn m_Comp_value.2.1 39 (.getfield 29) 3 42 := ⟨by decide +kernel, rfl⟩
theorem d_Comp_value_42 : dn m_Comp_value.2.1 42 (.lload_n 1) 1 43 := ⟨by decide +kernel, rfl⟩
theorem d_Comp_value_43 : dn m_Comp_value.2.1 43 (.lload_n 3) 1 44 := ⟨by decide +kernel, rfl⟩
theorem d_Comp_value_44 : dn m_Comp_value.2.1 44 (.iload 5) 2 46 := ⟨by decide +kernel, rfl⟩
theorem d_Comp_value_46 : dn m_Comp_value.2.1 46 (.invokevirtual 93) 3 49 := ⟨by decide +kernel, rfl⟩
theorem d_Comp_value_49 : dn m_Comp_value.2.1 49 (.aload_n 0) 1 50 := ⟨by decide +kernel, rfl⟩
theorem d_Comp_value_50 : dn m_Comp_value.2.1 50 (.invokevirtual 97) 3 53 := ⟨by decide +kernel, rfl⟩
theorem d_Comp_value_53 : dn m_Comp_value.2.1 53 (.ireturn) 1 54 := ⟨by decide +kernel, rfl⟩
section CV
variable {l : Launch} {K : KC} {M : AH} {c : Nat} {xs : List (Rat × Int)} {ws : List (List (Nat × Nat))} {wl : List Int}
theorem sp_Comp_value {a b u : Int} (hcx : CX K M c xs ws wl) (hms : MS xs ws wl) (ha : I64 a) (hb : I64 b) (hu : I32 u) (h0 : (o_value xs a b u).1 = 0) :
    Sp l K m_Comp_value 8 6 508 [.ref c, jv a, jv b, iv u] M (fun r M' => r = some (iv (o_value xs a b u).2.1) ∧ CX K M' c (o_value xs a b u).2.2 ws wl) := by
  refine Sp.ofG R_Comp rfl (by decide) [some (.ref c), some (jv a), none, some (jv b), none, some (iv u)] rfl (Nat.le_of_ble_eq_true rfl) ?_
  intro X hl hK hN hR hC hQ
  subst hl hK
  obtain ⟨vs, ss, rs, h⟩ := hcx
  have hb0 : b ≠ 0 := fun q => by rw [o_value, if_pos q] at h0; simp at h0
  have hun : isU u = true := by
    cases q : isU u with
    | true => rfl
    | false => rw [o_value, if_neg hb0, if_pos q] at h0; simp at h0
  unfold o_value at hQ
  rw [if_neg hb0, if_neg (by rw [hun]; decide)] at hQ
  clear h0
  refine g_lload_n hC rfl d_Comp_value_0 ?_
  refine g_lconst (z := 0) hC (by decide) d_Comp_value_1 ?_
  refine g_lcmp hC hb j0 d_Comp_value_2 ?_
  refine g_lif_ne hC d_Comp_value_3 (fun c_1 => ?_) (fun c_1 => ?_)
  · refine g_iload hC rfl d_Comp_value_14 ?_
    refine g_callS1 hC (sp_Comp_isUnit hu) oc_Comp_isUnit os_Comp_isUnit ml_Comp_85 hR (Nat.le_of_ble_eq_true rfl) (Nat.le_of_ble_eq_true rfl) (Nat.le_of_ble_eq_true rfl) (Nat.le_of_ble_eq_true rfl) (Nat.le_of_ble_eq_true rfl) d_Comp_value_16 (fun r M hp => ?_)
    obtain ⟨rfl, rfl⟩ := hp
    refine g_sv ?_
    rw [hun]
    refine g_callS1 hC sp_Comp_need oc_Comp_need os_Comp_need ml_Comp_89 hR (Nat.le_of_ble_eq_true rfl) (Nat.le_of_ble_eq_true rfl) (Nat.le_of_ble_eq_true rfl) (Nat.le_of_ble_eq_true rfl) (Nat.le_of_ble_eq_true rfl) d_Comp_value_19 (fun r M hp => ?_)
    obtain ⟨rfl, rfl⟩ := hp
    refine g_s0 ?_
    obtain ⟨e, cap, q1, q2, q3⟩ := h.v
    have hln := h.len
    have hle := q3.2.2.1
    refine g_aload_n hC rfl d_Comp_value_22 ?_
    refine g_get hC fb_Comp_10 h.o rfl d_Comp_value_23 ?_
    refine g_callV0 hC (sp_AL_size q3) oc_AL_size ov_AL_size ml_Comp_39 q3.1.choose_spec rfl hR (Nat.le_of_ble_eq_true rfl) (Nat.le_of_ble_eq_true rfl) (Nat.le_of_ble_eq_true rfl) (Nat.le_of_ble_eq_true rfl) (Nat.le_of_ble_eq_true rfl) d_Comp_value_26 (fun r M hp => ?_)
    obtain ⟨rfl, rfl⟩ := hp
    refine g_sv ?_
    refine g_sipush hC (by decide) d_Comp_value_29 ?_
    refine g_icmp_ne hC (by unfold I32; omega) (by unfold I32; omega) d_Comp_value_32 (fun c2 => ?_) (fun c2 => ?_)
    · rw [if_neg (by omega)] at hQ
      dsimp only at hQ
      have hD := h.d
      obtain ⟨mi, un, hDK⟩ := hD
      refine g_aload_n hC rfl d_Comp_value_38 ?_
      refine g_get hC fb_Comp_29 h.o rfl d_Comp_value_39 ?_
      refine g_lload_n hC rfl d_Comp_value_42 ?_
      refine g_lload_n hC rfl d_Comp_value_43 ?_
      refine g_iload hC rfl d_Comp_value_44 ?_
      refine g_callV3 hC (sp_Desk_set hDK ha hb hb0) oc_Desk_set ov_Desk_set ml_Comp_93 hDK.o rfl hR (Nat.le_of_ble_eq_true rfl) (Nat.le_of_ble_eq_true rfl) (Nat.le_of_ble_eq_true rfl) (Nat.le_of_ble_eq_true rfl) (Nat.le_of_ble_eq_true rfl) d_Comp_value_46 (fun r M1 hp => ?_)
      obtain ⟨rfl, m1, f1⟩ := hp
      refine g_s0 ?_
      have h1 := h.md f1 m1.x
      refine g_aload_n hC rfl d_Comp_value_49 ?_
      refine g_callV0 hC (sp_Comp_keep ⟨vs, ss, rs, h1⟩ hms (by have := hms.1.1; omega) m1) oc_Comp_keep ov_Comp_keep ml_Comp_97 h1.o rfl hR (Nat.le_of_ble_eq_true rfl) (Nat.le_of_ble_eq_true rfl) (Nat.le_of_ble_eq_true rfl) (Nat.le_of_ble_eq_true rfl) (Nat.le_of_ble_eq_true rfl) d_Comp_value_50 (fun r M2 hp => ?_)
      obtain ⟨rfl, h2⟩ := hp
      refine g_sv ?_
      refine g_iret hC hQ (by decide) (by decide) d_Comp_value_53 ⟨rfl, h2⟩
    · rw [if_pos (by omega)] at hQ
      dsimp only at hQ
      refine g_bipush hC (by decide) d_Comp_value_35 ?_
      refine g_iret hC hQ (by decide) (by decide) d_Comp_value_37 ⟨rfl, vs, ss, rs, h⟩
  · exact absurd c_1 hb0
theorem st_Comp_value1 {a b u : Int} (htr : l.stackTraces = false) (hb : b = 0) : St l K m_Comp_value 8 6 508 [.ref c, jv a, jv b, iv u] M R_ArE := by
  refine St.ofG R_Comp rfl (by decide) [some (.ref c), some (jv a), none, some (jv b), none, some (iv u)] rfl (Nat.le_of_ble_eq_true rfl) ?_
  intro X hl hK hN hR hC hQ
  subst hl hK
  subst hb
  refine g_lload_n hC rfl d_Comp_value_0 ?_
  refine g_lconst (z := 0) hC (by decide) d_Comp_value_1 ?_
  refine g_lcmp hC j0 j0 d_Comp_value_2 ?_
  refine g_lif_ne hC d_Comp_value_3 (fun c_1 => ?_) (fun c_1 => ?_)
  · exact absurd rfl c_1
  · exact g_throw hC htr hQ rfl cl_Comp_82 in_ArE ii_ArE ex_ArE (by decide) hR (by decide) (by decide) (by decide) d_Comp_value_6 d_Comp_value_9 d_Comp_value_10 d_Comp_value_13
theorem st_Comp_value2 {a b u : Int} (htr : l.stackTraces = false) (hb : I64 b) (hu : I32 u) (hb0 : b ≠ 0) (hun : isU u = false) : St l K m_Comp_value 8 6 508 [.ref c, jv a, jv b, iv u] M R_IaE := by
  refine St.ofG R_Comp rfl (by decide) [some (.ref c), some (jv a), none, some (jv b), none, some (iv u)] rfl (Nat.le_of_ble_eq_true rfl) ?_
  intro X hl hK hN hR hC hQ
  subst hl hK
  refine g_lload_n hC rfl d_Comp_value_0 ?_
  refine g_lconst (z := 0) hC (by decide) d_Comp_value_1 ?_
  refine g_lcmp hC hb j0 d_Comp_value_2 ?_
  refine g_lif_ne hC d_Comp_value_3 (fun c_1 => ?_) (fun c_1 => ?_)
  · refine g_iload hC rfl d_Comp_value_14 ?_
    refine g_callS1 hC (sp_Comp_isUnit hu) oc_Comp_isUnit os_Comp_isUnit ml_Comp_85 hR (Nat.le_of_ble_eq_true rfl) (Nat.le_of_ble_eq_true rfl) (Nat.le_of_ble_eq_true rfl) (Nat.le_of_ble_eq_true rfl) (Nat.le_of_ble_eq_true rfl) d_Comp_value_16 (fun r M hp => ?_)
    obtain ⟨rfl, rfl⟩ := hp
    refine g_sv ?_
    rw [hun]
    exact g_callST hC hQ rfl (st_Comp_need htr) oc_Comp_need os_Comp_need ml_Comp_89 rfl (st := []) rfl hR (by decide) (by decide) (by decide) (by decide) (by decide) d_Comp_value_19
  · exact absurd c_1 hb0
end CV
