/-! Comp: weight, noWeights, part, rest, share -/
section CWs
variable {l : Launch} {K : KC} {M : AH} {c : Nat} {xs : List (Rat × Int)} {ws : List (List (Nat × Nat))} {wl : List Int}
theorem CI.cw {M' : AH} {vs ss rs : List Nat} {wl' : List Int} (h : CI K M c vs ss rs xs ws wl) (he : ∀ x, x ≠ c → x ≠ c + 4 → M'.1 x = M.1 x) (h1 : M'.1 c = some (oO 4 [.ref (c + 1), .ref (c + 2), .ref (c + 3), .ref (c + 4), iv wl'.length, .ref (c + 5)])) {wf : Int → Int} (h2 : M'.1 (c + 4) = some (oI K 12 wf)) (h3 : ∀ i : Nat, i < wl'.length → wl'[i]? = some (wf i)) : CI K M' c vs ss rs xs ws wl' := by
  obtain ⟨_, j3, ⟨j4, j5, j6⟩, ⟨j7, j8⟩, j9, ⟨j10, j11⟩, j12, j13, j14, j15⟩ := h
  have e2 : ∀ x, x = kE K ∨ c + 24 ≤ x → M'.1 x = M.1 x := fun x hx => he x (by omega) (by omega)
  refine ⟨⟨h1, wf, h2, h3⟩, ⟨j3.1.eq (fun z _ _ => he z (by omega) (by omega)), j3.2.eq (fun z _ _ => he z (by omega) (by omega))⟩, ⟨j4.eq (he _ (by omega) (by omega)) e2, j5.eq (he _ (by omega) (by omega)) e2, j6.eq (he _ (by omega) (by omega)) e2⟩, ⟨j7, fun i p x hp hx => ?_⟩, fun p hp => ?_, ⟨j10, fun k r cs hr hc => ?_⟩, j12, j13.eq (fun a ha => ?_), (he _ (by omega) (by omega)).trans j14, j15⟩
  · have := j12.2.2.1 p (List.mem_append_left _ (List.mem_of_getElem? hp))
    exact (j8 i p x hp hx).eq (fun z _ _ => he z (by omega) (by omega))
  · have := j12.2.2.1 p (List.mem_append_right _ hp)
    exact (j9 p hp).eq (fun z _ _ => he z (by omega) (by omega))
  · have := j12.2.2.2.2 r (List.mem_of_getElem? hr)
    obtain ⟨q1, q2, q3⟩ := j11 k r cs hr hc
    exact ⟨(he _ (by omega) (by omega)).trans q1, q2.eq (he _ (by omega) (by omega)) e2, q3.eq (he _ (by omega) (by omega)) e2⟩
  · rcases ha with rfl | rfl | rfl | ⟨r, hr, rfl | rfl⟩
    · exact he _ (by omega) (by omega)
    · exact he _ (by omega) (by omega)
    · exact he _ (by omega) (by omega)
    · have := j12.2.2.2.2 r hr
      exact he _ (by omega) (by omega)
    · have := j12.2.2.2.2 r hr
      exact he _ (by omega) (by omega)
def okW (w : Int) : Bool := decide (1 ≤ w ∧ w ≤ 1000000000)
theorem d_Comp_weight_0 : dn m_Comp_weight.2.1 0 (.iload_n 1) 1 1 := ⟨by decide +kernel, rfl⟩
theorem d_Comp_weight_1 : dn m_Comp_weight.2.1 1 (.iconst 1) 1 2 := ⟨by decide +kernel, rfl⟩
theorem d_Comp_weight_2 : db m_Comp_weight.2.1 2 (.if_icmp .lt) 15 5 := ⟨13, by decide +kernel, by decide, rfl⟩
theorem d_Comp_weight_5 : dn m_Comp_weight.2.1 5 (.iload_n 1) 1 6 := ⟨by decide +kernel, rfl⟩
theorem d_Comp_weight_6 : dn m_Comp_weight.2.1 6 (.ldc 128) 2 8 := ⟨by decide +kernel, rfl⟩
theorem d_Comp_weight_8 : db m_Comp_weight.2.1 8 (.if_icmp .gt) 15 11 := ⟨7, by decide +kernel, by decide, rfl⟩
theorem d_Comp_weight_11 : dn m_Comp_weight.2.1 11 (.iconst 1) 1 12 := ⟨by decide +kernel, rfl⟩
theorem d_Comp_weight_12 : db m_Comp_weight.2.1 12 (.goto) 16 15 := ⟨4, by decide +kernel, by decide, rfl⟩
theorem d_Comp_weight_15 : dn m_Comp_weight.2.1 15 (.iconst 0) 1 16 := ⟨by decide +kernel, rfl⟩
theorem d_Comp_weight_16 : dn m_Comp_weight.2.1 16 (.invokestatic 89) 3 19 := ⟨by decide +kernel, rfl⟩
theorem d_Comp_weight_19 : dn m_Comp_weight.2.1 19 (.aload_n 0) 1 20 := ⟨by decide +kernel, rfl⟩
theorem d_Comp_weight_20 : dn m_Comp_weight.2.1 20 (.getfield 192) 3 23 := ⟨by decide +kernel, rfl⟩
theorem d_Comp_weight_23 : dn m_Comp_weight.2.1 23 (.bipush 12) 2 25 := ⟨by decide +kernel, rfl⟩
theorem d_Comp_weight_25 : db m_Comp_weight.2.1 25 (.if_icmp .ne) 31 28 := ⟨6, by decide +kernel, by decide, rfl⟩
theorem d_Comp_weight_28 : dn m_Comp_weight.2.1 28 (.bipush (-3)) 2 30 := ⟨by decide +kernel, rfl⟩
theorem d_Comp_weight_30 : dn m_Comp_weight.2.1 30 (.ireturn) 1 31 := ⟨by decide +kernel, rfl⟩
theorem d_Comp_weight_31 : dn m_Comp_weight.2.1 31 (.aload_n 0) 1 32 := ⟨by decide +kernel, rfl⟩
theorem d_Comp_weight_32 : dn m_Comp_weight.2.1 32 (.getfield 22) 3 35 := ⟨by decide +kernel, rfl⟩
theorem d_Comp_weight_35 : dn m_Comp_weight.2.1 35 (.aload_n 0) 1 36 := ⟨by decide +kernel, rfl⟩
theorem d_Comp_weight_36 : dn m_Comp_weight.2.1 36 (.getfield 192) 3 39 := ⟨by decide +kernel, rfl⟩
theorem d_Comp_weight_39 : dn m_Comp_weight.2.1 39 (.iload_n 1) 1 40 := ⟨by decide +kernel, rfl⟩
theorem d_Comp_weight_40 : dn m_Comp_weight.2.1 40 (.iastore) 1 41 := ⟨by decide +kernel, rfl⟩
theorem d_Comp_weight_41 : dn m_Comp_weight.2.1 41 (.aload_n 0) 1 42 := ⟨by decide +kernel, rfl⟩
theorem d_Comp_weight_42 : dn m_Comp_weight.2.1 42 (.dup) 1 43 := ⟨by decide +kernel, rfl⟩
theorem d_Comp_weight_43 : dn m_Comp_weight.2.1 43 (.getfield 192) 3 46 := ⟨by decide +kernel, rfl⟩
theorem d_Comp_weight_46 : dn m_Comp_weight.2.1 46 (.iconst 1) 1 47 := ⟨by decide +kernel, rfl⟩
theorem d_Comp_weight_47 : dn m_Comp_weight.2.1 47 (.iadd) 1 48 := ⟨by decide +kernel, rfl⟩
theorem d_Comp_weight_48 : dn m_Comp_weight.2.1 48 (.putfield 192) 3 51 := ⟨by decide +kernel, rfl⟩
theorem d_Comp_weight_51 : dn m_Comp_weight.2.1 51 (.aload_n 0) 1 52 := ⟨by decide +kernel, rfl⟩
theorem d_Comp_weight_52 : dn m_Comp_weight.2.1 52 (.getfield 192) 3 55 := ⟨by decide +kernel, rfl⟩
theorem d_Comp_weight_55 : dn m_Comp_weight.2.1 55 (.ireturn) 1 56 := ⟨by decide +kernel, rfl⟩
theorem g_weight_ok {X : CT} {w : Int} (hC : Cx X R_Comp m_Comp_weight.2.1 m_Comp_weight.2.2.2 "weight" false) (hr : I32 w) (J : G X 0 0 M 16 [some (.ref c), some (iv w)] [iv (bz (okW w))]) : G X 0 0 M 0 [some (.ref c), some (iv w)] [] := by
  have F : okW w = false → G X 0 0 M 15 [some (.ref c), some (iv w)] [] := by
    intro q
    rw [q] at J
    refine g_iconst hC d_Comp_weight_15 ?_
    exact J
  refine g_iload_n hC rfl d_Comp_weight_0 ?_
  refine g_iconst hC d_Comp_weight_1 ?_
  refine g_icmp_lt hC hr (by unfold I32; omega) d_Comp_weight_2 (fun c1 => ?_) (fun c1 => ?_)
  · exact F (decide_eq_false (by omega))
  · refine g_iload_n hC rfl d_Comp_weight_5 ?_
    refine g_ldc (z := 1000000000) hC cn_Comp_128 (by decide) d_Comp_weight_6 ?_
    refine g_icmp_gt hC hr (by unfold I32; omega) d_Comp_weight_8 (fun c2 => ?_) (fun c2 => ?_)
    · exact F (decide_eq_false (by omega))
    · refine g_iconst hC d_Comp_weight_11 ?_
      refine g_goto hC d_Comp_weight_12 ?_
      rw [show okW w = true from decide_eq_true (by omega)] at J
      exact J
theorem sp_Comp_weight {w : Int} (hcx : CX K M c xs ws wl) (hms : MS xs ws wl) (hw : I32 w) (hok : okW w = true) :
    Sp l K m_Comp_weight 8 6 508 [.ref c, iv w] M (fun r M' => r = some (iv (if wl.length = 12 then -3 else (wl.length : Int) + 1)) ∧ CX K M' c xs ws (if wl.length = 12 then wl else wl ++ [w])) := by
  refine Sp.ofG R_Comp rfl (by decide) [some (.ref c), some (iv w)] rfl (Nat.le_of_ble_eq_true rfl) ?_
  intro X hl hK hN hR hC hQ
  subst hl hK
  obtain ⟨vs, ss, rs, h⟩ := hcx
  have hwl := hms.2.2.1
  refine g_weight_ok hC hw ?_
  rw [hok]
  refine g_callS1 hC sp_Comp_need oc_Comp_need os_Comp_need ml_Comp_89 hR (Nat.le_of_ble_eq_true rfl) (Nat.le_of_ble_eq_true rfl) (Nat.le_of_ble_eq_true rfl) (Nat.le_of_ble_eq_true rfl) (Nat.le_of_ble_eq_true rfl) d_Comp_weight_16 (fun r M hp => ?_)
  obtain ⟨rfl, rfl⟩ := hp
  refine g_s0 ?_
  obtain ⟨wf, hwf, hwe⟩ := h.1.2
  refine g_aload_n hC rfl d_Comp_weight_19 ?_
  refine g_get hC fb_Comp_192 h.o rfl d_Comp_weight_20 ?_
  refine g_bipush hC (by decide) d_Comp_weight_23 ?_
  refine g_icmp_ne hC (by unfold I32; omega) (by unfold I32; omega) d_Comp_weight_25 (fun c1 => ?_) (fun c1 => ?_)
  · rw [if_neg (by omega), if_neg (by omega)] at hQ
    refine g_aload_n hC rfl d_Comp_weight_31 ?_
    refine g_get hC fb_Comp_22 h.o rfl d_Comp_weight_32 ?_
    refine g_aload_n hC rfl d_Comp_weight_35 ?_
    refine g_get hC fb_Comp_192 h.o rfl d_Comp_weight_36 ?_
    refine g_iload_n hC rfl d_Comp_weight_39 ?_
    refine g_iast hC hwf (by omega) (by omega) (by omega) d_Comp_weight_40 ?_
    have u1 : (ups M (c + 4) (oI X.K 12 (up wf wl.length w))).1 c = some (oO 4 [.ref (c + 1), .ref (c + 2), .ref (c + 3), .ref (c + 4), iv wl.length, .ref (c + 5)]) := (ups_n (by omega)).trans h.o
    refine g_aload_n hC rfl d_Comp_weight_41 ?_
    refine g_dup hC rfl d_Comp_weight_42 ?_
    refine g_get hC fb_Comp_192 u1 rfl d_Comp_weight_43 ?_
    refine g_iconst hC d_Comp_weight_46 ?_
    refine g_iadd hC d_Comp_weight_47 ?_
    refine g_put hC fb_Comp_192 u1 rfl rfl (Nat.le_of_ble_eq_true rfl) d_Comp_weight_48 ?_
    have u2 : (ups (ups M (c + 4) (oI X.K 12 (up wf wl.length w))) c (oO 4 ([Value.ref (c + 1), .ref (c + 2), .ref (c + 3), .ref (c + 4), iv wl.length, .ref (c + 5)].set 4 (iv ((wl.length : Int) + 1))))).1 c = some (oO 4 [.ref (c + 1), .ref (c + 2), .ref (c + 3), .ref (c + 4), iv ((wl.length : Int) + 1), .ref (c + 5)]) := ups_s
    refine g_aload_n hC rfl d_Comp_weight_51 ?_
    refine g_get hC fb_Comp_192 u2 rfl d_Comp_weight_52 ?_
    have el : ((wl ++ [w]).length : Int) = (wl.length : Int) + 1 := by rw [List.length_append]; rfl
    refine g_iret hC hQ (by decide) (by decide) d_Comp_weight_55 ⟨rfl, vs, ss, rs, h.cw (wf := up wf wl.length w) (fun x x1 x2 => (ups_n x1).trans (ups_n x2)) (by rw [el]; exact u2) ((ups_n (by omega)).trans ups_s) (fun i hi => ?_)⟩
    rw [List.length_append] at hi
    simp at hi
    by_cases q : i = wl.length
    · subst q
      rw [List.getElem?_append_right (Nat.le_refl _), Nat.sub_self, up_s]; rfl
    · rw [List.getElem?_append_left (by omega), up_n (by omega)]
      exact hwe i (by omega)
  · rw [if_pos (by omega), if_pos (by omega)] at hQ
    refine g_bipush hC (by decide) d_Comp_weight_28 ?_
    refine g_iret hC hQ (by decide) (by decide) d_Comp_weight_30 ⟨rfl, vs, ss, rs, h⟩
theorem st_Comp_weight {w : Int} (htr : l.stackTraces = false) (hw : I32 w) (hok : okW w = false) : St l K m_Comp_weight 8 6 508 [.ref c, iv w] M R_IaE := by
  refine St.ofG R_Comp rfl (by decide) [some (.ref c), some (iv w)] rfl (Nat.le_of_ble_eq_true rfl) ?_
  intro X hl hK hN hR hC hQ
  subst hl hK
  refine g_weight_ok hC hw ?_
  rw [hok]
  exact g_callST hC hQ rfl (st_Comp_need htr) oc_Comp_need os_Comp_need ml_Comp_89 rfl (st := []) rfl hR (by decide) (by decide) (by decide) (by decide) (by decide) d_Comp_weight_16
theorem d_Comp_noWeights_0 : dn m_Comp_noWeights.2.1 0 (.aload_n 0) 1 1 := ⟨by decide +kernel, rfl⟩
theorem d_Comp_noWeights_1 : dn m_Comp_noWeights.2.1 1 (.getfield 192) 3 4 := ⟨by decide +kernel, rfl⟩
theorem d_Comp_noWeights_4 : dn m_Comp_noWeights.2.1 4 (.istore_n 1) 1 5 := ⟨by decide +kernel, rfl⟩
theorem d_Comp_noWeights_5 : dn m_Comp_noWeights.2.1 5 (.aload_n 0) 1 6 := ⟨by decide +kernel, rfl⟩
theorem d_Comp_noWeights_6 : dn m_Comp_noWeights.2.1 6 (.iconst 0) 1 7 := ⟨by decide +kernel, rfl⟩
theorem d_Comp_noWeights_7 : dn m_Comp_noWeights.2.1 7 (.putfield 192) 3 10 := ⟨by decide +kernel, rfl⟩
theorem d_Comp_noWeights_10 : dn m_Comp_noWeights.2.1 10 (.iload_n 1) 1 11 := ⟨by decide +kernel, rfl⟩
theorem d_Comp_noWeights_11 : dn m_Comp_noWeights.2.1 11 (.ireturn) 1 12 := ⟨by decide +kernel, rfl⟩
theorem sp_Comp_noWeights (hcx : CX K M c xs ws wl) : Sp l K m_Comp_noWeights 8 6 508 [.ref c] M (fun r M' => r = some (iv wl.length) ∧ CX K M' c xs ws []) := by
  refine Sp.ofG R_Comp rfl (by decide) [some (.ref c), none] rfl (Nat.le_of_ble_eq_true rfl) ?_
  intro X hl hK hN hR hC hQ
  subst hl hK
  obtain ⟨vs, ss, rs, h⟩ := hcx
  obtain ⟨wf, hwf, hwe⟩ := h.1.2
  refine g_aload_n hC rfl d_Comp_noWeights_0 ?_
  refine g_get hC fb_Comp_192 h.o rfl d_Comp_noWeights_1 ?_
  first | refine g_ist1 hC d_Comp_noWeights_4 rfl (hN 1 rfl) ?_ | (refine g_fg0 ?_; refine g_ist1 hC d_Comp_noWeights_4 rfl (hN 1 rfl) ?_)
  refine g_aload_n hC rfl d_Comp_noWeights_5 ?_
  refine g_iconst hC d_Comp_noWeights_6 ?_
  refine g_put hC fb_Comp_192 h.o rfl rfl (Nat.le_of_ble_eq_true rfl) d_Comp_noWeights_7 ?_
  refine g_iload_n hC rfl d_Comp_noWeights_10 ?_
  refine g_iret hC hQ (by decide) (by decide) d_Comp_noWeights_11 ⟨rfl, vs, ss, rs, h.cw (wf := wf) (fun x x1 x2 => ups_n x1) ups_s ((ups_n (by omega)).trans hwf) (fun i hi => absurd hi (Nat.not_lt_zero i))⟩
theorem d_Comp_part_0 : dn m_Comp_part.2.1 0 (.lload_n 0) 1 1 := ⟨by decide +kernel, rfl⟩
theorem d_Comp_part_1 : dn m_Comp_part.2.1 1 (.ldc2_w 204) 3 4 := ⟨by decide +kernel, rfl⟩
theorem d_Comp_part_4 : dn m_Comp_part.2.1 4 (.ldiv) 1 5 := ⟨by decide +kernel, rfl⟩
theorem d_Comp_part_5 : dn m_Comp_part.2.1 5 (.iload_n 2) 1 6 := ⟨by decide +kernel, rfl⟩
theorem d_Comp_part_6 : dn m_Comp_part.2.1 6 (.i2l) 1 7 := ⟨by decide +kernel, rfl⟩
theorem d_Comp_part_7 : dn m_Comp_part.2.1 7 (.lmul) 1 8 := ⟨by decide +kernel, rfl⟩
theorem d_Comp_part_8 : dn m_Comp_part.2.1 8 (.lstore 5) 2 10 := ⟨by decide +kernel, rfl⟩
theorem d_Comp_part_10 : dn m_Comp_part.2.1 10 (.lload 5) 2 12 := ⟨by decide +kernel, rfl⟩
theorem d_Comp_part_12 : dn m_Comp_part.2.1 12 (.lload_n 3) 1 13 := ⟨by decide +kernel, rfl⟩
theorem d_Comp_part_13 : dn m_Comp_part.2.1 13 (.lrem) 1 14 := ⟨by decide +kernel, rfl⟩
theorem d_Comp_part_14 : dn m_Comp_part.2.1 14 (.ldc2_w 204) 3 17 := ⟨by decide +kernel, rfl⟩
theorem d_Comp_part_17 : dn m_Comp_part.2.1 17 (.lmul) 1 18 := ⟨by decide +kernel, rfl⟩
theorem d_Comp_part_18 : dn m_Comp_part.2.1 18 (.lload_n 0) 1 19 := ⟨by decide +kernel, rfl⟩
theorem d_Comp_part_19 : dn m_Comp_part.2.1 19 (.ldc2_w 204) 3 22 := ⟨by decide +kernel, rfl⟩
theorem d_Comp_part_22 : dn m_Comp_part.2.1 22 (.lrem) 1 23 := ⟨by decide +kernel, rfl⟩
theorem d_Comp_part_23 : dn m_Comp_part.2.1 23 (.iload_n 2) 1 24 := ⟨by decide +kernel, rfl⟩
theorem d_Comp_part_24 : dn m_Comp_part.2.1 24 (.i2l) 1 25 := ⟨by decide +kernel, rfl⟩
theorem d_Comp_part_25 : dn m_Comp_part.2.1 25 (.lmul) 1 26 := ⟨by decide +kernel, rfl⟩
theorem d_Comp_part_26 : dn m_Comp_part.2.1 26 (.ladd) 1 27 := ⟨by decide +kernel, rfl⟩
theorem d_Comp_part_27 : dn m_Comp_part.2.1 27 (.lstore 7) 2 29 := ⟨by decide +kernel, rfl⟩
theorem d_Comp_part_29 : dn m_Comp_part.2.1 29 (.lload 5) 2 31 := ⟨by decide +kernel, rfl⟩
theorem d_Comp_part_31 : dn m_Comp_part.2.1 31 (.lload_n 3) 1 32 := ⟨by decide +kernel, rfl⟩
theorem d_Comp_part_32 : dn m_Comp_part.2.1 32 (.ldiv) 1 33 := ⟨by decide +kernel, rfl⟩
theorem d_Comp_part_33 : dn m_Comp_part.2.1 33 (.ldc2_w 204) 3 36 := ⟨by decide +kernel, rfl⟩
theorem d_Comp_part_36 : dn m_Comp_part.2.1 36 (.lmul) 1 37 := ⟨by decide +kernel, rfl⟩
theorem d_Comp_part_37 : dn m_Comp_part.2.1 37 (.lload 7) 2 39 := ⟨by decide +kernel, rfl⟩
theorem d_Comp_part_39 : dn m_Comp_part.2.1 39 (.lload_n 3) 1 40 := ⟨by decide +kernel, rfl⟩
theorem d_Comp_part_40 : dn m_Comp_part.2.1 40 (.ldiv) 1 41 := ⟨by decide +kernel, rfl⟩
theorem d_Comp_part_41 : dn m_Comp_part.2.1 41 (.ladd) 1 42 := ⟨by decide +kernel, rfl⟩
theorem d_Comp_part_42 : dn m_Comp_part.2.1 42 (.lreturn) 1 43 := ⟨by decide +kernel, rfl⟩
theorem pr_eq {W w S : Int} (hS : 0 < S) : W / 1000 * w / S * 1000 + (W / 1000 * w % S * 1000 + W % 1000 * w) / S = W * w / S ∧ (W / 1000 * w % S * 1000 + W % 1000 * w) % S = W * w % S := by
  have e : W * w = (W / 1000 * w % S * 1000 + W % 1000 * w) + S * (W / 1000 * w / S * 1000) := by
    have h1 := Int.mul_ediv_add_emod W 1000
    have h2 := Int.mul_ediv_add_emod (W / 1000 * w) S
    have h3 : W * w = 1000 * (W / 1000 * w) + W % 1000 * w := by
      conv => lhs; rw [← h1]
      rw [Int.add_mul, Int.mul_assoc]
    rw [h3]
    generalize W / 1000 * w = h at *
    generalize W % 1000 * w = r at *
    have h4 : S * (h / S * 1000) = S * (h / S) * 1000 := by rw [Int.mul_assoc]
    rw [h4]
    omega
  rw [e]
  constructor
  · rw [Int.add_mul_ediv_left _ _ (by omega), Int.add_comm]
  · rw [Int.add_mul_emod_self_left]
theorem sp_Comp_part {W w S : Int} (hW : 0 ≤ W) (hW2 : W ≤ 1000000000000) (hw : 0 ≤ w) (hw2 : w ≤ 1000000000) (hS : 0 < S) (hS2 : S ≤ 12000000000) : Sp l K m_Comp_part 0 0 0 [jv W, iv w, jv S] M (fun r M' => r = some (jv (W * w / S)) ∧ M' = M) := by
  refine Sp.ofG R_Comp rfl (by decide) [some (jv W), none, some (iv w), some (jv S), none, none, none, none, none] rfl (Nat.le_of_ble_eq_true rfl) ?_
  intro X hl hK hN hR hC hQ
  subst hl hK
  have q1 : 0 ≤ W / 1000 * w := Int.mul_nonneg (by omega) hw
  have q2 : W / 1000 * w ≤ 1000000000 * w := Int.mul_le_mul_of_nonneg_right (by omega) hw
  have q3 : 0 ≤ W % 1000 * w := Int.mul_nonneg (by omega) hw
  have q4 : W % 1000 * w ≤ 1000 * w := Int.mul_le_mul_of_nonneg_right (by omega) hw
  have q5 : 0 ≤ W / 1000 * w % S := Int.emod_nonneg _ (by omega)
  have q6 : W / 1000 * w % S < S := Int.emod_lt_of_pos _ hS
  have key := pr_eq (W := W) (w := w) hS
  refine g_lload_n hC rfl d_Comp_part_0 ?_
  refine g_ldc2 (z := 1000) hC cn_Comp_204 (by decide) d_Comp_part_1 ?_
  refine g_ldivN hC (by unfold I64; omega) (by unfold I64; omega) (by omega) (by omega) d_Comp_part_4 ?_
  refine g_iload_n hC rfl d_Comp_part_5 ?_
  refine g_i2l hC (by unfold I32; omega) d_Comp_part_6 ?_
  refine g_lmul hC d_Comp_part_7 ?_
  first | refine g_lst5 hC d_Comp_part_8 rfl (hN 6 rfl) ?_ | (refine g_fg4 ?_; refine g_lst5 hC d_Comp_part_8 rfl (hN 6 rfl) ?_)
  refine g_lload hC rfl d_Comp_part_10 ?_
  refine g_lload_n hC rfl d_Comp_part_12 ?_
  refine g_lremN hC (by unfold I64; omega) (by unfold I64; omega) (by omega) (by omega) d_Comp_part_13 ?_
  refine g_ldc2 (z := 1000) hC cn_Comp_204 (by decide) d_Comp_part_14 ?_
  refine g_lmul hC d_Comp_part_17 ?_
  refine g_lload_n hC rfl d_Comp_part_18 ?_
  refine g_ldc2 (z := 1000) hC cn_Comp_204 (by decide) d_Comp_part_19 ?_
  refine g_lremN hC (by unfold I64; omega) (by unfold I64; omega) (by omega) (by omega) d_Comp_part_22 ?_
  refine g_iload_n hC rfl d_Comp_part_23 ?_
  refine g_i2l hC (by unfold I32; omega) d_Comp_part_24 ?_
  refine g_lmul hC d_Comp_part_25 ?_
  refine g_ladd hC d_Comp_part_26 ?_
  first | refine g_lst7 hC d_Comp_part_27 rfl (hN 8 rfl) ?_ | (refine g_fg6 ?_; refine g_lst7 hC d_Comp_part_27 rfl (hN 8 rfl) ?_)
  refine g_lload hC rfl d_Comp_part_29 ?_
  refine g_lload_n hC rfl d_Comp_part_31 ?_
  refine g_ldivN hC (by unfold I64; omega) (by unfold I64; omega) (by omega) (by omega) d_Comp_part_32 ?_
  refine g_ldc2 (z := 1000) hC cn_Comp_204 (by decide) d_Comp_part_33 ?_
  refine g_lmul hC d_Comp_part_36 ?_
  refine g_lload hC rfl d_Comp_part_37 ?_
  refine g_lload_n hC rfl d_Comp_part_39 ?_
  refine g_ldivN hC (by unfold I64; omega) (by unfold I64; omega) (by omega) (by omega) d_Comp_part_40 ?_
  refine g_ladd hC d_Comp_part_41 ?_
  rw [key.1]
  refine g_lret hC hQ (by decide) (by decide) d_Comp_part_42 ⟨rfl, rfl⟩
theorem d_Comp_rest_0 : dn m_Comp_rest.2.1 0 (.lload_n 0) 1 1 := ⟨by decide +kernel, rfl⟩
theorem d_Comp_rest_1 : dn m_Comp_rest.2.1 1 (.ldc2_w 204) 3 4 := ⟨by decide +kernel, rfl⟩
theorem d_Comp_rest_4 : dn m_Comp_rest.2.1 4 (.ldiv) 1 5 := ⟨by decide +kernel, rfl⟩
theorem d_Comp_rest_5 : dn m_Comp_rest.2.1 5 (.iload_n 2) 1 6 := ⟨by decide +kernel, rfl⟩
theorem d_Comp_rest_6 : dn m_Comp_rest.2.1 6 (.i2l) 1 7 := ⟨by decide +kernel, rfl⟩
theorem d_Comp_rest_7 : dn m_Comp_rest.2.1 7 (.lmul) 1 8 := ⟨by decide +kernel, rfl⟩
theorem d_Comp_rest_8 : dn m_Comp_rest.2.1 8 (.lstore 5) 2 10 := ⟨by decide +kernel, rfl⟩
theorem d_Comp_rest_10 : dn m_Comp_rest.2.1 10 (.lload 5) 2 12 := ⟨by decide +kernel, rfl⟩
theorem d_Comp_rest_12 : dn m_Comp_rest.2.1 12 (.lload_n 3) 1 13 := ⟨by decide +kernel, rfl⟩
theorem d_Comp_rest_13 : dn m_Comp_rest.2.1 13 (.lrem) 1 14 := ⟨by decide +kernel, rfl⟩
theorem d_Comp_rest_14 : dn m_Comp_rest.2.1 14 (.ldc2_w 204) 3 17 := ⟨by decide +kernel, rfl⟩
theorem d_Comp_rest_17 : dn m_Comp_rest.2.1 17 (.lmul) 1 18 := ⟨by decide +kernel, rfl⟩
theorem d_Comp_rest_18 : dn m_Comp_rest.2.1 18 (.lload_n 0) 1 19 := ⟨by decide +kernel, rfl⟩
theorem d_Comp_rest_19 : dn m_Comp_rest.2.1 19 (.ldc2_w 204) 3 22 := ⟨by decide +kernel, rfl⟩
theorem d_Comp_rest_22 : dn m_Comp_rest.2.1 22 (.lrem) 1 23 := ⟨by decide +kernel, rfl⟩
theorem d_Comp_rest_23 : dn m_Comp_rest.2.1 23 (.iload_n 2) 1 24 := ⟨by decide +kernel, rfl⟩
theorem d_Comp_rest_24 : dn m_Comp_rest.2.1 24 (.i2l) 1 25 := ⟨by decide +kernel, rfl⟩
theorem d_Comp_rest_25 : dn m_Comp_rest.2.1 25 (.lmul) 1 26 := ⟨by decide +kernel, rfl⟩
theorem d_Comp_rest_26 : dn m_Comp_rest.2.1 26 (.ladd) 1 27 := ⟨by decide +kernel, rfl⟩
theorem d_Comp_rest_27 : dn m_Comp_rest.2.1 27 (.lload_n 3) 1 28 := ⟨by decide +kernel, rfl⟩
theorem d_Comp_rest_28 : dn m_Comp_rest.2.1 28 (.lrem) 1 29 := ⟨by decide +kernel, rfl⟩
theorem d_Comp_rest_29 : dn m_Comp_rest.2.1 29 (.lreturn) 1 30 := ⟨by decide +kernel, rfl⟩
theorem sp_Comp_rest {W w S : Int} (hW : 0 ≤ W) (hW2 : W ≤ 1000000000000) (hw : 0 ≤ w) (hw2 : w ≤ 1000000000) (hS : 0 < S) (hS2 : S ≤ 12000000000) : Sp l K m_Comp_rest 0 0 0 [jv W, iv w, jv S] M (fun r M' => r = some (jv (W * w % S)) ∧ M' = M) := by
  refine Sp.ofG R_Comp rfl (by decide) [some (jv W), none, some (iv w), some (jv S), none, none, none] rfl (Nat.le_of_ble_eq_true rfl) ?_
  intro X hl hK hN hR hC hQ
  subst hl hK
  have q1 : 0 ≤ W / 1000 * w := Int.mul_nonneg (by omega) hw
  have q2 : W / 1000 * w ≤ 1000000000 * w := Int.mul_le_mul_of_nonneg_right (by omega) hw
  have q3 : 0 ≤ W % 1000 * w := Int.mul_nonneg (by omega) hw
  have q4 : W % 1000 * w ≤ 1000 * w := Int.mul_le_mul_of_nonneg_right (by omega) hw
  have q5 : 0 ≤ W / 1000 * w % S := Int.emod_nonneg _ (by omega)
  have q6 : W / 1000 * w % S < S := Int.emod_lt_of_pos _ hS
  have key := pr_eq (W := W) (w := w) hS
  refine g_lload_n hC rfl d_Comp_rest_0 ?_
  refine g_ldc2 (z := 1000) hC cn_Comp_204 (by decide) d_Comp_rest_1 ?_
  refine g_ldivN hC (by unfold I64; omega) (by unfold I64; omega) (by omega) (by omega) d_Comp_rest_4 ?_
  refine g_iload_n hC rfl d_Comp_rest_5 ?_
  refine g_i2l hC (by unfold I32; omega) d_Comp_rest_6 ?_
  refine g_lmul hC d_Comp_rest_7 ?_
  first | refine g_lst5 hC d_Comp_rest_8 rfl (hN 6 rfl) ?_ | (refine g_fg4 ?_; refine g_lst5 hC d_Comp_rest_8 rfl (hN 6 rfl) ?_)
  refine g_lload hC rfl d_Comp_rest_10 ?_
  refine g_lload_n hC rfl d_Comp_rest_12 ?_
  refine g_lremN hC (by unfold I64; omega) (by unfold I64; omega) (by omega) (by omega) d_Comp_rest_13 ?_
  refine g_ldc2 (z := 1000) hC cn_Comp_204 (by decide) d_Comp_rest_14 ?_
  refine g_lmul hC d_Comp_rest_17 ?_
  refine g_lload_n hC rfl d_Comp_rest_18 ?_
  refine g_ldc2 (z := 1000) hC cn_Comp_204 (by decide) d_Comp_rest_19 ?_
  refine g_lremN hC (by unfold I64; omega) (by unfold I64; omega) (by omega) (by omega) d_Comp_rest_22 ?_
  refine g_iload_n hC rfl d_Comp_rest_23 ?_
  refine g_i2l hC (by unfold I32; omega) d_Comp_rest_24 ?_
  refine g_lmul hC d_Comp_rest_25 ?_
  refine g_ladd hC d_Comp_rest_26 ?_
  refine g_lload_n hC rfl d_Comp_rest_27 ?_
  refine g_lremN hC (by unfold I64; omega) (by unfold I64; omega) (by omega) (by omega) d_Comp_rest_28 ?_
  rw [key.2]
  refine g_lret hC hQ (by decide) (by decide) d_Comp_rest_29 ⟨rfl, rfl⟩
end CWs
