/-! Fraction -/
theorem wx.rc {K : KC} {M : AH} {q cap : Nat} (h : wx K M q cap) : ∃ fs, M.1 q = some (oO 0 fs) := by
  obtain ⟨n, f, h⟩ := h
  exact ⟨_, h.1⟩
theorem wv.rc {K : KC} {M : AH} {q cap v : Nat} (h : wv K M q cap v) : ∃ fs, M.1 q = some (oO 0 fs) := h.tox.rc
theorem isW.eq {K : KC} {M M' : AH} {q cap n : Nat} {f : Int → Int} (h : isW K M q cap n f) (h1 : M'.1 q = M.1 q) (h2 : M'.1 (q + 1) = M.1 (q + 1)) : isW K M' q cap n f := ⟨h1.trans h.1, h2.trans h.2⟩
theorem wx.eq {K : KC} {M M' : AH} {q cap : Nat} (h : wx K M q cap) (h1 : M'.1 q = M.1 q) (h2 : M'.1 (q + 1) = M.1 (q + 1)) : wx K M' q cap := by
  obtain ⟨n, f, h⟩ := h
  exact ⟨n, f, h.eq h1 h2⟩
theorem wv.eq {K : KC} {M M' : AH} {q cap v : Nat} (h : wv K M q cap v) (h1 : M'.1 q = M.1 q) (h2 : M'.1 (q + 1) = M.1 (q + 1)) : wv K M' q cap v := by
  obtain ⟨n, f, h, h'⟩ := h
  exact ⟨n, f, h.eq h1 h2, h'⟩
def isF (K : KC) (M : AH) (p cap a b : Nat) (mi : Bool) (un : Int) : Prop := M.1 p = some (oO 1 [.ref (p + 1), .ref (p + 3), iv (bz mi), iv un]) ∧ wv K M (p + 1) cap a ∧ wv K M (p + 3) cap b
def fx (K : KC) (M : AH) (p cap : Nat) : Prop := ∃ (mi : Bool) (un : Int), M.1 p = some (oO 1 [.ref (p + 1), .ref (p + 3), iv (bz mi), iv un]) ∧ wx K M (p + 1) cap ∧ wx K M (p + 3) cap
theorem isF.fx {K : KC} {M : AH} {p cap a b : Nat} {mi : Bool} {un : Int} (h : isF K M p cap a b mi un) : fx K M p cap := ⟨mi, un, h.1, h.2.1.tox, h.2.2.tox⟩
/-- nothing but the Fraction at p has changed -/
def frF (M M' : AH) (p : Nat) : Prop := M'.2 = M.2 ∧ ∀ x, x < p ∨ p + 5 ≤ x → M'.1 x = M.1 x
theorem frF.trans {M M1 M2 : AH} {q : Nat} (h1 : frF M M1 q) (h2 : frF M1 M2 q) : frF M M2 q := ⟨h2.1.trans h1.1, fun p a => (h2.2 p a).trans (h1.2 p a)⟩
theorem isF.eq {K : KC} {M M' : AH} {p cap a b : Nat} {mi : Bool} {un : Int} (h : isF K M p cap a b mi un) (he : ∀ x, p ≤ x → x < p + 5 → M'.1 x = M.1 x) : isF K M' p cap a b mi un :=
  ⟨(he p (by omega) (by omega)).trans h.1, h.2.1.eq (he _ (by omega) (by omega)) (he _ (by omega) (by omega)), h.2.2.eq (he _ (by omega) (by omega)) (he _ (by omega) (by omega))⟩
theorem isF.rc {K : KC} {M : AH} {p cap a b : Nat} {mi : Bool} {un : Int} (h : isF K M p cap a b mi un) : ∃ fs, M.1 p = some (oO 1 fs) := ⟨_, h.1⟩
theorem bz_in (b : Bool) : bz b = 0 ∨ bz b = 1 := by cases b <;> simp [bz]
theorem bz_t : bz true = 1 := rfl
theorem bz_f : bz false = 0 := rfl
theorem nar_b (b : Bool) : narrow .boolean (iv (bz b)) = iv (bz b) := by cases b <;> decide
theorem fit_b (b : Bool) : fits .boolean (iv (bz b)) = true := by cases b <;> decide
theorem d_Frac_init_0 : dn m_Frac_init.2.1 0 (.aload_n 0) 1 1 := ⟨by decide +kernel, rfl⟩
theorem d_Frac_init_1 : dn m_Frac_init.2.1 1 (.invokespecial 3) 3 4 := ⟨by decide +kernel, rfl⟩
theorem d_Frac_init_4 : dn m_Frac_init.2.1 4 (.aload_n 0) 1 5 := ⟨by decide +kernel, rfl⟩
theorem d_Frac_init_5 : dn m_Frac_init.2.1 5 (.new 9) 3 8 := ⟨by decide +kernel, rfl⟩
theorem d_Frac_init_8 : dn m_Frac_init.2.1 8 (.dup) 1 9 := ⟨by decide +kernel, rfl⟩
theorem d_Frac_init_9 : dn m_Frac_init.2.1 9 (.iload_n 1) 1 10 := ⟨by decide +kernel, rfl⟩
theorem d_Frac_init_10 : dn m_Frac_init.2.1 10 (.invokespecial 11) 3 13 := ⟨by decide +kernel, rfl⟩
theorem d_Frac_init_13 : dn m_Frac_init.2.1 13 (.putfield 14) 3 16 := ⟨by decide +kernel, rfl⟩
theorem d_Frac_init_16 : dn m_Frac_init.2.1 16 (.aload_n 0) 1 17 := ⟨by decide +kernel, rfl⟩
theorem d_Frac_init_17 : dn m_Frac_init.2.1 17 (.new 9) 3 20 := ⟨by decide +kernel, rfl⟩
theorem d_Frac_init_20 : dn m_Frac_init.2.1 20 (.dup) 1 21 := ⟨by decide +kernel, rfl⟩
theorem d_Frac_init_21 : dn m_Frac_init.2.1 21 (.iload_n 1) 1 22 := ⟨by decide +kernel, rfl⟩
theorem d_Frac_init_22 : dn m_Frac_init.2.1 22 (.invokespecial 11) 3 25 := ⟨by decide +kernel, rfl⟩
theorem d_Frac_init_25 : dn m_Frac_init.2.1 25 (.putfield 20) 3 28 := ⟨by decide +kernel, rfl⟩
theorem d_Frac_init_28 : dn m_Frac_init.2.1 28 (.return_) 1 29 := ⟨by decide +kernel, rfl⟩
/-- Fraction(most): its Wholes and their arrays come just behind it -/
theorem sp_Frac_init {l : Launch} {K : KC} {M : AH} {p cap : Nat} (hp0 : M.1 p = some (oO 1 [.null, .null, iv 0, iv 0])) (hz : M.2 = p + 1) (hcap : cap ≤ 1000) :
    Sp l K m_Frac_init 2 4 (2 * cap + 4) [.ref p, iv cap] M (fun r M' => r = none ∧ isF K M' p cap 0 0 false 0 ∧ M'.2 = p + 5 ∧ ∀ x, x < p ∨ p + 5 ≤ x → M'.1 x = M.1 x) := by
  refine Sp.ofG R_Frac rfl (by decide) [some (.ref p), some (iv cap)] rfl (Nat.le_of_ble_eq_true rfl) ?_
  intro X hl hK hN hR hC hQ
  subst hl hK
  have hd0 : ∀ j, j < 2 → defaultValue (t_Whole j) = vp_V [.null, iv 0] j := fun j hj => by
    rcases (show j = 0 ∨ j = 1 by omega) with rfl | rfl
    · rfl
    · decide
  refine g_aload_n hC rfl d_Frac_init_0 ?_
  refine g_objInit hC ml_Frac_3 (by rw [hR]; exact Nat.le_of_ble_eq_true rfl) (by rw [hR]; exact Nat.le_of_ble_eq_true rfl) d_Frac_init_1 ?_
  refine g_aload_n hC rfl d_Frac_init_4 ?_
  refine g_new hC ck_Whole cl_Frac_9 in_Whole ii_Whole hd0 (by rw [hR]; exact Nat.le_of_ble_eq_true rfl) (by rw [hR]; show 0 + 2 ≤ 2 * cap + 4; omega) d_Frac_init_5 ?_
  rw [hz]
  have h1 : (nws M (oO 0 [.null, iv 0])).1 (p + 1) = some (oO 0 [.null, iv 0]) := by rw [← hz]; exact nws_s
  refine g_dup hC rfl d_Frac_init_8 ?_
  refine g_iload_n hC rfl d_Frac_init_9 ?_
  refine g_callI1 hC (sp_Whole_init h1 (by rw [nws_2, hz]) hcap) oc_Whole_init oi_Whole_init rfl ml_Frac_11 hR (Nat.le_of_ble_eq_true rfl) (Nat.le_of_ble_eq_true rfl) (Nat.le_of_ble_eq_true rfl) (by omega) (Nat.le_of_ble_eq_true rfl) d_Frac_init_10 (fun r M1 hp => ?_)
  obtain ⟨rfl, hW1, hz1, he1⟩ := hp
  refine g_s0 ?_
  have hp1 : M1.1 p = some (oO 1 [.null, .null, iv 0, iv 0]) := by rw [he1 p (by omega) (by omega), nws_n (by omega)]; exact hp0
  refine g_putF hC fb_Frac_14 rfl hp1 rfl rfl (Nat.le_of_ble_eq_true rfl) d_Frac_init_13 ?_
  show G X _ _ (ups M1 p (oO 1 [.ref (p + 1), .null, iv 0, iv 0])) 16 _ _
  have hM2 : ∃ M2, M2 = ups M1 p (oO 1 [.ref (p + 1), .null, iv 0, iv 0]) := ⟨_, rfl⟩
  obtain ⟨M2, hM2⟩ := hM2
  rw [← hM2]
  have hz2 : M2.2 = p + 3 := by rw [hM2]; exact hz1
  have hp2 : M2.1 p = some (oO 1 [.ref (p + 1), .null, iv 0, iv 0]) := by rw [hM2]; exact ups_s
  have he2 : ∀ x, x ≠ p → M2.1 x = M1.1 x := fun x hx => by rw [hM2]; exact ups_n hx
  have hW2 : isW X.K M2 (p + 1) cap 0 (fun _ => 0) := hW1.eq (he2 _ (by omega)) (he2 _ (by omega))
  refine g_aload_n hC rfl d_Frac_init_16 ?_
  refine g_new hC ck_Whole cl_Frac_9 in_Whole ii_Whole hd0 (by rw [hR]; exact Nat.le_of_ble_eq_true rfl) (by rw [hR]; show _ ≤ 2 * cap + 4; omega) d_Frac_init_17 ?_
  rw [hz2]
  have h3 : (nws M2 (oO 0 [.null, iv 0])).1 (p + 3) = some (oO 0 [.null, iv 0]) := by rw [← hz2]; exact nws_s
  refine g_dup hC rfl d_Frac_init_20 ?_
  refine g_iload_n hC rfl d_Frac_init_21 ?_
  refine g_callI1 hC (sp_Whole_init h3 (by rw [nws_2, hz2]) hcap) oc_Whole_init oi_Whole_init rfl ml_Frac_11 hR (Nat.le_of_ble_eq_true rfl) (Nat.le_of_ble_eq_true rfl) (Nat.le_of_ble_eq_true rfl) (by omega) (Nat.le_of_ble_eq_true rfl) d_Frac_init_22 (fun r M3 hp => ?_)
  obtain ⟨rfl, hW3, hz3, he3⟩ := hp
  refine g_s0 ?_
  have hp3 : M3.1 p = some (oO 1 [.ref (p + 1), .null, iv 0, iv 0]) := by rw [he3 p (by omega) (by omega), nws_n (by omega)]; exact hp2
  have he3' : ∀ x, x ≠ p + 3 → x ≠ p + 4 → M3.1 x = M2.1 x := fun x a b => by rw [he3 x a (by omega), nws_n (by omega)]
  refine g_putF hC fb_Frac_20 rfl hp3 rfl rfl (Nat.le_of_ble_eq_true rfl) d_Frac_init_25 ?_
  refine g_vret hC hQ (by decide) (by omega) d_Frac_init_28 ⟨rfl, ⟨ups_s, ⟨0, _, hW2.eq ?_ ?_, by omega, fun k hk => by omega, tpn_z rfl, rfl⟩, ⟨0, _, hW3.eq ?_ ?_, by omega, fun k hk => by omega, tpn_z rfl, rfl⟩⟩, ?_, fun x hx => ?_⟩
  · rw [ups_n (by omega), he3' _ (by omega) (by omega)]
  · rw [ups_n (by omega), he3' _ (by omega) (by omega)]
  · rw [ups_n (by omega)]
  · rw [ups_n (by omega)]
  · show M3.2 = _; omega
  · rw [ups_n (by omega), he3' x (by omega) (by omega), he2 x (by omega), he1 x (by omega) (by omega), nws_n (by omega)]
theorem d_Frac_sign_0 : dn m_Frac_sign.2.1 0 (.aload_n 0) 1 1 := ⟨by decide +kernel, rfl⟩
theorem d_Frac_sign_1 : dn m_Frac_sign.2.1 1 (.getfield 14) 3 4 := ⟨by decide +kernel, rfl⟩
theorem d_Frac_sign_4 : dn m_Frac_sign.2.1 4 (.invokevirtual 23) 3 7 := ⟨by decide +kernel, rfl⟩
theorem d_Frac_sign_7 : db m_Frac_sign.2.1 7 (.ifCond .eq) 14 10 := ⟨7, by decide +kernel, by decide, rfl⟩
theorem d_Frac_sign_10 : dn m_Frac_sign.2.1 10 (.iconst 0) 1 11 := ⟨by decide +kernel, rfl⟩
theorem d_Frac_sign_11 : db m_Frac_sign.2.1 11 (.goto) 26 14 := ⟨15, by decide +kernel, by decide, rfl⟩
theorem d_Frac_sign_14 : dn m_Frac_sign.2.1 14 (.aload_n 0) 1 15 := ⟨by decide +kernel, rfl⟩
theorem d_Frac_sign_15 : dn m_Frac_sign.2.1 15 (.getfield 27) 3 18 := ⟨by decide +kernel, rfl⟩
theorem d_Frac_sign_18 : db m_Frac_sign.2.1 18 (.ifCond .eq) 25 21 := ⟨7, by decide +kernel, by decide, rfl⟩
theorem d_Frac_sign_21 : dn m_Frac_sign.2.1 21 (.iconst (-1)) 1 22 := ⟨by decide +kernel, rfl⟩
theorem d_Frac_sign_22 : db m_Frac_sign.2.1 22 (.goto) 26 25 := ⟨4, by decide +kernel, by decide, rfl⟩
theorem d_Frac_sign_25 : dn m_Frac_sign.2.1 25 (.iconst 1) 1 26 := ⟨by decide +kernel, rfl⟩
theorem d_Frac_sign_26 : dn m_Frac_sign.2.1 26 (.ireturn) 1 27 := ⟨by decide +kernel, rfl⟩
theorem sp_Frac_sign {l : Launch} {K : KC} {M : AH} {p cap a b : Nat} {mi : Bool} {un : Int} (hF : isF K M p cap a b mi un) (hcap : cap ≤ 1000) :
    Sp l K m_Frac_sign 1 0 0 [.ref p] M (fun x M' => x = some (iv (if a = 0 then 0 else if mi = true then -1 else 1)) ∧ M' = M) := by
  refine Sp.ofG R_Frac rfl (by decide) [some (.ref p)] rfl (Nat.le_of_ble_eq_true rfl) ?_
  intro X hl hK hN hR hC hQ
  subst hl hK
  refine g_aload_n hC rfl d_Frac_sign_0 ?_
  refine g_get hC fb_Frac_14 hF.1 rfl d_Frac_sign_1 ?_
  refine g_callV0 hC (sp_Whole_isNothing hF.2.1 hcap) oc_Whole_isNothing ov_Whole_isNothing ml_Frac_23 hF.2.1.rc.choose_spec rfl hR (Nat.le_of_ble_eq_true rfl) (Nat.le_of_ble_eq_true rfl) (Nat.le_of_ble_eq_true rfl) (Nat.le_of_ble_eq_true rfl) (Nat.le_of_ble_eq_true rfl) d_Frac_sign_4 (fun r Mx hp => ?_)
  obtain ⟨rfl, rfl⟩ := hp
  refine g_sv ?_
  refine g_if_eq hC (by unfold I32; split <;> omega) d_Frac_sign_7 (fun c => ?_) (fun c => ?_)
  · have ha : a ≠ 0 := fun h => by rw [if_pos h] at c; omega
    rw [if_neg ha] at hQ
    refine g_aload_n hC rfl d_Frac_sign_14 ?_
    refine g_get hC fb_Frac_27 hF.1 rfl d_Frac_sign_15 ?_
    have hb := bz_in mi
    refine g_if_eq hC (by unfold I32; omega) d_Frac_sign_18 (fun c2 => ?_) (fun c2 => ?_)
    · refine g_iconst hC d_Frac_sign_25 ?_
      refine g_iret hC hQ (by decide) (by decide) d_Frac_sign_26 ⟨by cases mi with | false => rfl | true => rw [bz_t] at c2; omega, rfl⟩
    · refine g_iconst hC d_Frac_sign_21 ?_
      refine g_goto hC d_Frac_sign_22 ?_
      refine g_iret hC hQ (by decide) (by decide) d_Frac_sign_26 ⟨by cases mi with | false => rw [bz_f] at c2; omega | true => rfl, rfl⟩
  · have ha : a = 0 := by
      by_cases h : a = 0
      · exact h
      · rw [if_neg h] at c; omega
    refine g_iconst hC d_Frac_sign_10 ?_
    refine g_goto hC d_Frac_sign_11 ?_
    refine g_iret hC hQ (by decide) (by decide) d_Frac_sign_26 ⟨by rw [if_pos ha], rfl⟩
theorem d_Frac_copy_0 : dn m_Frac_copy.2.1 0 (.aload_n 0) 1 1 := ⟨by decide +kernel, rfl⟩
theorem d_Frac_copy_1 : dn m_Frac_copy.2.1 1 (.getfield 14) 3 4 := ⟨by decide +kernel, rfl⟩
theorem d_Frac_copy_4 : dn m_Frac_copy.2.1 4 (.aload_n 1) 1 5 := ⟨by decide +kernel, rfl⟩
theorem d_Frac_copy_5 : dn m_Frac_copy.2.1 5 (.getfield 14) 3 8 := ⟨by decide +kernel, rfl⟩
theorem d_Frac_copy_8 : dn m_Frac_copy.2.1 8 (.invokevirtual 31) 3 11 := ⟨by decide +kernel, rfl⟩
theorem d_Frac_copy_11 : dn m_Frac_copy.2.1 11 (.aload_n 0) 1 12 := ⟨by decide +kernel, rfl⟩
theorem d_Frac_copy_12 : dn m_Frac_copy.2.1 12 (.getfield 20) 3 15 := ⟨by decide +kernel, rfl⟩
theorem d_Frac_copy_15 : dn m_Frac_copy.2.1 15 (.aload_n 1) 1 16 := ⟨by decide +kernel, rfl⟩
theorem d_Frac_copy_16 : dn m_Frac_copy.2.1 16 (.getfield 20) 3 19 := ⟨by decide +kernel, rfl⟩
theorem d_Frac_copy_19 : dn m_Frac_copy.2.1 19 (.invokevirtual 31) 3 22 := ⟨by decide +kernel, rfl⟩
theorem d_Frac_copy_22 : dn m_Frac_copy.2.1 22 (.aload_n 0) 1 23 := ⟨by decide +kernel, rfl⟩
theorem d_Frac_copy_23 : dn m_Frac_copy.2.1 23 (.aload_n 1) 1 24 := ⟨by decide +kernel, rfl⟩
theorem d_Frac_copy_24 : dn m_Frac_copy.2.1 24 (.getfield 27) 3 27 := ⟨by decide +kernel, rfl⟩
theorem d_Frac_copy_27 : dn m_Frac_copy.2.1 27 (.putfield 27) 3 30 := ⟨by decide +kernel, rfl⟩
theorem d_Frac_copy_30 : dn m_Frac_copy.2.1 30 (.aload_n 0) 1 31 := ⟨by decide +kernel, rfl⟩
theorem d_Frac_copy_31 : dn m_Frac_copy.2.1 31 (.aload_n 1) 1 32 := ⟨by decide +kernel, rfl⟩
theorem d_Frac_copy_32 : dn m_Frac_copy.2.1 32 (.getfield 35) 3 35 := ⟨by decide +kernel, rfl⟩
theorem d_Frac_copy_35 : dn m_Frac_copy.2.1 35 (.putfield 35) 3 38 := ⟨by decide +kernel, rfl⟩
theorem d_Frac_copy_38 : dn m_Frac_copy.2.1 38 (.return_) 1 39 := ⟨by decide +kernel, rfl⟩
theorem sp_Frac_copy {l : Launch} {K : KC} {M : AH} {p r cap c2 a b : Nat} {mi : Bool} {un : Int} (hP : fx K M p cap) (hF : isF K M r c2 a b mi un) (hd : r + 5 ≤ p ∨ p + 5 ≤ r) (ha : (a : Int) < pw cap) (hb : (b : Int) < pw cap) (hcap : cap ≤ 1000) (hc2 : c2 ≤ 1000) :
    Sp l K m_Frac_copy 2 0 0 [.ref p, .ref r] M (fun x M' => x = none ∧ isF K M' p cap a b mi un ∧ frF M M' p) := by
  refine Sp.ofG R_Frac rfl (by decide) [some (.ref p), some (.ref r)] rfl (Nat.le_of_ble_eq_true rfl) ?_
  intro X hl hK hN hR hC hQ
  subst hl hK
  obtain ⟨mi0, un0, hO, hx1, hx2⟩ := hP
  refine g_aload_n hC rfl d_Frac_copy_0 ?_
  refine g_get hC fb_Frac_14 hO rfl d_Frac_copy_1 ?_
  refine g_aload_n hC rfl d_Frac_copy_4 ?_
  refine g_get hC fb_Frac_14 hF.1 rfl d_Frac_copy_5 ?_
  refine g_callV1 hC (sp_Whole_copy hx1 hF.2.1 ha (by omega) hcap hc2) oc_Whole_copy ov_Whole_copy ml_Frac_31 hx1.rc.choose_spec rfl hR (Nat.le_of_ble_eq_true rfl) (Nat.le_of_ble_eq_true rfl) (Nat.le_of_ble_eq_true rfl) (Nat.le_of_ble_eq_true rfl) (Nat.le_of_ble_eq_true rfl) d_Frac_copy_8 (fun r M1 hp => ?_)
  obtain ⟨rfl, hA1, f1⟩ := hp
  refine g_s0 ?_
  have hF1 := hF.eq (M' := M1) (fun x h1 h2 => f1.2 x (by omega) (by omega))
  have hO1 := (f1.2 p (by omega) (by omega)).trans hO
  have hx3 := hx2.fr f1 (by omega) (by omega) (by omega)
  refine g_aload_n hC rfl d_Frac_copy_11 ?_
  refine g_get hC fb_Frac_20 hO1 rfl d_Frac_copy_12 ?_
  refine g_aload_n hC rfl d_Frac_copy_15 ?_
  refine g_get hC fb_Frac_20 hF1.1 rfl d_Frac_copy_16 ?_
  refine g_callV1 hC (sp_Whole_copy hx3 hF1.2.2 hb (by omega) hcap hc2) oc_Whole_copy ov_Whole_copy ml_Frac_31 hx3.rc.choose_spec rfl hR (Nat.le_of_ble_eq_true rfl) (Nat.le_of_ble_eq_true rfl) (Nat.le_of_ble_eq_true rfl) (Nat.le_of_ble_eq_true rfl) (Nat.le_of_ble_eq_true rfl) d_Frac_copy_19 (fun r M2 hp => ?_)
  obtain ⟨rfl, hB2, f2⟩ := hp
  refine g_s0 ?_
  have hF2 := hF1.eq (M' := M2) (fun x h1 h2 => f2.2 x (by omega) (by omega))
  have hO2 := (f2.2 p (by omega) (by omega)).trans hO1
  have hA2 := hA1.fr f2 (by omega) (by omega) (by omega)
  refine g_aload_n hC rfl d_Frac_copy_22 ?_
  refine g_aload_n hC rfl d_Frac_copy_23 ?_
  refine g_get hC fb_Frac_27 hF2.1 rfl d_Frac_copy_24 ?_
  refine g_put hC fb_Frac_27 hO2 (nar_b mi) (fit_b mi) (Nat.le_of_ble_eq_true rfl) d_Frac_copy_27 ?_
  have hO3 : (ups M2 p (oO 1 ([Value.ref (p + 1), .ref (p + 3), iv (bz mi0), iv un0].set 2 (iv (bz mi))))).1 p = some (oO 1 [.ref (p + 1), .ref (p + 3), iv (bz mi), iv un0]) := ups_s
  have hF3 := hF2.eq (M' := ups M2 p (oO 1 ([Value.ref (p + 1), .ref (p + 3), iv (bz mi0), iv un0].set 2 (iv (bz mi))))) (fun x h1 h2 => ups_n (by omega))
  refine g_aload_n hC rfl d_Frac_copy_30 ?_
  refine g_aload_n hC rfl d_Frac_copy_31 ?_
  refine g_get hC fb_Frac_35 hF3.1 rfl d_Frac_copy_32 ?_
  refine g_put hC fb_Frac_35 hO3 rfl rfl (Nat.le_of_ble_eq_true rfl) d_Frac_copy_35 ?_
  refine g_vret hC hQ (by decide) (by decide) d_Frac_copy_38 ⟨rfl, ⟨ups_s, hA2.eq ?_ ?_, hB2.eq ?_ ?_⟩, ?_, fun x hx => ?_⟩
  · rw [ups_n (by omega), ups_n (by omega)]
  · rw [ups_n (by omega), ups_n (by omega)]
  · rw [ups_n (by omega), ups_n (by omega)]
  · rw [ups_n (by omega), ups_n (by omega)]
  · show M2.2 = _; rw [f2.1, f1.1]
  · rw [ups_n (by omega), ups_n (by omega), f2.2 x (by omega) (by omega), f1.2 x (by omega) (by omega)]
theorem rep_100 {f : Int → Int} {n v c : Nat} (h : rep f n v) : n ≤ c ↔ (v : Int) < pw c := by
  constructor
  · intro q
    exact Int.lt_of_lt_of_le (rep_lt h) (pow_le q)
  · exact rep_le h
theorem d_Frac_isLong_0 : dn m_Frac_isLong.2.1 0 (.aload_n 0) 1 1 := ⟨by decide +kernel, rfl⟩
theorem d_Frac_isLong_1 : dn m_Frac_isLong.2.1 1 (.getfield 14) 3 4 := ⟨by decide +kernel, rfl⟩
theorem d_Frac_isLong_4 : dn m_Frac_isLong.2.1 4 (.getfield 39) 3 7 := ⟨by decide +kernel, rfl⟩
theorem d_Frac_isLong_7 : dn m_Frac_isLong.2.1 7 (.bipush 100) 2 9 := ⟨by decide +kernel, rfl⟩
theorem d_Frac_isLong_9 : db m_Frac_isLong.2.1 9 (.if_icmp .gt) 24 12 := ⟨15, by decide +kernel, by decide, rfl⟩
theorem d_Frac_isLong_12 : dn m_Frac_isLong.2.1 12 (.aload_n 0) 1 13 := ⟨by decide +kernel, rfl⟩
theorem d_Frac_isLong_13 : dn m_Frac_isLong.2.1 13 (.getfield 20) 3 16 := ⟨by decide +kernel, rfl⟩
theorem d_Frac_isLong_16 : dn m_Frac_isLong.2.1 16 (.getfield 39) 3 19 := ⟨by decide +kernel, rfl⟩
theorem d_Frac_isLong_19 : dn m_Frac_isLong.2.1 19 (.bipush 100) 2 21 := ⟨by decide +kernel, rfl⟩
theorem d_Frac_isLong_21 : db m_Frac_isLong.2.1 21 (.if_icmp .le) 28 24 := ⟨7, by decide +kernel, by decide, rfl⟩
theorem d_Frac_isLong_24 : dn m_Frac_isLong.2.1 24 (.iconst 1) 1 25 := ⟨by decide +kernel, rfl⟩
theorem d_Frac_isLong_25 : db m_Frac_isLong.2.1 25 (.goto) 29 28 := ⟨4, by decide +kernel, by decide, rfl⟩
theorem d_Frac_isLong_28 : dn m_Frac_isLong.2.1 28 (.iconst 0) 1 29 := ⟨by decide +kernel, rfl⟩
theorem d_Frac_isLong_29 : dn m_Frac_isLong.2.1 29 (.ireturn) 1 30 := ⟨by decide +kernel, rfl⟩
theorem sp_Frac_isLong {l : Launch} {K : KC} {M : AH} {p cap a b : Nat} {mi : Bool} {un : Int} (hF : isF K M p cap a b mi un) (hcap : cap ≤ 1000) :
    Sp l K m_Frac_isLong 0 0 0 [.ref p] M (fun x M' => x = some (iv (bz (decide (¬ ((a : Int) < pw 100 ∧ (b : Int) < pw 100))))) ∧ M' = M) := by
  refine Sp.ofG R_Frac rfl (by decide) [some (.ref p)] rfl (Nat.le_of_ble_eq_true rfl) ?_
  intro X hl hK hN hR hC hQ
  subst hl hK
  obtain ⟨h1, ⟨n, f, hA, hn, hr⟩, ⟨m, g, hB, hm, hr2⟩⟩ := hF
  have e1 := rep_100 (c := 100) hr
  have e2 := rep_100 (c := 100) hr2
  refine g_aload_n hC rfl d_Frac_isLong_0 ?_
  refine g_get hC fb_Frac_14 h1 rfl d_Frac_isLong_1 ?_
  refine g_getN hC ck_Whole (k := 1) (by decide) (tb1 79 rfl) rfl hA.1 rfl d_Frac_isLong_4 ?_
  refine g_bipush hC (by decide) d_Frac_isLong_7 ?_
  refine g_icmp_gt hC (by unfold I32; omega) (by unfold I32; omega) d_Frac_isLong_9 (fun c => ?_) (fun c => ?_)
  · refine g_iconst hC d_Frac_isLong_24 ?_
    refine g_goto hC d_Frac_isLong_25 ?_
    refine g_zret hC hQ (by decide) (by decide) (by omega) d_Frac_isLong_29 ⟨by rw [decide_eq_true (by omega)]; rfl, rfl⟩
  · refine g_aload_n hC rfl d_Frac_isLong_12 ?_
    refine g_get hC fb_Frac_20 h1 rfl d_Frac_isLong_13 ?_
    refine g_getN hC ck_Whole (k := 1) (by decide) (tb1 79 rfl) rfl hB.1 rfl d_Frac_isLong_16 ?_
    refine g_bipush hC (by decide) d_Frac_isLong_19 ?_
    refine g_icmp_le hC (by unfold I32; omega) (by unfold I32; omega) d_Frac_isLong_21 (fun c2 => ?_) (fun c2 => ?_)
    · refine g_iconst hC d_Frac_isLong_28 ?_
      refine g_zret hC hQ (by decide) (by decide) (by omega) d_Frac_isLong_29 ⟨by rw [decide_eq_false (by omega)]; rfl, rfl⟩
    · refine g_iconst hC d_Frac_isLong_24 ?_
      refine g_goto hC d_Frac_isLong_25 ?_
      refine g_zret hC hQ (by decide) (by decide) (by omega) d_Frac_isLong_29 ⟨by rw [decide_eq_true (by omega)]; rfl, rfl⟩
