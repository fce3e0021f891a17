/-! Whole: init, copy, isNothing, set, against -/
/-- a Whole with room for cap limbs, whatever it holds -/
def wx (K : KC) (M : AH) (q cap : Nat) : Prop := ∃ (n : Nat) (f : Int → Int), isW K M q cap n f
/-- a Whole that is the number v -/
def wv (K : KC) (M : AH) (q cap v : Nat) : Prop := ∃ (n : Nat) (f : Int → Int), isW K M q cap n f ∧ n ≤ cap ∧ rep f n v
theorem wv.tox {K : KC} {M : AH} {q cap v : Nat} (h : wv K M q cap v) : wx K M q cap := by
  obtain ⟨n, f, h, -⟩ := h
  exact ⟨n, f, h⟩
theorem wv.fr {K : KC} {M M' : AH} {q r cap v : Nat} (h : wv K M r cap v) (hf : frW M M' q) (h1 : r ≠ q) (h2 : r ≠ q + 1) (h3 : r + 1 ≠ q) : wv K M' r cap v := by
  obtain ⟨n, f, h, h4⟩ := h
  exact ⟨n, f, h.fr hf h1 h2 h3, h4⟩
theorem wx.fr {K : KC} {M M' : AH} {q r cap : Nat} (h : wx K M r cap) (hf : frW M M' q) (h1 : r ≠ q) (h2 : r ≠ q + 1) (h3 : r + 1 ≠ q) : wx K M' r cap := by
  obtain ⟨n, f, h⟩ := h
  exact ⟨n, f, h.fr hf h1 h2 h3⟩
theorem stp_div (S w P : Int) : S + w % 1000000000 * P + w / 1000000000 * (1000000000 * P) = S + w * P := by
  have e := Int.mul_ediv_add_emod w 1000000000
  have e2 : w * P = 1000000000 * (w / 1000000000) * P + w % 1000000000 * P := by rw [← Int.add_mul, e]
  have e3 : w / 1000000000 * (1000000000 * P) = 1000000000 * (w / 1000000000) * P := by rw [← Int.mul_assoc, Int.mul_comm (w / 1000000000)]
  omega
theorem dg_up {f : Int → Int} {n : Nat} {x : Int} (h : dg f n) (h0 : 0 ≤ x) (h1 : x < 1000000000) : dg (up f n x) (n + 1) := by
  intro k hk
  by_cases e : k = n
  · subst e; rw [up_s]; exact ⟨h0, h1⟩
  · rw [up_n (by omega)]; exact h k (by omega)
theorem vl_ups {f : Int → Int} {n : Nat} {x : Int} : vl (up f n x) (n + 1) = vl f n + x * pw n := by
  rw [vl_s, vl_up (Int.le_refl _), up_s]
theorem d_Whole_init_0 : dn m_Whole_init.2.1 0 (.aload_n 0) 1 1 := ⟨by decide +kernel, rfl⟩
theorem d_Whole_init_1 : dn m_Whole_init.2.1 1 (.invokespecial 3) 3 4 := ⟨by decide +kernel, rfl⟩
theorem d_Whole_init_4 : dn m_Whole_init.2.1 4 (.aload_n 0) 1 5 := ⟨by decide +kernel, rfl⟩
theorem d_Whole_init_5 : dn m_Whole_init.2.1 5 (.iload_n 1) 1 6 := ⟨by decide +kernel, rfl⟩
theorem d_Whole_init_6 : dn m_Whole_init.2.1 6 (.newarray .int) 2 8 := ⟨by decide +kernel, rfl⟩
theorem d_Whole_init_8 : dn m_Whole_init.2.1 8 (.putfield 9) 3 11 := ⟨by decide +kernel, rfl⟩
theorem d_Whole_init_11 : dn m_Whole_init.2.1 11 (.return_) 1 12 := ⟨by decide +kernel, rfl⟩
/-- Whole(most): the array comes just behind the object -/
theorem sp_Whole_init {l : Launch} {K : KC} {M : AH} {q cap : Nat} (hq : M.1 q = some (oO 0 [.null, iv 0])) (hz : M.2 = q + 1) (hcap : cap ≤ 1000) :
    Sp l K m_Whole_init 1 1 cap [.ref q, iv cap] M (fun r M' => r = none ∧ isW K M' q cap 0 (fun _ => 0) ∧ M'.2 = q + 2 ∧ ∀ p, p ≠ q → p ≠ q + 1 → M'.1 p = M.1 p) := by
  refine Sp.ofG R_Whole rfl (by decide) [some (.ref q), some (iv cap)] rfl (Nat.le_of_ble_eq_true rfl) ?_
  intro X hl hK hN hR hC hQ
  subst hl hK
  refine g_aload_n hC rfl d_Whole_init_0 ?_
  refine g_objInit hC ml_Whole_3 (by rw [hR]; exact Nat.le_of_ble_eq_true rfl) (by rw [hR]; exact Nat.le_of_ble_eq_true rfl) d_Whole_init_1 ?_
  refine g_aload_n hC rfl d_Whole_init_4 ?_
  refine g_iload_n hC rfl d_Whole_init_5 ?_
  refine g_newI hC (tb1 85 rfl) (n := cap) rfl (by omega) (by rw [hR]; exact Nat.le_of_ble_eq_true rfl) (by rw [hR]; show 0 + cap ≤ cap; omega) d_Whole_init_6 ?_
  rw [hz]
  refine g_putF hC fb_Whole_9 rfl (a := q) (by rw [nws_n (by omega)]; exact hq) rfl rfl (Nat.le_of_ble_eq_true rfl) d_Whole_init_8 ?_
  refine g_vret hC hQ (by decide) (by omega) d_Whole_init_11 ⟨rfl, ⟨ups_s, ?_⟩, ?_, fun p h1 h2 => ?_⟩
  · rw [ups_n (by omega), ← hz, nws_s]
  · show M.2 + 1 = _; omega
  · rw [ups_n h1, nws_n (by omega)]
theorem d_Whole_copy_0 : dn m_Whole_copy.2.1 0 (.aload_n 0) 1 1 := ⟨by decide +kernel, rfl⟩
theorem d_Whole_copy_1 : dn m_Whole_copy.2.1 1 (.aload_n 1) 1 2 := ⟨by decide +kernel, rfl⟩
theorem d_Whole_copy_2 : dn m_Whole_copy.2.1 2 (.getfield 15) 3 5 := ⟨by decide +kernel, rfl⟩
theorem d_Whole_copy_5 : dn m_Whole_copy.2.1 5 (.putfield 15) 3 8 := ⟨by decide +kernel, rfl⟩
theorem d_Whole_copy_8 : dn m_Whole_copy.2.1 8 (.aload_n 1) 1 9 := ⟨by decide +kernel, rfl⟩
theorem d_Whole_copy_9 : dn m_Whole_copy.2.1 9 (.getfield 9) 3 12 := ⟨by decide +kernel, rfl⟩
theorem d_Whole_copy_12 : dn m_Whole_copy.2.1 12 (.iconst 0) 1 13 := ⟨by decide +kernel, rfl⟩
theorem d_Whole_copy_13 : dn m_Whole_copy.2.1 13 (.aload_n 0) 1 14 := ⟨by decide +kernel, rfl⟩
theorem d_Whole_copy_14 : dn m_Whole_copy.2.1 14 (.getfield 9) 3 17 := ⟨by decide +kernel, rfl⟩
theorem d_Whole_copy_17 : dn m_Whole_copy.2.1 17 (.iconst 0) 1 18 := ⟨by decide +kernel, rfl⟩
theorem d_Whole_copy_18 : dn m_Whole_copy.2.1 18 (.aload_n 0) 1 19 := ⟨by decide +kernel, rfl⟩
theorem d_Whole_copy_19 : dn m_Whole_copy.2.1 19 (.getfield 15) 3 22 := ⟨by decide +kernel, rfl⟩
theorem d_Whole_copy_22 : dn m_Whole_copy.2.1 22 (.invokestatic 21) 3 25 := ⟨by decide +kernel, rfl⟩
theorem d_Whole_copy_25 : dn m_Whole_copy.2.1 25 (.return_) 1 26 := ⟨by decide +kernel, rfl⟩
theorem sp_Whole_copy {l : Launch} {K : KC} {M : AH} {q r cap c2 v : Nat} (hq : wx K M q cap) (hr : wv K M r c2 v) (hv : (v : Int) < pw cap) (hne : r ≠ q) (hcap : cap ≤ 1000) (hc2 : c2 ≤ 1000) :
    Sp l K m_Whole_copy 1 0 0 [.ref q, .ref r] M (fun x M' => x = none ∧ wv K M' q cap v ∧ frW M M' q) := by
  refine Sp.ofG R_Whole rfl (by decide) [some (.ref q), some (.ref r)] rfl (Nat.le_of_ble_eq_true rfl) ?_
  intro X hl hK hN hR hC hQ
  subst hl hK
  obtain ⟨n0, f, hW⟩ := hq
  obtain ⟨n, g, hO, hn, hrep⟩ := hr
  have hnc := rep_le hrep hv
  refine g_aload_n hC rfl d_Whole_copy_0 ?_
  refine g_aload_n hC rfl d_Whole_copy_1 ?_
  refine g_get hC fb_Whole_15 hO.1 rfl d_Whole_copy_2 ?_
  refine g_put hC fb_Whole_15 hW.1 rfl rfl (Nat.le_of_ble_eq_true rfl) d_Whole_copy_5 ?_
  have hf := (frW.rf (M := M) (q := q)).o (e := oO 0 [.ref (q + 1), iv n])
  have hO := hO.oth hW hf hne
  have hW := hW.sz (n' := n)
  refine g_aload_n hC rfl d_Whole_copy_8 ?_
  refine g_get hC fb_Whole_9 hO.1 rfl d_Whole_copy_9 ?_
  refine g_iconst hC d_Whole_copy_12 ?_
  refine g_aload_n hC rfl d_Whole_copy_13 ?_
  refine g_get hC fb_Whole_9 hW.1 rfl d_Whole_copy_14 ?_
  refine g_iconst hC d_Whole_copy_17 ?_
  refine g_aload_n hC rfl d_Whole_copy_18 ?_
  refine g_get hC fb_Whole_15 hW.1 rfl d_Whole_copy_19 ?_
  refine g_copyI hC ml_Whole_21 hO.2 hW.2 (by omega) (by omega) (by omega) (by omega) (by omega) (by omega) (by omega) (by rw [hR]; decide) (by rw [hR]; decide) d_Whole_copy_22 ?_
  refine g_vret hC hQ (by decide) (by decide) d_Whole_copy_25 ⟨rfl, ⟨n, _, hW.st, hnc, ?_⟩, hf.a⟩
  obtain ⟨r1, r2, r3⟩ := hrep
  have hk : ∀ k : Nat, k < n → cpI g f 0 0 n (k : Int) = g (k : Int) := fun k hk => by rw [cpI_in (by omega) (by omega)]; congr 1; omega
  refine ⟨dg_congr r1 hk, fun k h => ?_, (vl_congr hk).trans r3⟩
  rw [hk k (by omega)]
  exact r2 k h
theorem d_Whole_isNothing_0 : dn m_Whole_isNothing.2.1 0 (.aload_n 0) 1 1 := ⟨by decide +kernel, rfl⟩
theorem d_Whole_isNothing_1 : dn m_Whole_isNothing.2.1 1 (.getfield 15) 3 4 := ⟨by decide +kernel, rfl⟩
theorem d_Whole_isNothing_4 : db m_Whole_isNothing.2.1 4 (.ifCond .ne) 11 7 := ⟨7, by decide +kernel, by decide, rfl⟩
theorem d_Whole_isNothing_7 : dn m_Whole_isNothing.2.1 7 (.iconst 1) 1 8 := ⟨by decide +kernel, rfl⟩
theorem d_Whole_isNothing_8 : db m_Whole_isNothing.2.1 8 (.goto) 12 11 := ⟨4, by decide +kernel, by decide, rfl⟩
theorem d_Whole_isNothing_11 : dn m_Whole_isNothing.2.1 11 (.iconst 0) 1 12 := ⟨by decide +kernel, rfl⟩
theorem d_Whole_isNothing_12 : dn m_Whole_isNothing.2.1 12 (.ireturn) 1 13 := ⟨by decide +kernel, rfl⟩
theorem sp_Whole_isNothing {l : Launch} {K : KC} {M : AH} {q cap v : Nat} (hq : wv K M q cap v) (hcap : cap ≤ 1000) :
    Sp l K m_Whole_isNothing 0 0 0 [.ref q] M (fun x M' => x = some (iv (if v = 0 then 1 else 0)) ∧ M' = M) := by
  refine Sp.ofG R_Whole rfl (by decide) [some (.ref q)] rfl (Nat.le_of_ble_eq_true rfl) ?_
  intro X hl hK hN hR hC hQ
  subst hl hK
  obtain ⟨n, f, hW, hn, hrep⟩ := hq
  have h0 := rep_0 hrep
  refine g_aload_n hC rfl d_Whole_isNothing_0 ?_
  refine g_get hC fb_Whole_15 hW.1 rfl d_Whole_isNothing_1 ?_
  refine g_if_ne hC (by unfold I32; omega) d_Whole_isNothing_4 (fun c => ?_) (fun c => ?_)
  · refine g_iconst hC d_Whole_isNothing_11 ?_
    refine g_zret hC hQ (by decide) (by decide) (by omega) d_Whole_isNothing_12 ⟨by rw [if_neg (by omega)], rfl⟩
  · refine g_iconst hC d_Whole_isNothing_7 ?_
    refine g_goto hC d_Whole_isNothing_8 ?_
    refine g_zret hC hQ (by decide) (by decide) (by omega) d_Whole_isNothing_12 ⟨by rw [if_pos (by omega)], rfl⟩
theorem d_Whole_set_0 : dn m_Whole_set.2.1 0 (.aload_n 0) 1 1 := ⟨by decide +kernel, rfl⟩
theorem d_Whole_set_1 : dn m_Whole_set.2.1 1 (.iconst 0) 1 2 := ⟨by decide +kernel, rfl⟩
theorem d_Whole_set_2 : dn m_Whole_set.2.1 2 (.putfield 15) 3 5 := ⟨by decide +kernel, rfl⟩
theorem d_Whole_set_5 : dn m_Whole_set.2.1 5 (.lload_n 1) 1 6 := ⟨by decide +kernel, rfl⟩
theorem d_Whole_set_6 : dn m_Whole_set.2.1 6 (.lconst 0) 1 7 := ⟨by decide +kernel, rfl⟩
theorem d_Whole_set_7 : dn m_Whole_set.2.1 7 (.lcmp) 1 8 := ⟨by decide +kernel, rfl⟩
theorem d_Whole_set_8 : db m_Whole_set.2.1 8 (.ifCond .le) 16 11 := ⟨8, by decide +kernel, by decide, rfl⟩
theorem d_Whole_set_11 : dn m_Whole_set.2.1 11 (.lload_n 1) 1 12 := ⟨by decide +kernel, rfl⟩
theorem d_Whole_set_12 : dn m_Whole_set.2.1 12 (.lneg) 1 13 := ⟨by decide +kernel, rfl⟩
theorem d_Whole_set_13 : db m_Whole_set.2.1 13 (.goto) 17 16 := ⟨4, by decide +kernel, by decide, rfl⟩
theorem d_Whole_set_16 : dn m_Whole_set.2.1 16 (.lload_n 1) 1 17 := ⟨by decide +kernel, rfl⟩
theorem d_Whole_set_17 : dn m_Whole_set.2.1 17 (.lstore_n 3) 1 18 := ⟨by decide +kernel, rfl⟩
theorem d_Whole_set_18 : dn m_Whole_set.2.1 18 (.lload_n 3) 1 19 := ⟨by decide +kernel, rfl⟩
theorem d_Whole_set_19 : dn m_Whole_set.2.1 19 (.lconst 0) 1 20 := ⟨by decide +kernel, rfl⟩
theorem d_Whole_set_20 : dn m_Whole_set.2.1 20 (.lcmp) 1 21 := ⟨by decide +kernel, rfl⟩
theorem d_Whole_set_21 : db m_Whole_set.2.1 21 (.ifCond .eq) 59 24 := ⟨38, by decide +kernel, by decide, rfl⟩
theorem d_Whole_set_24 : dn m_Whole_set.2.1 24 (.aload_n 0) 1 25 := ⟨by decide +kernel, rfl⟩
theorem d_Whole_set_25 : dn m_Whole_set.2.1 25 (.getfield 9) 3 28 := ⟨by decide +kernel, rfl⟩
theorem d_Whole_set_28 : dn m_Whole_set.2.1 28 (.aload_n 0) 1 29 := ⟨by decide +kernel, rfl⟩
theorem d_Whole_set_29 : dn m_Whole_set.2.1 29 (.getfield 15) 3 32 := ⟨by decide +kernel, rfl⟩
theorem d_Whole_set_32 : dn m_Whole_set.2.1 32 (.lload_n 3) 1 33 := ⟨by decide +kernel, rfl⟩
theorem d_Whole_set_33 : dn m_Whole_set.2.1 33 (.ldc2_w 19) 3 36 := ⟨by decide +kernel, rfl⟩
theorem d_Whole_set_36 : dn m_Whole_set.2.1 36 (.lrem) 1 37 := ⟨by decide +kernel, rfl⟩
theorem d_Whole_set_37 : dn m_Whole_set.2.1 37 (.lneg) 1 38 := ⟨by decide +kernel, rfl⟩
theorem d_Whole_set_38 : dn m_Whole_set.2.1 38 (.l2i) 1 39 := ⟨by decide +kernel, rfl⟩
theorem d_Whole_set_39 : dn m_Whole_set.2.1 39 (.iastore) 1 40 := ⟨by decide +kernel, rfl⟩
theorem d_Whole_set_40 : dn m_Whole_set.2.1 40 (.lload_n 3) 1 41 := ⟨by decide +kernel, rfl⟩
theorem d_Whole_set_41 : dn m_Whole_set.2.1 41 (.ldc2_w 19) 3 44 := ⟨by decide +kernel, rfl⟩
theorem d_Whole_set_44 : dn m_Whole_set.2.1 44 (.ldiv) 1 45 := ⟨by decide +kernel, rfl⟩
theorem d_Whole_set_45 : dn m_Whole_set.2.1 45 (.lstore_n 3) 1 46 := ⟨by decide +kernel, rfl⟩
theorem d_Whole_set_46 : dn m_Whole_set.2.1 46 (.aload_n 0) 1 47 := ⟨by decide +kernel, rfl⟩
theorem d_Whole_set_47 : dn m_Whole_set.2.1 47 (.dup) 1 48 := ⟨by decide +kernel, rfl⟩
theorem d_Whole_set_48 : dn m_Whole_set.2.1 48 (.getfield 15) 3 51 := ⟨by decide +kernel, rfl⟩
theorem d_Whole_set_51 : dn m_Whole_set.2.1 51 (.iconst 1) 1 52 := ⟨by decide +kernel, rfl⟩
theorem d_Whole_set_52 : dn m_Whole_set.2.1 52 (.iadd) 1 53 := ⟨by decide +kernel, rfl⟩
theorem d_Whole_set_53 : dn m_Whole_set.2.1 53 (.putfield 15) 3 56 := ⟨by decide +kernel, rfl⟩
theorem d_Whole_set_56 : db m_Whole_set.2.1 56 (.goto) 18 59 := ⟨(-38), by decide +kernel, by decide, rfl⟩
theorem d_Whole_set_59 : dn m_Whole_set.2.1 59 (.return_) 1 60 := ⟨by decide +kernel, rfl⟩
theorem sp_Whole_set {l : Launch} {K : KC} {M : AH} {q cap : Nat} {v : Int} (hq : wx K M q cap) (hv : I64 v) (hc3 : 3 ≤ cap) (hcap : cap ≤ 1000) :
    Sp l K m_Whole_set 0 0 0 [.ref q, jv v] M (fun x M' => x = none ∧ wv K M' q cap v.natAbs ∧ frW M M' q) := by
  refine Sp.ofG R_Whole rfl (by decide) [some (.ref q), some (jv v), none, none, none] rfl (Nat.le_of_ble_eq_true rfl) ?_
  intro X hl hK hN hR hC hQ
  subst hl hK
  have hv1 := hv.1
  have hv2 := hv.2
  have hp3 : pw 3 = 1000000000000000000000000000 := by decide
  have key : ∀ (w : Nat) (n : Nat) (f : Int → Int) (M' : AH), isW X.K M' q cap n f → dg f n → (w = 0 → tpn f n) → vl f n + (w : Int) * pw n = v.natAbs → frW M M' q → G X 0 0 M' 18 [some (.ref q), some (jv v), none, some (jv (-(w : Int))), none] [] := by
    intro w
    induction w using Nat.strongRecOn with
    | ind w ih =>
      intro n f M' hW hd ht hs hf
      have hpn := pw_pos n
      have hwv : (w : Int) ≤ v.natAbs := by
        have h1 := vl_nonneg hd
        have h2 : (w : Int) * 1 ≤ w * pw n := Int.mul_le_mul_of_nonneg_left (by omega) (by omega)
        omega
      refine g_lload_n hC rfl d_Whole_set_18 ?_
      refine g_lconst (z := 0) hC (by decide) d_Whole_set_19 ?_
      refine g_lcmp hC (by unfold I64; omega) (by unfold I64; omega) d_Whole_set_20 ?_
      refine g_lif_eq hC d_Whole_set_21 (fun c => ?_) (fun c => ?_)
      · have hw0 : w = 0 := by omega
        subst hw0
        refine g_vret hC hQ (by decide) (by decide) d_Whole_set_59 ⟨rfl, ⟨n, f, hW, ?_, hd, ht rfl, by omega⟩, hf⟩
        have h1 : rep f n v.natAbs := ⟨hd, ht rfl, by omega⟩
        have := rep_le h1 (c := 3) (by omega)
        omega
      · have hn3 : n < 3 := by
          have h1 := vl_nonneg hd
          have h2 : 1 * pw n ≤ (w : Int) * pw n := Int.mul_le_mul_of_nonneg_right (by omega) (by omega)
          exact pow_lt_of (by omega)
        have e1 : (-(w : Int)).tmod 1000000000 = -((w : Int) % 1000000000) := by rw [Int.neg_tmod, tmod_pos (by omega)]
        have e2 : (-(w : Int)).tdiv 1000000000 = -((w / 1000000000 : Nat) : Int) := by rw [Int.neg_tdiv, tdiv_pos (by omega)]; omega
        have hm1 := Int.emod_nonneg (w : Int) (show (1000000000 : Int) ≠ 0 by omega)
        have hm2 := Int.emod_lt_of_pos (w : Int) (show (0 : Int) < 1000000000 by omega)
        refine g_aload_n hC rfl d_Whole_set_24 ?_
        refine g_get hC fb_Whole_9 hW.1 rfl d_Whole_set_25 ?_
        refine g_aload_n hC rfl d_Whole_set_28 ?_
        refine g_get hC fb_Whole_15 hW.1 rfl d_Whole_set_29 ?_
        refine g_lload_n hC rfl d_Whole_set_32 ?_
        refine g_ldc2 (z := 1000000000) hC cn_Whole_19 (by decide) d_Whole_set_33 ?_
        refine g_lrem hC (by unfold I64; omega) (by unfold I64; omega) (by omega) d_Whole_set_36 ?_
        rw [e1]
        refine g_lneg hC d_Whole_set_37 ?_
        refine g_l2i hC d_Whole_set_38 ?_
        rw [Int.neg_neg]
        refine g_iast hC hW.2 (by omega) (by omega) (by omega) d_Whole_set_39 ?_
        replace hf := hf.a (e := oI X.K cap (up f n ((w : Int) % 1000000000)))
        replace hW := hW.st (f' := up f n ((w : Int) % 1000000000))
        refine g_lload_n hC rfl d_Whole_set_40 ?_
        refine g_ldc2 (z := 1000000000) hC cn_Whole_19 (by decide) d_Whole_set_41 ?_
        refine g_ldiv hC (by unfold I64; omega) (by unfold I64; omega) (by omega) d_Whole_set_44 ?_
        rw [e2]
        first | refine g_lst3 hC d_Whole_set_45 rfl (hN 4 rfl) ?_ | (refine g_fg2 ?_; refine g_lst3 hC d_Whole_set_45 rfl (hN 4 rfl) ?_)
        refine g_aload_n hC rfl d_Whole_set_46 ?_
        refine g_dup hC rfl d_Whole_set_47 ?_
        refine g_get hC fb_Whole_15 hW.1 rfl d_Whole_set_48 ?_
        refine g_iconst hC d_Whole_set_51 ?_
        refine g_iadd hC d_Whole_set_52 ?_
        refine g_put hC fb_Whole_15 hW.1 rfl rfl (Nat.le_of_ble_eq_true rfl) d_Whole_set_53 ?_
        refine g_goto hC d_Whole_set_56 ?_
        refine ih (w / 1000000000) (by omega) (n + 1) _ _ (hW.sz (n' := n + 1)) (dg_up hd (by omega) (by omega)) (fun h0 => ?_) ?_ hf.o
        · refine tpn_s ?_
          rw [up_s]
          omega
        · rw [vl_ups, pw_s, ← hs]
          have := stp_div (vl f n) w (pw n)
          rw [show ((w / 1000000000 : Nat) : Int) = (w : Int) / 1000000000 by omega]
          exact this
  obtain ⟨n0, f0, hW⟩ := hq
  refine g_aload_n hC rfl d_Whole_set_0 ?_
  refine g_iconst hC d_Whole_set_1 ?_
  refine g_put hC fb_Whole_15 hW.1 rfl rfl (Nat.le_of_ble_eq_true rfl) d_Whole_set_2 ?_
  have hf := (frW.rf (M := M) (q := q)).o (e := oO 0 [.ref (q + 1), iv (0 : Nat)])
  have hW := hW.sz (n' := 0)
  have hs : vl f0 0 + ((v.natAbs : Nat) : Int) * pw 0 = v.natAbs := by rw [vl_0, pw_0]; omega
  refine g_lload_n hC rfl d_Whole_set_5 ?_
  refine g_lconst (z := 0) hC (by decide) d_Whole_set_6 ?_
  refine g_lcmp hC (by unfold I64; omega) (by unfold I64; omega) d_Whole_set_7 ?_
  refine g_lif_le hC d_Whole_set_8 (fun c => ?_) (fun c => ?_)
  · refine g_lload_n hC rfl d_Whole_set_16 ?_
    have e : v = -(v.natAbs : Int) := by omega
    generalize hw : v.natAbs = w at *
    rw [e]
    rw [e] at key
    first | refine g_lst3 hC d_Whole_set_17 rfl (hN 4 rfl) ?_ | (refine g_fg2 ?_; refine g_lst3 hC d_Whole_set_17 rfl (hN 4 rfl) ?_)
    exact key w 0 f0 _ hW (fun k hk => by omega) (fun _ => tpn_z rfl) hs hf
  · refine g_lload_n hC rfl d_Whole_set_11 ?_
    refine g_lneg hC d_Whole_set_12 ?_
    refine g_goto hC d_Whole_set_13 ?_
    have e : v = (v.natAbs : Int) := by omega
    rw [show -v = -(v.natAbs : Int) by omega]
    first | refine g_lst3 hC d_Whole_set_17 rfl (hN 4 rfl) ?_ | (refine g_fg2 ?_; refine g_lst3 hC d_Whole_set_17 rfl (hN 4 rfl) ?_)
    exact key _ 0 f0 _ hW (fun k hk => by omega) (fun _ => tpn_z rfl) hs hf
theorem d_Whole_against_0 : dn m_Whole_against.2.1 0 (.aload_n 0) 1 1 := ⟨by decide +kernel, rfl⟩
theorem d_Whole_against_1 : dn m_Whole_against.2.1 1 (.getfield 15) 3 4 := ⟨by decide +kernel, rfl⟩
theorem d_Whole_against_4 : dn m_Whole_against.2.1 4 (.aload_n 1) 1 5 := ⟨by decide +kernel, rfl⟩
theorem d_Whole_against_5 : dn m_Whole_against.2.1 5 (.getfield 15) 3 8 := ⟨by decide +kernel, rfl⟩
theorem d_Whole_against_8 : db m_Whole_against.2.1 8 (.if_icmp .eq) 23 11 := ⟨15, by decide +kernel, by decide, rfl⟩
theorem d_Whole_against_11 : dn m_Whole_against.2.1 11 (.aload_n 0) 1 12 := ⟨by decide +kernel, rfl⟩
theorem d_Whole_against_12 : dn m_Whole_against.2.1 12 (.getfield 15) 3 15 := ⟨by decide +kernel, rfl⟩
theorem d_Whole_against_15 : dn m_Whole_against.2.1 15 (.aload_n 1) 1 16 := ⟨by decide +kernel, rfl⟩
theorem d_Whole_against_16 : dn m_Whole_against.2.1 16 (.getfield 15) 3 19 := ⟨by decide +kernel, rfl⟩
theorem d_Whole_against_19 : dn m_Whole_against.2.1 19 (.invokestatic 27) 3 22 := ⟨by decide +kernel, rfl⟩
theorem d_Whole_against_22 : dn m_Whole_against.2.1 22 (.ireturn) 1 23 := ⟨by decide +kernel, rfl⟩
theorem d_Whole_against_23 : dn m_Whole_against.2.1 23 (.aload_n 0) 1 24 := ⟨by decide +kernel, rfl⟩
theorem d_Whole_against_24 : dn m_Whole_against.2.1 24 (.getfield 15) 3 27 := ⟨by decide +kernel, rfl⟩
theorem d_Whole_against_27 : dn m_Whole_against.2.1 27 (.iconst 1) 1 28 := ⟨by decide +kernel, rfl⟩
theorem d_Whole_against_28 : dn m_Whole_against.2.1 28 (.isub) 1 29 := ⟨by decide +kernel, rfl⟩
theorem d_Whole_against_29 : dn m_Whole_against.2.1 29 (.istore_n 2) 1 30 := ⟨by decide +kernel, rfl⟩
theorem d_Whole_against_30 : dn m_Whole_against.2.1 30 (.iload_n 2) 1 31 := ⟨by decide +kernel, rfl⟩
theorem d_Whole_against_31 : db m_Whole_against.2.1 31 (.ifCond .lt) 55 34 := ⟨24, by decide +kernel, by decide, rfl⟩
theorem d_Whole_against_34 : dn m_Whole_against.2.1 34 (.aload_n 0) 1 35 := ⟨by decide +kernel, rfl⟩
theorem d_Whole_against_35 : dn m_Whole_against.2.1 35 (.getfield 9) 3 38 := ⟨by decide +kernel, rfl⟩
theorem d_Whole_against_38 : dn m_Whole_against.2.1 38 (.iload_n 2) 1 39 := ⟨by decide +kernel, rfl⟩
theorem d_Whole_against_39 : dn m_Whole_against.2.1 39 (.iaload) 1 40 := ⟨by decide +kernel, rfl⟩
theorem d_Whole_against_40 : dn m_Whole_against.2.1 40 (.aload_n 1) 1 41 := ⟨by decide +kernel, rfl⟩
theorem d_Whole_against_41 : dn m_Whole_against.2.1 41 (.getfield 9) 3 44 := ⟨by decide +kernel, rfl⟩
theorem d_Whole_against_44 : dn m_Whole_against.2.1 44 (.iload_n 2) 1 45 := ⟨by decide +kernel, rfl⟩
theorem d_Whole_against_45 : dn m_Whole_against.2.1 45 (.iaload) 1 46 := ⟨by decide +kernel, rfl⟩
theorem d_Whole_against_46 : db m_Whole_against.2.1 46 (.if_icmp .ne) 55 49 := ⟨9, by decide +kernel, by decide, rfl⟩
theorem d_Whole_against_49 : dn m_Whole_against.2.1 49 (.iinc 2 (-1)) 3 52 := ⟨by decide +kernel, rfl⟩
theorem d_Whole_against_52 : db m_Whole_against.2.1 52 (.goto) 30 55 := ⟨(-22), by decide +kernel, by decide, rfl⟩
theorem d_Whole_against_55 : dn m_Whole_against.2.1 55 (.iload_n 2) 1 56 := ⟨by decide +kernel, rfl⟩
theorem d_Whole_against_56 : db m_Whole_against.2.1 56 (.ifCond .ge) 63 59 := ⟨7, by decide +kernel, by decide, rfl⟩
theorem d_Whole_against_59 : dn m_Whole_against.2.1 59 (.iconst 0) 1 60 := ⟨by decide +kernel, rfl⟩
theorem d_Whole_against_60 : db m_Whole_against.2.1 60 (.goto) 78 63 := ⟨18, by decide +kernel, by decide, rfl⟩
theorem d_Whole_against_63 : dn m_Whole_against.2.1 63 (.aload_n 0) 1 64 := ⟨by decide +kernel, rfl⟩
theorem d_Whole_against_64 : dn m_Whole_against.2.1 64 (.getfield 9) 3 67 := ⟨by decide +kernel, rfl⟩
theorem d_Whole_against_67 : dn m_Whole_against.2.1 67 (.iload_n 2) 1 68 := ⟨by decide +kernel, rfl⟩
theorem d_Whole_against_68 : dn m_Whole_against.2.1 68 (.iaload) 1 69 := ⟨by decide +kernel, rfl⟩
theorem d_Whole_against_69 : dn m_Whole_against.2.1 69 (.aload_n 1) 1 70 := ⟨by decide +kernel, rfl⟩
theorem d_Whole_against_70 : dn m_Whole_against.2.1 70 (.getfield 9) 3 73 := ⟨by decide +kernel, rfl⟩
theorem d_Whole_against_73 : dn m_Whole_against.2.1 73 (.iload_n 2) 1 74 := ⟨by decide +kernel, rfl⟩
theorem d_Whole_against_74 : dn m_Whole_against.2.1 74 (.iaload) 1 75 := ⟨by decide +kernel, rfl⟩
theorem d_Whole_against_75 : dn m_Whole_against.2.1 75 (.invokestatic 27) 3 78 := ⟨by decide +kernel, rfl⟩
theorem d_Whole_against_78 : dn m_Whole_against.2.1 78 (.ireturn) 1 79 := ⟨by decide +kernel, rfl⟩
theorem vl_top {f g : Int → Int} {n j : Nat} (hf : dg f n) (hg : dg g n) (hj : j < n) (he : ∀ k : Nat, j < k → k < n → f (k : Int) = g (k : Int)) (hl : f (j : Int) < g (j : Int)) : vl f n < vl g n := by
  induction n with
  | zero => omega
  | succ n ih =>
    rw [vl_s, vl_s]
    by_cases e : j = n
    · subst e
      have a1 := vl_lt (dg_le hf (Nat.le_succ j))
      have a2 := vl_nonneg (dg_le hg (Nat.le_succ j))
      have h3 : (f (j : Int) + 1) * pw j ≤ g (j : Int) * pw j := Int.mul_le_mul_of_nonneg_right (by omega) (Int.le_of_lt (pw_pos j))
      rw [Int.add_mul] at h3
      omega
    · rw [he n (by omega) (by omega)]
      have := ih (dg_le hf (Nat.le_succ n)) (dg_le hg (Nat.le_succ n)) (by omega) (fun k h1 h2 => he k h1 (by omega))
      omega
theorem rep_sz_lt {f g : Int → Int} {m n v w : Nat} (hf : rep f m v) (hg : rep g n w) (h : m < n) : v < w := by
  obtain ⟨k, rfl⟩ : ∃ k, n = k + 1 := ⟨n - 1, by omega⟩
  have h1 := vl_ge hg.1 (hg.2.1 k rfl)
  have h2 := rep_lt hf
  have h3 := pow_le (show m ≤ k by omega)
  rw [hg.2.2] at h1
  omega
theorem sp_Whole_against {l : Launch} {K : KC} {M : AH} {q r cap c2 v w : Nat} (hq : wv K M q cap v) (hr : wv K M r c2 w) (hcap : cap ≤ 1000) (hc2 : c2 ≤ 1000) :
    Sp l K m_Whole_against 1 0 0 [.ref q, .ref r] M (fun x M' => x = some (iv (cz v w)) ∧ M' = M) := by
  refine Sp.ofG R_Whole rfl (by decide) [some (.ref q), some (.ref r), none] rfl (Nat.le_of_ble_eq_true rfl) ?_
  intro X hl hK hN hR hC hQ
  subst hl hK
  obtain ⟨n, f, hW, hn, hrep⟩ := hq
  obtain ⟨m, g, hO, hm, hrep2⟩ := hr
  refine g_aload_n hC rfl d_Whole_against_0 ?_
  refine g_get hC fb_Whole_15 hW.1 rfl d_Whole_against_1 ?_
  refine g_aload_n hC rfl d_Whole_against_4 ?_
  refine g_get hC fb_Whole_15 hO.1 rfl d_Whole_against_5 ?_
  refine g_icmp_eq hC (by unfold I32; omega) (by unfold I32; omega) d_Whole_against_8 (fun c => ?_) (fun c => ?_)
  · have hnm : m = n := by omega
    subst hnm
    have key : ∀ (j : Nat), j ≤ m → (∀ k : Nat, j ≤ k → k < m → f (k : Int) = g (k : Int)) → G X 0 0 M 30 [some (.ref q), some (.ref r), some (iv ((j : Int) - 1))] [] := by
      intro j
      induction j with
      | zero =>
        intro hj he
        refine g_iload_n hC rfl d_Whole_against_30 ?_
        refine g_if_lt hC (by unfold I32; omega) d_Whole_against_31 (fun c => ?_) (fun c => ?_)
        · refine g_iload_n hC rfl d_Whole_against_55 ?_
          refine g_if_ge hC (by unfold I32; omega) d_Whole_against_56 (fun c => ?_) (fun c => ?_)
          · omega
          · refine g_iconst hC d_Whole_against_59 ?_
            refine g_goto hC d_Whole_against_60 ?_
            refine g_iret hC hQ (by decide) (by decide) d_Whole_against_78 ⟨?_, rfl⟩
            rw [cz_eq]
            have h1 := hrep.2.2
            have h2 := hrep2.2.2
            rw [vl_congr (fun k hk => he k (by omega) hk)] at h1
            omega
        · omega
      | succ j ih =>
        intro hj he
        have e : ((j + 1 : Nat) : Int) - 1 = (j : Int) := by omega
        rw [e]
        have hb1 := hrep.1 j (by omega)
        have hb2 := hrep2.1 j (by omega)
        refine g_iload_n hC rfl d_Whole_against_30 ?_
        refine g_if_lt hC (by unfold I32; omega) d_Whole_against_31 (fun c => ?_) (fun c => ?_)
        · omega
        · refine g_aload_n hC rfl d_Whole_against_34 ?_
          refine g_get hC fb_Whole_9 hW.1 rfl d_Whole_against_35 ?_
          refine g_iload_n hC rfl d_Whole_against_38 ?_
          refine g_iald hC hW.2 (by omega) (by omega) (by omega) d_Whole_against_39 ?_
          refine g_aload_n hC rfl d_Whole_against_40 ?_
          refine g_get hC fb_Whole_9 hO.1 rfl d_Whole_against_41 ?_
          refine g_iload_n hC rfl d_Whole_against_44 ?_
          refine g_iald hC hO.2 (by omega) (by omega) (by omega) d_Whole_against_45 ?_
          refine g_icmp_ne hC (by unfold I32; omega) (by unfold I32; omega) d_Whole_against_46 (fun c => ?_) (fun c => ?_)
          · refine g_iload_n hC rfl d_Whole_against_55 ?_
            refine g_if_ge hC (by unfold I32; omega) d_Whole_against_56 (fun c9 => ?_) (fun c9 => ?_)
            · refine g_aload_n hC rfl d_Whole_against_63 ?_
              refine g_get hC fb_Whole_9 hW.1 rfl d_Whole_against_64 ?_
              refine g_iload_n hC rfl d_Whole_against_67 ?_
              refine g_iald hC hW.2 (by omega) (by omega) (by omega) d_Whole_against_68 ?_
              refine g_aload_n hC rfl d_Whole_against_69 ?_
              refine g_get hC fb_Whole_9 hO.1 rfl d_Whole_against_70 ?_
              refine g_iload_n hC rfl d_Whole_against_73 ?_
              refine g_iald hC hO.2 (by omega) (by omega) (by omega) d_Whole_against_74 ?_
              refine g_callS2 hC (sp_compare (by unfold I32; omega) (by unfold I32; omega)) oc_Int_compare os_Int_compare ml_Whole_27 hR (by decide) (by decide) (by decide) (by decide) (by decide) d_Whole_against_75 (fun r M hp => ?_)
              obtain ⟨rfl, rfl⟩ := hp
              refine g_sv ?_
              refine g_iret hC hQ (by decide) (by decide) d_Whole_against_78 ⟨?_, rfl⟩
              have h1 := hrep.2.2
              have h2 := hrep2.2.2
              rcases Int.lt_or_lt_of_ne c with h | h
              · have := vl_top (j := j) hrep.1 hrep2.1 (by omega) (fun k a b => he k (by omega) b) h
                rw [cz_lt h, cz_lt (by omega)]
              · have := vl_top (j := j) hrep2.1 hrep.1 (by omega) (fun k a b => (he k (by omega) b).symm) h
                rw [cz_gt h, cz_gt (by omega)]
            · omega
          · refine g_inc2 hC d_Whole_against_49 rfl (hN 2 rfl) ?_
            refine g_goto hC d_Whole_against_52 ?_
            rw [show (j : Int) + -1 = (j : Int) - 1 by omega]
            refine ih (by omega) (fun k a b => ?_)
            by_cases e2 : k = j
            · subst e2; exact c
            · exact he k (by omega) b
    refine g_aload_n hC rfl d_Whole_against_23 ?_
    refine g_get hC fb_Whole_15 hW.1 rfl d_Whole_against_24 ?_
    refine g_iconst hC d_Whole_against_27 ?_
    refine g_isub hC d_Whole_against_28 ?_
    first | refine g_ist2 hC d_Whole_against_29 rfl (hN 2 rfl) ?_ | (refine g_fg1 ?_; refine g_ist2 hC d_Whole_against_29 rfl (hN 2 rfl) ?_)
    exact key m (Nat.le_refl m) (fun k a b => by omega)
  · refine g_aload_n hC rfl d_Whole_against_11 ?_
    refine g_get hC fb_Whole_15 hW.1 rfl d_Whole_against_12 ?_
    refine g_aload_n hC rfl d_Whole_against_15 ?_
    refine g_get hC fb_Whole_15 hO.1 rfl d_Whole_against_16 ?_
    refine g_callS2 hC (sp_compare (by unfold I32; omega) (by unfold I32; omega)) oc_Int_compare os_Int_compare ml_Whole_27 hR (by decide) (by decide) (by decide) (by decide) (by decide) d_Whole_against_19 (fun r M hp => ?_)
    obtain ⟨rfl, rfl⟩ := hp
    refine g_sv ?_
    refine g_iret hC hQ (by decide) (by decide) d_Whole_against_22 ⟨?_, rfl⟩
    rcases Int.lt_or_lt_of_ne c with h | h
    · have := rep_sz_lt hrep hrep2 (by omega)
      rw [cz_lt h, cz_lt (by omega)]
    · have := rep_sz_lt hrep2 hrep (by omega)
      rw [cz_gt h, cz_gt (by omega)]
