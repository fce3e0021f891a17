/-! Whole: isOdd, digits, digit; what they are as functions of the number -/
def nd (x : Nat) : Nat := if h : x = 0 then 0 else nd (x / 10) + 1
termination_by x
decreasing_by exact Nat.div_lt_self (Nat.pos_of_ne_zero h) (by decide)
theorem nd_0 : nd 0 = 0 := by rw [nd]; rfl
theorem nd_s {x : Nat} (h : x ≠ 0) : nd x = nd (x / 10) + 1 := by rw [nd]; rw [dif_neg h]
theorem nd_le : ∀ (k x : Nat), x < 10 ^ k → nd x ≤ k
  | 0, x, h => by rw [show x = 0 by omega, nd_0]; omega
  | k + 1, x, h => by
    by_cases e : x = 0
    · rw [e, nd_0]; omega
    · rw [nd_s e]
      have := nd_le k (x / 10) (by rw [Nat.pow_succ] at h; omega)
      omega
theorem nd_9 {x : Nat} (h : x < 1000000000) : nd x ≤ 9 := nd_le 9 x (by omega)
def tn (x : Int) : Nat → Int
  | 0 => x
  | k + 1 => tn x k / 10
theorem tn_bd {x : Int} (h0 : 0 ≤ x) (h1 : x < 1000000000) : ∀ k, 0 ≤ tn x k ∧ tn x k < 1000000000
  | 0 => ⟨h0, h1⟩
  | k + 1 => by
    have := tn_bd h0 h1 k
    show 0 ≤ tn x k / 10 ∧ tn x k / 10 < 1000000000
    omega
/-- the number of digits, out of the limbs -/
def dgf (n : Nat) (f : Int → Int) : Int := if n = 0 then 1 else 9 * (n : Int) - 9 + (nd (f ((n : Int) - 1)).toNat : Int)
/-- a digit, out of the limbs -/
def dtf (n : Nat) (f : Int → Int) (i : Int) : Int := tn (lx f n (i / 9)) (i % 9).toNat % 10
/-- the number of digits of v; a digit of v -/
noncomputable def dgs (v : Nat) : Int := by
  classical exact if h : ∃ p : Nat × (Int → Int), rep p.2 p.1 v then dgf (Classical.choose h).1 (Classical.choose h).2 else 0
noncomputable def dts (v : Nat) (i : Int) : Int := by
  classical exact if h : ∃ p : Nat × (Int → Int), rep p.2 p.1 v then dtf (Classical.choose h).1 (Classical.choose h).2 i else 0
theorem dgs_of {f : Int → Int} {n v : Nat} (h : rep f n v) : dgs v = dgf n f := by
  have hx : ∃ p : Nat × (Int → Int), rep p.2 p.1 v := ⟨(n, f), h⟩
  unfold dgs
  rw [dif_pos hx]
  obtain ⟨e1, e2⟩ := rep_inj (Classical.choose_spec hx) h
  unfold dgf
  rw [e1]
  by_cases e : n = 0
  · rw [if_pos e, if_pos e]
  · rw [if_neg e, if_neg e]
    have := e2 (n - 1) (by omega)
    rw [show ((n - 1 : Nat) : Int) = (n : Int) - 1 by omega] at this
    rw [this]
theorem dts_of {f : Int → Int} {n v : Nat} {i : Int} (hi : 0 ≤ i) (h : rep f n v) : dts v i = dtf n f i := by
  have hx : ∃ p : Nat × (Int → Int), rep p.2 p.1 v := ⟨(n, f), h⟩
  unfold dts
  rw [dif_pos hx]
  obtain ⟨e1, e2⟩ := rep_inj (Classical.choose_spec hx) h
  unfold dtf
  rw [e1]
  have : lx (Classical.choose hx).2 n (i / 9) = lx f n (i / 9) := by
    by_cases e : i / 9 < (n : Int)
    · rw [lx_in e, lx_in e]
      have := e2 (i / 9).toNat (by omega)
      rw [show (((i / 9).toNat : Nat) : Int) = i / 9 by omega] at this
      exact this
    · rw [lx_out e, lx_out e]
  rw [this]
theorem dgf_bd {f : Int → Int} {n v : Nat} (h : rep f n v) : 1 ≤ dgf n f ∧ dgf n f ≤ 9 * (n : Int) + 1 := by
  unfold dgf
  by_cases e : n = 0
  · rw [if_pos e]; omega
  · rw [if_neg e]
    obtain ⟨k, rfl⟩ : ∃ k, n = k + 1 := ⟨n - 1, by omega⟩
    have hd := h.1 k (by omega)
    have ht := h.2.1 k rfl
    rw [show ((k + 1 : Nat) : Int) - 1 = (k : Int) by omega]
    have h1 := nd_9 (x := (f k).toNat) (by omega)
    have h2 := nd_s (x := (f k).toNat) (by omega)
    omega
theorem rep_odd {f : Int → Int} {n v : Nat} (h : rep f (n + 1) v) : (v : Int) % 2 = f 0 % 2 := by
  have e := vl_cons f 0 n
  have es : vl (sh f 0) (n + 1) = vl f (n + 1) := vl_congr (fun x hx => by show f _ = _; congr 1; omega)
  rw [es, h.2.2] at e
  rw [e, show ((0 : Nat) : Int) = 0 from rfl]
  omega
theorem d_Whole_isOdd_0 : dn m_Whole_isOdd.2.1 0 (.aload_n 0) 1 1 := ⟨by decide +kernel, rfl⟩
theorem d_Whole_isOdd_1 : dn m_Whole_isOdd.2.1 1 (.getfield 15) 3 4 := ⟨by decide +kernel, rfl⟩
theorem d_Whole_isOdd_4 : db m_Whole_isOdd.2.1 4 (.ifCond .le) 23 7 := ⟨19, by decide +kernel, by decide, rfl⟩
theorem d_Whole_isOdd_7 : dn m_Whole_isOdd.2.1 7 (.aload_n 0) 1 8 := ⟨by decide +kernel, rfl⟩
theorem d_Whole_isOdd_8 : dn m_Whole_isOdd.2.1 8 (.getfield 9) 3 11 := ⟨by decide +kernel, rfl⟩
theorem d_Whole_isOdd_11 : dn m_Whole_isOdd.2.1 11 (.iconst 0) 1 12 := ⟨by decide +kernel, rfl⟩
theorem d_Whole_isOdd_12 : dn m_Whole_isOdd.2.1 12 (.iaload) 1 13 := ⟨by decide +kernel, rfl⟩
theorem d_Whole_isOdd_13 : dn m_Whole_isOdd.2.1 13 (.iconst 2) 1 14 := ⟨by decide +kernel, rfl⟩
theorem d_Whole_isOdd_14 : dn m_Whole_isOdd.2.1 14 (.irem) 1 15 := ⟨by decide +kernel, rfl⟩
theorem d_Whole_isOdd_15 : dn m_Whole_isOdd.2.1 15 (.iconst 1) 1 16 := ⟨by decide +kernel, rfl⟩
theorem d_Whole_isOdd_16 : db m_Whole_isOdd.2.1 16 (.if_icmp .ne) 23 19 := ⟨7, by decide +kernel, by decide, rfl⟩
theorem d_Whole_isOdd_19 : dn m_Whole_isOdd.2.1 19 (.iconst 1) 1 20 := ⟨by decide +kernel, rfl⟩
theorem d_Whole_isOdd_20 : db m_Whole_isOdd.2.1 20 (.goto) 24 23 := ⟨4, by decide +kernel, by decide, rfl⟩
theorem d_Whole_isOdd_23 : dn m_Whole_isOdd.2.1 23 (.iconst 0) 1 24 := ⟨by decide +kernel, rfl⟩
theorem d_Whole_isOdd_24 : dn m_Whole_isOdd.2.1 24 (.ireturn) 1 25 := ⟨by decide +kernel, rfl⟩
theorem sp_Whole_isOdd {l : Launch} {K : KC} {M : AH} {q cap v : Nat} (hq : wv K M q cap v) (hcap : cap ≤ 1000) :
    Sp l K m_Whole_isOdd 0 0 0 [.ref q] M (fun x M' => x = some (iv (if v % 2 = 1 then 1 else 0)) ∧ M' = M) := by
  refine Sp.ofG R_Whole rfl (by decide) [some (.ref q)] rfl (Nat.le_of_ble_eq_true rfl) ?_
  intro X hl hK hN hR hC hQ
  subst hl hK
  obtain ⟨n, f, hW, hn, hrep⟩ := hq
  have h0 := rep_0 hrep
  refine g_aload_n hC rfl d_Whole_isOdd_0 ?_
  refine g_get hC fb_Whole_15 hW.1 rfl d_Whole_isOdd_1 ?_
  refine g_if_le hC (by unfold I32; omega) d_Whole_isOdd_4 (fun c => ?_) (fun c => ?_)
  · refine g_iconst hC d_Whole_isOdd_23 ?_
    refine g_zret hC hQ (by decide) (by decide) (by omega) d_Whole_isOdd_24 ⟨by rw [if_neg (by omega)], rfl⟩
  · obtain ⟨k, rfl⟩ : ∃ k, n = k + 1 := ⟨n - 1, by omega⟩
    have ho := rep_odd hrep
    have hd := hrep.1 0 (by omega)
    rw [show ((0 : Nat) : Int) = 0 from rfl] at hd
    refine g_aload_n hC rfl d_Whole_isOdd_7 ?_
    refine g_get hC fb_Whole_9 hW.1 rfl d_Whole_isOdd_8 ?_
    refine g_iconst hC d_Whole_isOdd_11 ?_
    refine g_iald hC hW.2 (by omega) (by omega) (by omega) d_Whole_isOdd_12 ?_
    refine g_iconst hC d_Whole_isOdd_13 ?_
    refine g_iremN hC (by unfold I32; omega) (by unfold I32; omega) (by omega) (by omega) d_Whole_isOdd_14 ?_
    refine g_iconst hC d_Whole_isOdd_15 ?_
    refine g_icmp_ne hC (by unfold I32; omega) (by unfold I32; omega) d_Whole_isOdd_16 (fun c2 => ?_) (fun c2 => ?_)
    · refine g_iconst hC d_Whole_isOdd_23 ?_
      refine g_zret hC hQ (by decide) (by decide) (by omega) d_Whole_isOdd_24 ⟨by rw [if_neg (by omega)], rfl⟩
    · refine g_iconst hC d_Whole_isOdd_19 ?_
      refine g_goto hC d_Whole_isOdd_20 ?_
      refine g_zret hC hQ (by decide) (by decide) (by omega) d_Whole_isOdd_24 ⟨by rw [if_pos (by omega)], rfl⟩
theorem d_Whole_digits_0 : dn m_Whole_digits.2.1 0 (.aload_n 0) 1 1 := ⟨by decide +kernel, rfl⟩
theorem d_Whole_digits_1 : dn m_Whole_digits.2.1 1 (.getfield 15) 3 4 := ⟨by decide +kernel, rfl⟩
theorem d_Whole_digits_4 : db m_Whole_digits.2.1 4 (.ifCond .ne) 9 7 := ⟨5, by decide +kernel, by decide, rfl⟩
theorem d_Whole_digits_7 : dn m_Whole_digits.2.1 7 (.iconst 1) 1 8 := ⟨by decide +kernel, rfl⟩
theorem d_Whole_digits_8 : dn m_Whole_digits.2.1 8 (.ireturn) 1 9 := ⟨by decide +kernel, rfl⟩
theorem d_Whole_digits_9 : dn m_Whole_digits.2.1 9 (.bipush 9) 2 11 := ⟨by decide +kernel, rfl⟩
theorem d_Whole_digits_11 : dn m_Whole_digits.2.1 11 (.aload_n 0) 1 12 := ⟨by decide +kernel, rfl⟩
theorem d_Whole_digits_12 : dn m_Whole_digits.2.1 12 (.getfield 15) 3 15 := ⟨by decide +kernel, rfl⟩
theorem d_Whole_digits_15 : dn m_Whole_digits.2.1 15 (.imul) 1 16 := ⟨by decide +kernel, rfl⟩
theorem d_Whole_digits_16 : dn m_Whole_digits.2.1 16 (.bipush 9) 2 18 := ⟨by decide +kernel, rfl⟩
theorem d_Whole_digits_18 : dn m_Whole_digits.2.1 18 (.isub) 1 19 := ⟨by decide +kernel, rfl⟩
theorem d_Whole_digits_19 : dn m_Whole_digits.2.1 19 (.istore_n 1) 1 20 := ⟨by decide +kernel, rfl⟩
theorem d_Whole_digits_20 : dn m_Whole_digits.2.1 20 (.aload_n 0) 1 21 := ⟨by decide +kernel, rfl⟩
theorem d_Whole_digits_21 : dn m_Whole_digits.2.1 21 (.getfield 9) 3 24 := ⟨by decide +kernel, rfl⟩
theorem d_Whole_digits_24 : dn m_Whole_digits.2.1 24 (.aload_n 0) 1 25 := ⟨by decide +kernel, rfl⟩
theorem d_Whole_digits_25 : dn m_Whole_digits.2.1 25 (.getfield 15) 3 28 := ⟨by decide +kernel, rfl⟩
theorem d_Whole_digits_28 : dn m_Whole_digits.2.1 28 (.iconst 1) 1 29 := ⟨by decide +kernel, rfl⟩
theorem d_Whole_digits_29 : dn m_Whole_digits.2.1 29 (.isub) 1 30 := ⟨by decide +kernel, rfl⟩
theorem d_Whole_digits_30 : dn m_Whole_digits.2.1 30 (.iaload) 1 31 := ⟨by decide +kernel, rfl⟩
theorem d_Whole_digits_31 : dn m_Whole_digits.2.1 31 (.istore_n 2) 1 32 := ⟨by decide +kernel, rfl⟩
theorem d_Whole_digits_32 : dn m_Whole_digits.2.1 32 (.iload_n 2) 1 33 := ⟨by decide +kernel, rfl⟩
theorem d_Whole_digits_33 : db m_Whole_digits.2.1 33 (.ifCond .le) 47 36 := ⟨14, by decide +kernel, by decide, rfl⟩
theorem d_Whole_digits_36 : dn m_Whole_digits.2.1 36 (.iinc 1 1) 3 39 := ⟨by decide +kernel, rfl⟩
theorem d_Whole_digits_39 : dn m_Whole_digits.2.1 39 (.iload_n 2) 1 40 := ⟨by decide +kernel, rfl⟩
theorem d_Whole_digits_40 : dn m_Whole_digits.2.1 40 (.bipush 10) 2 42 := ⟨by decide +kernel, rfl⟩
theorem d_Whole_digits_42 : dn m_Whole_digits.2.1 42 (.idiv) 1 43 := ⟨by decide +kernel, rfl⟩
theorem d_Whole_digits_43 : dn m_Whole_digits.2.1 43 (.istore_n 2) 1 44 := ⟨by decide +kernel, rfl⟩
theorem d_Whole_digits_44 : db m_Whole_digits.2.1 44 (.goto) 32 47 := ⟨(-12), by decide +kernel, by decide, rfl⟩
theorem d_Whole_digits_47 : dn m_Whole_digits.2.1 47 (.iload_n 1) 1 48 := ⟨by decide +kernel, rfl⟩
theorem d_Whole_digits_48 : dn m_Whole_digits.2.1 48 (.ireturn) 1 49 := ⟨by decide +kernel, rfl⟩
theorem sp_Whole_digits {l : Launch} {K : KC} {M : AH} {q cap v : Nat} (hq : wv K M q cap v) (hcap : cap ≤ 1000) :
    Sp l K m_Whole_digits 0 0 0 [.ref q] M (fun x M' => x = some (iv (dgs v)) ∧ M' = M) := by
  refine Sp.ofG R_Whole rfl (by decide) [some (.ref q), none, none] rfl (Nat.le_of_ble_eq_true rfl) ?_
  intro X hl hK hN hR hC hQ
  subst hl hK
  obtain ⟨n, f, hW, hn, hrep⟩ := hq
  rw [dgs_of hrep] at hQ
  have hbd := dgf_bd hrep
  refine g_aload_n hC rfl d_Whole_digits_0 ?_
  refine g_get hC fb_Whole_15 hW.1 rfl d_Whole_digits_1 ?_
  refine g_if_ne hC (by unfold I32; omega) d_Whole_digits_4 (fun c => ?_) (fun c => ?_)
  · obtain ⟨k, rfl⟩ : ∃ k, n = k + 1 := ⟨n - 1, by omega⟩
    have hd := hrep.1 k (by omega)
    have hg : dgf (k + 1) f = 9 * ((k + 1 : Nat) : Int) - 9 + (nd (f k).toNat : Int) := by unfold dgf; rw [if_neg (by omega), show ((k + 1 : Nat) : Int) - 1 = (k : Int) by omega]
    have key : ∀ (x : Nat) (a : Int), (x : Int) < 1000000000 → a + (nd x : Int) = dgf (k + 1) f → 0 ≤ a → G X 0 0 M 32 [some (.ref q), some (iv a), some (iv x)] [] := by
      intro x
      induction x using Nat.strongRecOn with
      | ind x ih =>
        intro a hx ha h0
        refine g_iload_n hC rfl d_Whole_digits_32 ?_
        refine g_if_le hC (by unfold I32; omega) d_Whole_digits_33 (fun c => ?_) (fun c => ?_)
        · have e : x = 0 := by omega
          subst e
          rw [nd_0] at ha
          refine g_iload_n hC rfl d_Whole_digits_47 ?_
          refine g_iret hC hQ (by decide) (by decide) d_Whole_digits_48 ⟨by rw [← ha]; congr 2; omega, rfl⟩
        · have e := nd_s (x := x) (by omega)
          refine g_inc1 hC d_Whole_digits_36 rfl (hN 1 rfl) ?_
          refine g_iload_n hC rfl d_Whole_digits_39 ?_
          refine g_bipush hC (by decide) d_Whole_digits_40 ?_
          refine g_idivN hC (by unfold I32; omega) (by unfold I32; omega) (by omega) (by omega) d_Whole_digits_42 ?_
          first | refine g_ist2 hC d_Whole_digits_43 rfl (hN 2 rfl) ?_ | (refine g_fg1 ?_; refine g_ist2 hC d_Whole_digits_43 rfl (hN 2 rfl) ?_)
          refine g_goto hC d_Whole_digits_44 ?_
          rw [show (x : Int) / 10 = ((x / 10 : Nat) : Int) by omega]
          exact ih (x / 10) (by omega) _ (by omega) (by omega) (by omega)
    refine g_bipush hC (by decide) d_Whole_digits_9 ?_
    refine g_aload_n hC rfl d_Whole_digits_11 ?_
    refine g_get hC fb_Whole_15 hW.1 rfl d_Whole_digits_12 ?_
    refine g_imul hC d_Whole_digits_15 ?_
    refine g_bipush hC (by decide) d_Whole_digits_16 ?_
    refine g_isub hC d_Whole_digits_18 ?_
    first | refine g_ist1 hC d_Whole_digits_19 rfl (hN 1 rfl) ?_ | (refine g_fg0 ?_; refine g_ist1 hC d_Whole_digits_19 rfl (hN 1 rfl) ?_)
    refine g_aload_n hC rfl d_Whole_digits_20 ?_
    refine g_get hC fb_Whole_9 hW.1 rfl d_Whole_digits_21 ?_
    refine g_aload_n hC rfl d_Whole_digits_24 ?_
    refine g_get hC fb_Whole_15 hW.1 rfl d_Whole_digits_25 ?_
    refine g_iconst hC d_Whole_digits_28 ?_
    refine g_isub hC d_Whole_digits_29 ?_
    rw [show ((k + 1 : Nat) : Int) - 1 = (k : Int) by omega]
    refine g_iald hC hW.2 (by omega) (by omega) (by omega) d_Whole_digits_30 ?_
    first | refine g_ist2 hC d_Whole_digits_31 rfl (hN 2 rfl) ?_ | (refine g_fg1 ?_; refine g_ist2 hC d_Whole_digits_31 rfl (hN 2 rfl) ?_)
    obtain ⟨x, hx⟩ : ∃ x : Nat, f k = x := ⟨(f k).toNat, by omega⟩
    rw [hx]
    exact key x _ (by omega) (by rw [hg, hx]; simp) (by omega)
  · refine g_iconst hC d_Whole_digits_7 ?_
    refine g_iret hC hQ (by decide) (by decide) d_Whole_digits_8 ⟨by unfold dgf; rw [if_pos (by omega)], rfl⟩
theorem d_Whole_digit_0 : dn m_Whole_digit.2.1 0 (.iload_n 1) 1 1 := ⟨by decide +kernel, rfl⟩
theorem d_Whole_digit_1 : dn m_Whole_digit.2.1 1 (.bipush 9) 2 3 := ⟨by decide +kernel, rfl⟩
theorem d_Whole_digit_3 : dn m_Whole_digit.2.1 3 (.idiv) 1 4 := ⟨by decide +kernel, rfl⟩
theorem d_Whole_digit_4 : dn m_Whole_digit.2.1 4 (.aload_n 0) 1 5 := ⟨by decide +kernel, rfl⟩
theorem d_Whole_digit_5 : dn m_Whole_digit.2.1 5 (.getfield 15) 3 8 := ⟨by decide +kernel, rfl⟩
theorem d_Whole_digit_8 : db m_Whole_digit.2.1 8 (.if_icmp .ge) 23 11 := ⟨15, by decide +kernel, by decide, rfl⟩
theorem d_Whole_digit_11 : dn m_Whole_digit.2.1 11 (.aload_n 0) 1 12 := ⟨by decide +kernel, rfl⟩
theorem d_Whole_digit_12 : dn m_Whole_digit.2.1 12 (.getfield 9) 3 15 := ⟨by decide +kernel, rfl⟩
theorem d_Whole_digit_15 : dn m_Whole_digit.2.1 15 (.iload_n 1) 1 16 := ⟨by decide +kernel, rfl⟩
theorem d_Whole_digit_16 : dn m_Whole_digit.2.1 16 (.bipush 9) 2 18 := ⟨by decide +kernel, rfl⟩
theorem d_Whole_digit_18 : dn m_Whole_digit.2.1 18 (.idiv) 1 19 := ⟨by decide +kernel, rfl⟩
theorem d_Whole_digit_19 : dn m_Whole_digit.2.1 19 (.iaload) 1 20 := ⟨by decide +kernel, rfl⟩
theorem d_Whole_digit_20 : db m_Whole_digit.2.1 20 (.goto) 24 23 := ⟨4, by decide +kernel, by decide, rfl⟩
theorem d_Whole_digit_23 : dn m_Whole_digit.2.1 23 (.iconst 0) 1 24 := ⟨by decide +kernel, rfl⟩
theorem d_Whole_digit_24 : dn m_Whole_digit.2.1 24 (.istore_n 2) 1 25 := ⟨by decide +kernel, rfl⟩
theorem d_Whole_digit_25 : dn m_Whole_digit.2.1 25 (.iconst 0) 1 26 := ⟨by decide +kernel, rfl⟩
theorem d_Whole_digit_26 : dn m_Whole_digit.2.1 26 (.istore_n 3) 1 27 := ⟨by decide +kernel, rfl⟩
theorem d_Whole_digit_27 : dn m_Whole_digit.2.1 27 (.iload_n 3) 1 28 := ⟨by decide +kernel, rfl⟩
theorem d_Whole_digit_28 : dn m_Whole_digit.2.1 28 (.iload_n 1) 1 29 := ⟨by decide +kernel, rfl⟩
theorem d_Whole_digit_29 : dn m_Whole_digit.2.1 29 (.bipush 9) 2 31 := ⟨by decide +kernel, rfl⟩
theorem d_Whole_digit_31 : dn m_Whole_digit.2.1 31 (.irem) 1 32 := ⟨by decide +kernel, rfl⟩
theorem d_Whole_digit_32 : db m_Whole_digit.2.1 32 (.if_icmp .ge) 46 35 := ⟨14, by decide +kernel, by decide, rfl⟩
theorem d_Whole_digit_35 : dn m_Whole_digit.2.1 35 (.iload_n 2) 1 36 := ⟨by decide +kernel, rfl⟩
theorem d_Whole_digit_36 : dn m_Whole_digit.2.1 36 (.bipush 10) 2 38 := ⟨by decide +kernel, rfl⟩
theorem d_Whole_digit_38 : dn m_Whole_digit.2.1 38 (.idiv) 1 39 := ⟨by decide +kernel, rfl⟩
theorem d_Whole_digit_39 : dn m_Whole_digit.2.1 39 (.istore_n 2) 1 40 := ⟨by decide +kernel, rfl⟩
theorem d_Whole_digit_40 : dn m_Whole_digit.2.1 40 (.iinc 3 1) 3 43 := ⟨by decide +kernel, rfl⟩
theorem d_Whole_digit_43 : db m_Whole_digit.2.1 43 (.goto) 27 46 := ⟨(-16), by decide +kernel, by decide, rfl⟩
theorem d_Whole_digit_46 : dn m_Whole_digit.2.1 46 (.iload_n 2) 1 47 := ⟨by decide +kernel, rfl⟩
theorem d_Whole_digit_47 : dn m_Whole_digit.2.1 47 (.bipush 10) 2 49 := ⟨by decide +kernel, rfl⟩
theorem d_Whole_digit_49 : dn m_Whole_digit.2.1 49 (.irem) 1 50 := ⟨by decide +kernel, rfl⟩
theorem d_Whole_digit_50 : dn m_Whole_digit.2.1 50 (.ireturn) 1 51 := ⟨by decide +kernel, rfl⟩
theorem sp_Whole_digit {l : Launch} {K : KC} {M : AH} {q cap v : Nat} {i : Int} (hq : wv K M q cap v) (hcap : cap ≤ 1000) (h0 : 0 ≤ i) (h1 : I32 i) :
    Sp l K m_Whole_digit 0 0 0 [.ref q, iv i] M (fun x M' => x = some (iv (dts v i)) ∧ M' = M) := by
  refine Sp.ofG R_Whole rfl (by decide) [some (.ref q), some (iv i), none, none] rfl (Nat.le_of_ble_eq_true rfl) ?_
  intro X hl hK hN hR hC hQ
  subst hl hK
  obtain ⟨n, f, hW, hn, hrep⟩ := hq
  rw [dts_of h0 hrep] at hQ
  have h2 := h1.2
  have hx : 0 ≤ lx f n (i / 9) ∧ lx f n (i / 9) < 1000000000 := by
    have := lx_dg hrep.1 (i / 9).toNat
    rw [show (((i / 9).toNat : Nat) : Int) = i / 9 by omega] at this
    exact this
  have key : ∀ (j k : Nat), (j : Int) + k = i % 9 → G X 0 0 M 27 [some (.ref q), some (iv i), some (iv (tn (lx f n (i / 9)) k)), some (iv k)] [] := by
    intro j
    induction j with
    | zero =>
      intro k hk
      have hb := tn_bd hx.1 hx.2 k
      refine g_iload_n hC rfl d_Whole_digit_27 ?_
      refine g_iload_n hC rfl d_Whole_digit_28 ?_
      refine g_bipush hC (by decide) d_Whole_digit_29 ?_
      refine g_iremN hC (by unfold I32; omega) (by unfold I32; omega) (by omega) (by omega) d_Whole_digit_31 ?_
      refine g_icmp_ge hC (by unfold I32; omega) (by unfold I32; omega) d_Whole_digit_32 (fun c => ?_) (fun c => ?_)
      · refine g_iload_n hC rfl d_Whole_digit_46 ?_
        refine g_bipush hC (by decide) d_Whole_digit_47 ?_
        refine g_iremN hC (by unfold I32; omega) (by unfold I32; omega) (by omega) (by omega) d_Whole_digit_49 ?_
        refine g_iret hC hQ (by decide) (by decide) d_Whole_digit_50 ⟨by unfold dtf; rw [show (i % 9).toNat = k by omega], rfl⟩
      · omega
    | succ j ih =>
      intro k hk
      have hb := tn_bd hx.1 hx.2 k
      refine g_iload_n hC rfl d_Whole_digit_27 ?_
      refine g_iload_n hC rfl d_Whole_digit_28 ?_
      refine g_bipush hC (by decide) d_Whole_digit_29 ?_
      refine g_iremN hC (by unfold I32; omega) (by unfold I32; omega) (by omega) (by omega) d_Whole_digit_31 ?_
      refine g_icmp_ge hC (by unfold I32; omega) (by unfold I32; omega) d_Whole_digit_32 (fun c => ?_) (fun c => ?_)
      · omega
      · refine g_iload_n hC rfl d_Whole_digit_35 ?_
        refine g_bipush hC (by decide) d_Whole_digit_36 ?_
        refine g_idivN hC (by unfold I32; omega) (by unfold I32; omega) (by omega) (by omega) d_Whole_digit_38 ?_
        first | refine g_ist2 hC d_Whole_digit_39 rfl (hN 2 rfl) ?_ | (refine g_fg1 ?_; refine g_ist2 hC d_Whole_digit_39 rfl (hN 2 rfl) ?_)
        refine g_inc3 hC d_Whole_digit_40 rfl (hN 3 rfl) ?_
        refine g_goto hC d_Whole_digit_43 ?_
        exact ih (k + 1) (by omega)
  have J : G X 0 0 M 24 [some (.ref q), some (iv i), none, none] [iv (lx f n (i / 9))] := by
    first | refine g_ist2 hC d_Whole_digit_24 rfl (hN 2 rfl) ?_ | (refine g_fg1 ?_; refine g_ist2 hC d_Whole_digit_24 rfl (hN 2 rfl) ?_)
    refine g_iconst hC d_Whole_digit_25 ?_
    first | refine g_ist3 hC d_Whole_digit_26 rfl (hN 3 rfl) ?_ | (refine g_fg2 ?_; refine g_ist3 hC d_Whole_digit_26 rfl (hN 3 rfl) ?_)
    exact key (i % 9).toNat 0 (by omega)
  refine g_iload_n hC rfl d_Whole_digit_0 ?_
  refine g_bipush hC (by decide) d_Whole_digit_1 ?_
  refine g_idivN hC (by unfold I32; omega) (by unfold I32; omega) (by omega) (by omega) d_Whole_digit_3 ?_
  refine g_aload_n hC rfl d_Whole_digit_4 ?_
  refine g_get hC fb_Whole_15 hW.1 rfl d_Whole_digit_5 ?_
  refine g_icmp_ge hC (by unfold I32; omega) (by unfold I32; omega) d_Whole_digit_8 (fun c => ?_) (fun c => ?_)
  · rw [lx_out (by omega)] at J
    refine g_iconst hC d_Whole_digit_23 ?_
    exact J
  · rw [lx_in (by omega)] at J
    refine g_aload_n hC rfl d_Whole_digit_11 ?_
    refine g_get hC fb_Whole_9 hW.1 rfl d_Whole_digit_12 ?_
    refine g_iload_n hC rfl d_Whole_digit_15 ?_
    refine g_bipush hC (by decide) d_Whole_digit_16 ?_
    refine g_idivN hC (by unfold I32; omega) (by unfold I32; omega) (by omega) (by omega) d_Whole_digit_18 ?_
    refine g_iald hC hW.2 (by omega) (by omega) (by omega) d_Whole_digit_19 ?_
    refine g_goto hC d_Whole_digit_20 ?_
    exact J
