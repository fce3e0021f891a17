/-! Whole: take, times, cut -/
theorem stp_sub {S T U b b' x a y P : Int} (h : S + T = U + b * P) (hx : x = a - b - y + b' * 1000000000) : (S + x * P) + (T + y * P) = (U + a * P) + b' * (1000000000 * P) := by
  have e : (x + y) * P = (a - b + b' * 1000000000) * P := by rw [hx]; congr 1; omega
  rw [Int.add_mul, Int.add_mul, Int.sub_mul, Int.mul_assoc] at e
  omega
theorem rep_sz_le {f g : Int → Int} {m n v w : Nat} (hf : rep f n v) (hg : rep g m w) (h : w ≤ v) : m ≤ n := by
  rcases Nat.lt_or_ge n m with q | q
  · have := rep_sz_lt hf hg q; omega
  · exact q
theorem d_Whole_take_0 : dn m_Whole_take.2.1 0 (.iconst 0) 1 1 := ⟨by decide +kernel, rfl⟩
theorem d_Whole_take_1 : dn m_Whole_take.2.1 1 (.istore_n 2) 1 2 := ⟨by decide +kernel, rfl⟩
theorem d_Whole_take_2 : dn m_Whole_take.2.1 2 (.iconst 0) 1 3 := ⟨by decide +kernel, rfl⟩
theorem d_Whole_take_3 : dn m_Whole_take.2.1 3 (.istore_n 3) 1 4 := ⟨by decide +kernel, rfl⟩
theorem d_Whole_take_4 : dn m_Whole_take.2.1 4 (.iload_n 3) 1 5 := ⟨by decide +kernel, rfl⟩
theorem d_Whole_take_5 : dn m_Whole_take.2.1 5 (.aload_n 0) 1 6 := ⟨by decide +kernel, rfl⟩
theorem d_Whole_take_6 : dn m_Whole_take.2.1 6 (.getfield 15) 3 9 := ⟨by decide +kernel, rfl⟩
theorem d_Whole_take_9 : db m_Whole_take.2.1 9 (.if_icmp .ge) 71 12 := ⟨62, by decide +kernel, by decide, rfl⟩
theorem d_Whole_take_12 : dn m_Whole_take.2.1 12 (.aload_n 0) 1 13 := ⟨by decide +kernel, rfl⟩
theorem d_Whole_take_13 : dn m_Whole_take.2.1 13 (.getfield 9) 3 16 := ⟨by decide +kernel, rfl⟩
theorem d_Whole_take_16 : dn m_Whole_take.2.1 16 (.iload_n 3) 1 17 := ⟨by decide +kernel, rfl⟩
theorem d_Whole_take_17 : dn m_Whole_take.2.1 17 (.iaload) 1 18 := ⟨by decide +kernel, rfl⟩
theorem d_Whole_take_18 : dn m_Whole_take.2.1 18 (.iload_n 2) 1 19 := ⟨by decide +kernel, rfl⟩
theorem d_Whole_take_19 : dn m_Whole_take.2.1 19 (.isub) 1 20 := ⟨by decide +kernel, rfl⟩
theorem d_Whole_take_20 : dn m_Whole_take.2.1 20 (.iload_n 3) 1 21 := ⟨by decide +kernel, rfl⟩
theorem d_Whole_take_21 : dn m_Whole_take.2.1 21 (.aload_n 1) 1 22 := ⟨by decide +kernel, rfl⟩
theorem d_Whole_take_22 : dn m_Whole_take.2.1 22 (.getfield 15) 3 25 := ⟨by decide +kernel, rfl⟩
theorem d_Whole_take_25 : db m_Whole_take.2.1 25 (.if_icmp .ge) 37 28 := ⟨12, by decide +kernel, by decide, rfl⟩
theorem d_Whole_take_28 : dn m_Whole_take.2.1 28 (.aload_n 1) 1 29 := ⟨by decide +kernel, rfl⟩
theorem d_Whole_take_29 : dn m_Whole_take.2.1 29 (.getfield 9) 3 32 := ⟨by decide +kernel, rfl⟩
theorem d_Whole_take_32 : dn m_Whole_take.2.1 32 (.iload_n 3) 1 33 := ⟨by decide +kernel, rfl⟩
theorem d_Whole_take_33 : dn m_Whole_take.2.1 33 (.iaload) 1 34 := ⟨by decide +kernel, rfl⟩
theorem d_Whole_take_34 : db m_Whole_take.2.1 34 (.goto) 38 37 := ⟨4, by decide +kernel, by decide, rfl⟩
theorem d_Whole_take_37 : dn m_Whole_take.2.1 37 (.iconst 0) 1 38 := ⟨by decide +kernel, rfl⟩
theorem d_Whole_take_38 : dn m_Whole_take.2.1 38 (.isub) 1 39 := ⟨by decide +kernel, rfl⟩
theorem d_Whole_take_39 : dn m_Whole_take.2.1 39 (.istore 4) 2 41 := ⟨by decide +kernel, rfl⟩
theorem d_Whole_take_41 : dn m_Whole_take.2.1 41 (.iload 4) 2 43 := ⟨by decide +kernel, rfl⟩
theorem d_Whole_take_43 : db m_Whole_take.2.1 43 (.ifCond .ge) 50 46 := ⟨7, by decide +kernel, by decide, rfl⟩
theorem d_Whole_take_46 : dn m_Whole_take.2.1 46 (.iconst 1) 1 47 := ⟨by decide +kernel, rfl⟩
theorem d_Whole_take_47 : db m_Whole_take.2.1 47 (.goto) 51 50 := ⟨4, by decide +kernel, by decide, rfl⟩
theorem d_Whole_take_50 : dn m_Whole_take.2.1 50 (.iconst 0) 1 51 := ⟨by decide +kernel, rfl⟩
theorem d_Whole_take_51 : dn m_Whole_take.2.1 51 (.istore_n 2) 1 52 := ⟨by decide +kernel, rfl⟩
theorem d_Whole_take_52 : dn m_Whole_take.2.1 52 (.aload_n 0) 1 53 := ⟨by decide +kernel, rfl⟩
theorem d_Whole_take_53 : dn m_Whole_take.2.1 53 (.getfield 9) 3 56 := ⟨by decide +kernel, rfl⟩
theorem d_Whole_take_56 : dn m_Whole_take.2.1 56 (.iload_n 3) 1 57 := ⟨by decide +kernel, rfl⟩
theorem d_Whole_take_57 : dn m_Whole_take.2.1 57 (.iload 4) 2 59 := ⟨by decide +kernel, rfl⟩
theorem d_Whole_take_59 : dn m_Whole_take.2.1 59 (.iload_n 2) 1 60 := ⟨by decide +kernel, rfl⟩
theorem d_Whole_take_60 : dn m_Whole_take.2.1 60 (.ldc 38) 2 62 := ⟨by decide +kernel, rfl⟩
theorem d_Whole_take_62 : dn m_Whole_take.2.1 62 (.imul) 1 63 := ⟨by decide +kernel, rfl⟩
theorem d_Whole_take_63 : dn m_Whole_take.2.1 63 (.iadd) 1 64 := ⟨by decide +kernel, rfl⟩
theorem d_Whole_take_64 : dn m_Whole_take.2.1 64 (.iastore) 1 65 := ⟨by decide +kernel, rfl⟩
theorem d_Whole_take_65 : dn m_Whole_take.2.1 65 (.iinc 3 1) 3 68 := ⟨by decide +kernel, rfl⟩
theorem d_Whole_take_68 : db m_Whole_take.2.1 68 (.goto) 4 71 := ⟨(-64), by decide +kernel, by decide, rfl⟩
theorem d_Whole_take_71 : dn m_Whole_take.2.1 71 (.aload_n 0) 1 72 := ⟨by decide +kernel, rfl⟩
theorem d_Whole_take_72 : dn m_Whole_take.2.1 72 (.invokevirtual 39) 3 75 := ⟨by decide +kernel, rfl⟩
theorem d_Whole_take_75 : dn m_Whole_take.2.1 75 (.return_) 1 76 := ⟨by decide +kernel, rfl⟩
theorem sp_Whole_take {l : Launch} {K : KC} {M : AH} {q r cap c2 v w : Nat} (hq : wv K M q cap v) (hr : wv K M r c2 w) (hne : r ≠ q) (hs : w ≤ v) (hcap : cap ≤ 1000) (hc2 : c2 ≤ 1000) :
    Sp l K m_Whole_take 1 0 0 [.ref q, .ref r] M (fun x M' => x = none ∧ wv K M' q cap (v - w) ∧ frW M M' q) := by
  refine Sp.ofG R_Whole rfl (by decide) [some (.ref q), some (.ref r), none, none, none] rfl (Nat.le_of_ble_eq_true rfl) ?_
  intro X hl hK hN hR hC hQ
  subst hl hK
  obtain ⟨n, f, hW0, hn, hrep⟩ := hq
  obtain ⟨m, g, hO0, hm, hrep2⟩ := hr
  have hmn := rep_sz_le hrep hrep2 hs
  have key : ∀ (j k : Nat) (bw : Int) (f' : Int → Int) (M' : AH), j + k = n → (bw = 0 ∨ bw = 1) → isW X.K M' q cap n f' → dg f' k → (∀ i : Int, (k : Int) ≤ i → f' i = f i) → vl f' k + vl (lx g m) k = vl f k + bw * pw k → frW M M' q → G X 0 0 M' 4 [some (.ref q), some (.ref r), some (iv bw), some (iv k), none] [] := by
    intro j
    induction j with
    | zero =>
      intro k bw f' M' hj hbw hW hd hfe hv hf
      have hkn : k = n := by omega
      subst hkn
      refine g_iload_n hC rfl d_Whole_take_4 ?_
      refine g_aload_n hC rfl d_Whole_take_5 ?_
      refine g_get hC fb_Whole_15 hW.1 rfl d_Whole_take_6 ?_
      refine g_icmp_ge hC (by unfold I32; omega) (by unfold I32; omega) d_Whole_take_9 (fun c => ?_) (fun c => ?_)
      · rw [vl_lx hmn, hrep.2.2, hrep2.2.2] at hv
        have h1 := vl_lt hd
        have hb0 : bw = 0 := by
          rcases hbw with h | h
          · exact h
          · rw [h] at hv; omega
        rw [hb0] at hv
        refine g_aload_n hC rfl d_Whole_take_71 ?_
        refine g_callV0 hC (sp_Whole_trim hW hn hcap hd) oc_Whole_trim ov_Whole_trim ml_Whole_39 hW.1 rfl hR (by decide) (by decide) (by decide) (by decide) (by decide) d_Whole_take_72 (fun r M hp => ?_)
        obtain ⟨rfl, n', h2, h3, h4, h5, h6⟩ := hp
        refine g_s0 ?_
        refine g_vret hC hQ (by decide) (by decide) d_Whole_take_75 ⟨rfl, ⟨n', f', h3, by omega, dg_le hd h2, h4, by rw [h5]; omega⟩, hf.trans h6⟩
      · omega
    | succ j ih =>
      intro k bw f' M' hj hbw hW hd hfe hv hf
      have hO := hO0.oth hW0 hf hne
      have hb1 := hrep.1 k (by omega)
      have hb2 := lx_dg hrep2.1 k
      have J3 : ∀ b' : Int, (b' = 0 ∧ 0 ≤ f k - bw - lx g m k) ∨ (b' = 1 ∧ f k - bw - lx g m k < 0) → G X 0 0 M' 51 [some (.ref q), some (.ref r), some (iv bw), some (iv k), some (iv (f k - bw - lx g m k))] [iv b'] := by
        intro b' hb'
        first | refine g_ist2 hC d_Whole_take_51 rfl (hN 2 rfl) ?_ | (refine g_fg1 ?_; refine g_ist2 hC d_Whole_take_51 rfl (hN 2 rfl) ?_)
        refine g_aload_n hC rfl d_Whole_take_52 ?_
        refine g_get hC fb_Whole_9 hW.1 rfl d_Whole_take_53 ?_
        refine g_iload_n hC rfl d_Whole_take_56 ?_
        refine g_iload hC rfl d_Whole_take_57 ?_
        refine g_iload_n hC rfl d_Whole_take_59 ?_
        refine g_ldc (z := 1000000000) hC cn_Whole_38 (by decide) d_Whole_take_60 ?_
        refine g_imul hC d_Whole_take_62 ?_
        refine g_iadd hC d_Whole_take_63 ?_
        refine g_iast hC hW.2 (by omega) (by omega) (by omega) d_Whole_take_64 ?_
        refine g_inc3 hC d_Whole_take_65 rfl (hN 3 rfl) ?_
        refine g_goto hC d_Whole_take_68 ?_
        rw [show (k : Int) + 1 = ((k + 1 : Nat) : Int) by omega]
        refine g_fg4 ?_
        refine ih (k + 1) b' _ _ (by omega) (by omega) hW.st (dg_up hd (by omega) (by omega)) (fun i hi => ?_) ?_ hf.a
        · rw [up_n (by omega)]
          exact hfe i (by omega)
        · rw [vl_ups, pw_s, vl_s, vl_s]
          exact stp_sub hv rfl
      have J2 : G X 0 0 M' 39 [some (.ref q), some (.ref r), some (iv bw), some (iv k), none] [iv (f k - bw - lx g m k)] := by
        first | refine g_ist4 hC d_Whole_take_39 rfl (hN 4 rfl) ?_ | (refine g_fg3 ?_; refine g_ist4 hC d_Whole_take_39 rfl (hN 4 rfl) ?_)
        refine g_iload hC rfl d_Whole_take_41 ?_
        refine g_if_ge hC (by unfold I32; omega) d_Whole_take_43 (fun c => ?_) (fun c => ?_)
        · refine g_iconst hC d_Whole_take_50 ?_
          exact J3 0 (Or.inl ⟨rfl, c⟩)
        · refine g_iconst hC d_Whole_take_46 ?_
          refine g_goto hC d_Whole_take_47 ?_
          exact J3 1 (Or.inr ⟨rfl, by omega⟩)
      refine g_iload_n hC rfl d_Whole_take_4 ?_
      refine g_aload_n hC rfl d_Whole_take_5 ?_
      refine g_get hC fb_Whole_15 hW.1 rfl d_Whole_take_6 ?_
      refine g_icmp_ge hC (by unfold I32; omega) (by unfold I32; omega) d_Whole_take_9 (fun c => ?_) (fun c => ?_)
      · omega
      · refine g_aload_n hC rfl d_Whole_take_12 ?_
        refine g_get hC fb_Whole_9 hW.1 rfl d_Whole_take_13 ?_
        refine g_iload_n hC rfl d_Whole_take_16 ?_
        refine g_iald hC hW.2 (by omega) (by omega) (by omega) d_Whole_take_17 ?_
        refine g_iload_n hC rfl d_Whole_take_18 ?_
        refine g_isub hC d_Whole_take_19 ?_
        refine g_iload_n hC rfl d_Whole_take_20 ?_
        refine g_aload_n hC rfl d_Whole_take_21 ?_
        refine g_get hC fb_Whole_15 hO.1 rfl d_Whole_take_22 ?_
        rw [hfe k (Int.le_refl _)]
        refine g_icmp_ge hC (by unfold I32; omega) (by unfold I32; omega) d_Whole_take_25 (fun c2 => ?_) (fun c2 => ?_)
        · rw [lx_out (by omega : ¬ (k : Int) < m)] at J2
          refine g_iconst hC d_Whole_take_37 ?_
          refine g_isub hC d_Whole_take_38 ?_
          exact J2
        · rw [lx_in (by omega : (k : Int) < m)] at J2
          refine g_aload_n hC rfl d_Whole_take_28 ?_
          refine g_get hC fb_Whole_9 hO.1 rfl d_Whole_take_29 ?_
          refine g_iload_n hC rfl d_Whole_take_32 ?_
          refine g_iald hC hO.2 (by omega) (by omega) (by omega) d_Whole_take_33 ?_
          refine g_goto hC d_Whole_take_34 ?_
          refine g_isub hC d_Whole_take_38 ?_
          exact J2
  refine g_iconst hC d_Whole_take_0 ?_
  first | refine g_ist2 hC d_Whole_take_1 rfl (hN 2 rfl) ?_ | (refine g_fg1 ?_; refine g_ist2 hC d_Whole_take_1 rfl (hN 2 rfl) ?_)
  refine g_iconst hC d_Whole_take_2 ?_
  first | refine g_ist3 hC d_Whole_take_3 rfl (hN 3 rfl) ?_ | (refine g_fg2 ?_; refine g_ist3 hC d_Whole_take_3 rfl (hN 3 rfl) ?_)
  exact key n 0 0 f M (by omega) (Or.inl rfl) hW0 (fun i hi => by omega) (fun i _ => rfl) (by simp only [vl_0]; omega) frW.rf
theorem d_Whole_times_0 : dn m_Whole_times.2.1 0 (.lconst 0) 1 1 := ⟨by decide +kernel, rfl⟩
theorem d_Whole_times_1 : dn m_Whole_times.2.1 1 (.lstore_n 2) 1 2 := ⟨by decide +kernel, rfl⟩
theorem d_Whole_times_2 : dn m_Whole_times.2.1 2 (.iconst 0) 1 3 := ⟨by decide +kernel, rfl⟩
theorem d_Whole_times_3 : dn m_Whole_times.2.1 3 (.istore 4) 2 5 := ⟨by decide +kernel, rfl⟩
theorem d_Whole_times_5 : dn m_Whole_times.2.1 5 (.iload 4) 2 7 := ⟨by decide +kernel, rfl⟩
theorem d_Whole_times_7 : dn m_Whole_times.2.1 7 (.aload_n 0) 1 8 := ⟨by decide +kernel, rfl⟩
theorem d_Whole_times_8 : dn m_Whole_times.2.1 8 (.getfield 15) 3 11 := ⟨by decide +kernel, rfl⟩
theorem d_Whole_times_11 : db m_Whole_times.2.1 11 (.if_icmp .ge) 53 14 := ⟨42, by decide +kernel, by decide, rfl⟩
theorem d_Whole_times_14 : dn m_Whole_times.2.1 14 (.lload_n 2) 1 15 := ⟨by decide +kernel, rfl⟩
theorem d_Whole_times_15 : dn m_Whole_times.2.1 15 (.aload_n 0) 1 16 := ⟨by decide +kernel, rfl⟩
theorem d_Whole_times_16 : dn m_Whole_times.2.1 16 (.getfield 9) 3 19 := ⟨by decide +kernel, rfl⟩
theorem d_Whole_times_19 : dn m_Whole_times.2.1 19 (.iload 4) 2 21 := ⟨by decide +kernel, rfl⟩
theorem d_Whole_times_21 : dn m_Whole_times.2.1 21 (.iaload) 1 22 := ⟨by decide +kernel, rfl⟩
theorem d_Whole_times_22 : dn m_Whole_times.2.1 22 (.i2l) 1 23 := ⟨by decide +kernel, rfl⟩
theorem d_Whole_times_23 : dn m_Whole_times.2.1 23 (.iload_n 1) 1 24 := ⟨by decide +kernel, rfl⟩
theorem d_Whole_times_24 : dn m_Whole_times.2.1 24 (.i2l) 1 25 := ⟨by decide +kernel, rfl⟩
theorem d_Whole_times_25 : dn m_Whole_times.2.1 25 (.lmul) 1 26 := ⟨by decide +kernel, rfl⟩
theorem d_Whole_times_26 : dn m_Whole_times.2.1 26 (.ladd) 1 27 := ⟨by decide +kernel, rfl⟩
theorem d_Whole_times_27 : dn m_Whole_times.2.1 27 (.lstore_n 2) 1 28 := ⟨by decide +kernel, rfl⟩
theorem d_Whole_times_28 : dn m_Whole_times.2.1 28 (.aload_n 0) 1 29 := ⟨by decide +kernel, rfl⟩
theorem d_Whole_times_29 : dn m_Whole_times.2.1 29 (.getfield 9) 3 32 := ⟨by decide +kernel, rfl⟩
theorem d_Whole_times_32 : dn m_Whole_times.2.1 32 (.iload 4) 2 34 := ⟨by decide +kernel, rfl⟩
theorem d_Whole_times_34 : dn m_Whole_times.2.1 34 (.lload_n 2) 1 35 := ⟨by decide +kernel, rfl⟩
theorem d_Whole_times_35 : dn m_Whole_times.2.1 35 (.ldc2_w 19) 3 38 := ⟨by decide +kernel, rfl⟩
theorem d_Whole_times_38 : dn m_Whole_times.2.1 38 (.lrem) 1 39 := ⟨by decide +kernel, rfl⟩
theorem d_Whole_times_39 : dn m_Whole_times.2.1 39 (.l2i) 1 40 := ⟨by decide +kernel, rfl⟩
theorem d_Whole_times_40 : dn m_Whole_times.2.1 40 (.iastore) 1 41 := ⟨by decide +kernel, rfl⟩
theorem d_Whole_times_41 : dn m_Whole_times.2.1 41 (.lload_n 2) 1 42 := ⟨by decide +kernel, rfl⟩
theorem d_Whole_times_42 : dn m_Whole_times.2.1 42 (.ldc2_w 19) 3 45 := ⟨by decide +kernel, rfl⟩
theorem d_Whole_times_45 : dn m_Whole_times.2.1 45 (.ldiv) 1 46 := ⟨by decide +kernel, rfl⟩
theorem d_Whole_times_46 : dn m_Whole_times.2.1 46 (.lstore_n 2) 1 47 := ⟨by decide +kernel, rfl⟩
theorem d_Whole_times_47 : dn m_Whole_times.2.1 47 (.iinc 4 1) 3 50 := ⟨by decide +kernel, rfl⟩
theorem d_Whole_times_50 : db m_Whole_times.2.1 50 (.goto) 5 53 := ⟨(-45), by decide +kernel, by decide, rfl⟩
theorem d_Whole_times_53 : dn m_Whole_times.2.1 53 (.lload_n 2) 1 54 := ⟨by decide +kernel, rfl⟩
theorem d_Whole_times_54 : dn m_Whole_times.2.1 54 (.lconst 0) 1 55 := ⟨by decide +kernel, rfl⟩
theorem d_Whole_times_55 : dn m_Whole_times.2.1 55 (.lcmp) 1 56 := ⟨by decide +kernel, rfl⟩
theorem d_Whole_times_56 : db m_Whole_times.2.1 56 (.ifCond .le) 80 59 := ⟨24, by decide +kernel, by decide, rfl⟩
theorem d_Whole_times_59 : dn m_Whole_times.2.1 59 (.aload_n 0) 1 60 := ⟨by decide +kernel, rfl⟩
theorem d_Whole_times_60 : dn m_Whole_times.2.1 60 (.getfield 9) 3 63 := ⟨by decide +kernel, rfl⟩
theorem d_Whole_times_63 : dn m_Whole_times.2.1 63 (.aload_n 0) 1 64 := ⟨by decide +kernel, rfl⟩
theorem d_Whole_times_64 : dn m_Whole_times.2.1 64 (.getfield 15) 3 67 := ⟨by decide +kernel, rfl⟩
theorem d_Whole_times_67 : dn m_Whole_times.2.1 67 (.lload_n 2) 1 68 := ⟨by decide +kernel, rfl⟩
theorem d_Whole_times_68 : dn m_Whole_times.2.1 68 (.l2i) 1 69 := ⟨by decide +kernel, rfl⟩
theorem d_Whole_times_69 : dn m_Whole_times.2.1 69 (.iastore) 1 70 := ⟨by decide +kernel, rfl⟩
theorem d_Whole_times_70 : dn m_Whole_times.2.1 70 (.aload_n 0) 1 71 := ⟨by decide +kernel, rfl⟩
theorem d_Whole_times_71 : dn m_Whole_times.2.1 71 (.dup) 1 72 := ⟨by decide +kernel, rfl⟩
theorem d_Whole_times_72 : dn m_Whole_times.2.1 72 (.getfield 15) 3 75 := ⟨by decide +kernel, rfl⟩
theorem d_Whole_times_75 : dn m_Whole_times.2.1 75 (.iconst 1) 1 76 := ⟨by decide +kernel, rfl⟩
theorem d_Whole_times_76 : dn m_Whole_times.2.1 76 (.iadd) 1 77 := ⟨by decide +kernel, rfl⟩
theorem d_Whole_times_77 : dn m_Whole_times.2.1 77 (.putfield 15) 3 80 := ⟨by decide +kernel, rfl⟩
theorem d_Whole_times_80 : dn m_Whole_times.2.1 80 (.aload_n 0) 1 81 := ⟨by decide +kernel, rfl⟩
theorem d_Whole_times_81 : dn m_Whole_times.2.1 81 (.invokevirtual 39) 3 84 := ⟨by decide +kernel, rfl⟩
theorem d_Whole_times_84 : dn m_Whole_times.2.1 84 (.return_) 1 85 := ⟨by decide +kernel, rfl⟩
theorem mul_bd {a b A B : Int} (h0 : 0 ≤ a) (h1 : a ≤ A) (h2 : 0 ≤ b) (h3 : b ≤ B) : 0 ≤ a * b ∧ a * b ≤ A * B :=
  ⟨Int.mul_nonneg h0 h2, Int.mul_le_mul h1 h3 h2 (by omega)⟩
theorem sp_Whole_times {l : Launch} {K : KC} {M : AH} {q cap v b : Nat} (hq : wv K M q cap v) (hb : b ≤ 1000000000) (hs : ((v * b : Nat) : Int) < pw cap) (hcap : cap ≤ 1000) :
    Sp l K m_Whole_times 1 0 0 [.ref q, iv b] M (fun x M' => x = none ∧ wv K M' q cap (v * b) ∧ frW M M' q) := by
  refine Sp.ofG R_Whole rfl (by decide) [some (.ref q), some (iv b), none, none, none] rfl (Nat.le_of_ble_eq_true rfl) ?_
  intro X hl hK hN hR hC hQ
  subst hl hK
  obtain ⟨n, f, hW0, hn, hrep⟩ := hq
  have fin : ∀ (n' : Nat) (f' : Int → Int) (M' : AH) (cy : Int) (v4 : Option Value), n' ≤ cap → isW X.K M' q cap n' f' → dg f' n' → vl f' n' = ((v * b : Nat) : Int) → frW M M' q → G X 0 0 M' 80 [some (.ref q), some (iv b), some (jv cy), none, v4] [] := by
    intro n' f' M' cy v4 hn' hW hd hv hf
    refine g_aload_n hC rfl d_Whole_times_80 ?_
    refine g_callV0 hC (sp_Whole_trim hW hn' hcap hd) oc_Whole_trim ov_Whole_trim ml_Whole_39 hW.1 rfl hR (by decide) (by decide) (by decide) (by decide) (by decide) d_Whole_times_81 (fun r M hp => ?_)
    obtain ⟨rfl, n2, h2, h3, h4, h5, h6⟩ := hp
    refine g_s0 ?_
    refine g_vret hC hQ (by decide) (by decide) d_Whole_times_84 ⟨rfl, ⟨n2, f', h3, by omega, dg_le hd h2, h4, by rw [h5]; exact hv⟩, hf.trans h6⟩
  have key : ∀ (j k : Nat) (cy : Int) (f' : Int → Int) (M' : AH), j + k = n → 0 ≤ cy → cy ≤ b → isW X.K M' q cap n f' → dg f' k → (∀ i : Int, (k : Int) ≤ i → f' i = f i) → vl f' k + cy * pw k = (b : Int) * vl f k → frW M M' q → G X 0 0 M' 5 [some (.ref q), some (iv b), some (jv cy), none, some (iv k)] [] := by
    intro j
    induction j with
    | zero =>
      intro k cy f' M' hj hc0 hc1 hW hd hfe hv hf
      have hkn : k = n := by omega
      subst hkn
      rw [hrep.2.2] at hv
      have hvb : (b : Int) * (v : Int) = ((v * b : Nat) : Int) := by rw [Int.natCast_mul, Int.mul_comm]
      rw [hvb] at hv
      refine g_iload hC rfl d_Whole_times_5 ?_
      refine g_aload_n hC rfl d_Whole_times_7 ?_
      refine g_get hC fb_Whole_15 hW.1 rfl d_Whole_times_8 ?_
      refine g_icmp_ge hC (by unfold I32; omega) (by unfold I32; omega) d_Whole_times_11 (fun c => ?_) (fun c => ?_)
      · refine g_lload_n hC rfl d_Whole_times_53 ?_
        refine g_lconst (z := 0) hC (by decide) d_Whole_times_54 ?_
        refine g_lcmp hC (by unfold I64; omega) (by unfold I64; omega) d_Whole_times_55 ?_
        refine g_lif_le hC d_Whole_times_56 (fun c2 => ?_) (fun c2 => ?_)
        · have hcy : cy = 0 := by omega
          subst hcy
          exact fin k f' M' 0 _ hn hW hd (by omega) hf
        · have h1 := vl_nonneg hd
          have hkc : k < cap := by
            have h2 : 1 * pw k ≤ cy * pw k := Int.mul_le_mul_of_nonneg_right (by omega) (Int.le_of_lt (pw_pos k))
            exact pow_lt_of (by omega)
          have hcb : cy < 1000000000 := by
            rcases Int.lt_or_le cy 1000000000 with h | h
            · exact h
            · have hb9 : (b : Int) = 1000000000 := by omega
              have h2 : 1000000000 * pw k ≤ cy * pw k := Int.mul_le_mul_of_nonneg_right h (Int.le_of_lt (pw_pos k))
              have h3 := rep_lt hrep
              rw [hb9] at hvb
              omega
          refine g_aload_n hC rfl d_Whole_times_59 ?_
          refine g_get hC fb_Whole_9 hW.1 rfl d_Whole_times_60 ?_
          refine g_aload_n hC rfl d_Whole_times_63 ?_
          refine g_get hC fb_Whole_15 hW.1 rfl d_Whole_times_64 ?_
          refine g_lload_n hC rfl d_Whole_times_67 ?_
          refine g_l2i hC d_Whole_times_68 ?_
          refine g_iast hC hW.2 (by omega) (by omega) (by omega) d_Whole_times_69 ?_
          replace hf := hf.a (e := oI X.K cap (up f' k cy))
          replace hW := hW.st (f' := up f' k cy)
          refine g_aload_n hC rfl d_Whole_times_70 ?_
          refine g_dup hC rfl d_Whole_times_71 ?_
          refine g_get hC fb_Whole_15 hW.1 rfl d_Whole_times_72 ?_
          refine g_iconst hC d_Whole_times_75 ?_
          refine g_iadd hC d_Whole_times_76 ?_
          refine g_put hC fb_Whole_15 hW.1 rfl rfl (Nat.le_of_ble_eq_true rfl) d_Whole_times_77 ?_
          exact fin (k + 1) _ _ cy _ (by omega) (hW.sz (n' := k + 1)) (dg_up hd hc0 hcb) (by rw [vl_ups]; exact hv) hf.o
      · omega
    | succ j ih =>
      intro k cy f' M' hj hc0 hc1 hW hd hfe hv hf
      have hb1 := hrep.1 k (by omega)
      have hm := mul_bd hb1.1 (show f k ≤ 999999999 by omega) (show (0 : Int) ≤ b by omega) (show (b : Int) ≤ 1000000000 by omega)
      have hm2 : f k * b ≤ 999999999 * b := Int.mul_le_mul_of_nonneg_right (by omega) (by omega)
      refine g_iload hC rfl d_Whole_times_5 ?_
      refine g_aload_n hC rfl d_Whole_times_7 ?_
      refine g_get hC fb_Whole_15 hW.1 rfl d_Whole_times_8 ?_
      refine g_icmp_ge hC (by unfold I32; omega) (by unfold I32; omega) d_Whole_times_11 (fun c => ?_) (fun c => ?_)
      · omega
      · refine g_lload_n hC rfl d_Whole_times_14 ?_
        refine g_aload_n hC rfl d_Whole_times_15 ?_
        refine g_get hC fb_Whole_9 hW.1 rfl d_Whole_times_16 ?_
        refine g_iload hC rfl d_Whole_times_19 ?_
        refine g_iald hC hW.2 (by omega) (by omega) (by omega) d_Whole_times_21 ?_
        rw [hfe k (Int.le_refl _)]
        refine g_i2l hC (by unfold I32; omega) d_Whole_times_22 ?_
        refine g_iload_n hC rfl d_Whole_times_23 ?_
        refine g_i2l hC (by unfold I32; omega) d_Whole_times_24 ?_
        refine g_lmul hC d_Whole_times_25 ?_
        refine g_ladd hC d_Whole_times_26 ?_
        first | refine g_lst2 hC d_Whole_times_27 rfl (hN 3 rfl) ?_ | (refine g_fg1 ?_; refine g_lst2 hC d_Whole_times_27 rfl (hN 3 rfl) ?_)
        refine g_aload_n hC rfl d_Whole_times_28 ?_
        refine g_get hC fb_Whole_9 hW.1 rfl d_Whole_times_29 ?_
        refine g_iload hC rfl d_Whole_times_32 ?_
        refine g_lload_n hC rfl d_Whole_times_34 ?_
        refine g_ldc2 (z := 1000000000) hC cn_Whole_19 (by decide) d_Whole_times_35 ?_
        refine g_lremN hC (by unfold I64; omega) (by unfold I64; omega) (by omega) (by omega) d_Whole_times_38 ?_
        refine g_l2i hC d_Whole_times_39 ?_
        refine g_iast hC hW.2 (by omega) (by omega) (by omega) d_Whole_times_40 ?_
        replace hf := hf.a (e := oI X.K cap (up f' k ((cy + f k * b) % 1000000000)))
        replace hW := hW.st (f' := up f' k ((cy + f k * b) % 1000000000))
        refine g_lload_n hC rfl d_Whole_times_41 ?_
        refine g_ldc2 (z := 1000000000) hC cn_Whole_19 (by decide) d_Whole_times_42 ?_
        refine g_ldivN hC (by unfold I64; omega) (by unfold I64; omega) (by omega) (by omega) d_Whole_times_45 ?_
        first | refine g_lst2 hC d_Whole_times_46 rfl (hN 3 rfl) ?_ | (refine g_fg1 ?_; refine g_lst2 hC d_Whole_times_46 rfl (hN 3 rfl) ?_)
        refine g_inc4 hC d_Whole_times_47 rfl (hN 4 rfl) ?_
        refine g_goto hC d_Whole_times_50 ?_
        rw [show (k : Int) + 1 = ((k + 1 : Nat) : Int) by omega]
        refine ih (k + 1) _ _ _ (by omega) (by omega) (by omega) hW (dg_up hd (by omega) (by omega)) (fun i hi => ?_) ?_ hf
        · rw [up_n (by omega)]
          exact hfe i (by omega)
        · rw [vl_ups, pw_s, vl_s, stp_div, Int.mul_add, ← hv, Int.add_mul, ← Int.add_assoc]
          congr 1
          rw [Int.mul_comm (f k) b, Int.mul_assoc]
  refine g_lconst (z := 0) hC (by decide) d_Whole_times_0 ?_
  first | refine g_lst2 hC d_Whole_times_1 rfl (hN 3 rfl) ?_ | (refine g_fg1 ?_; refine g_lst2 hC d_Whole_times_1 rfl (hN 3 rfl) ?_)
  refine g_iconst hC d_Whole_times_2 ?_
  first | refine g_ist4 hC d_Whole_times_3 rfl (hN 4 rfl) ?_ | (refine g_fg3 ?_; refine g_ist4 hC d_Whole_times_3 rfl (hN 4 rfl) ?_)
  exact key n 0 0 f M (by omega) (Int.le_refl 0) (by omega) hW0 (fun i hi => by omega) (fun i _ => rfl) (by simp only [vl_0]; omega) frW.rf
def sh (f : Int → Int) (a : Nat) : Int → Int := fun k => f ((a : Int) + k)
theorem vl_sh (f : Int → Int) (a b : Nat) : vl f (a + b) = vl f a + vl (sh f a) b * pw a := vl_add f a b
theorem pw_1 : pw 1 = 1000000000 := by decide
theorem vl_cons (f : Int → Int) (j n : Nat) : vl (sh f j) (n + 1) = f j + 1000000000 * vl (sh f (j + 1)) n := by
  have := vl_add (sh f j) 1 n
  rw [Nat.add_comm 1 n] at this
  rw [this, pw_1, Int.mul_comm, vl_s, vl_0, pw_0]
  have e : (fun k : Int => sh f j (((1 : Nat) : Int) + k)) = sh f (j + 1) := by
    funext k
    show f _ = f _
    congr 1
    omega
  rw [e]
  show 0 + f ((j : Int) + ((0 : Nat) : Int)) * 1 + _ = _
  rw [show (j : Int) + ((0 : Nat) : Int) = (j : Int) by omega]
  omega
theorem d_Whole_cut_0 : dn m_Whole_cut.2.1 0 (.lconst 0) 1 1 := ⟨by decide +kernel, rfl⟩
theorem d_Whole_cut_1 : dn m_Whole_cut.2.1 1 (.lstore_n 2) 1 2 := ⟨by decide +kernel, rfl⟩
theorem d_Whole_cut_2 : dn m_Whole_cut.2.1 2 (.aload_n 0) 1 3 := ⟨by decide +kernel, rfl⟩
theorem d_Whole_cut_3 : dn m_Whole_cut.2.1 3 (.getfield 15) 3 6 := ⟨by decide +kernel, rfl⟩
theorem d_Whole_cut_6 : dn m_Whole_cut.2.1 6 (.iconst 1) 1 7 := ⟨by decide +kernel, rfl⟩
theorem d_Whole_cut_7 : dn m_Whole_cut.2.1 7 (.isub) 1 8 := ⟨by decide +kernel, rfl⟩
theorem d_Whole_cut_8 : dn m_Whole_cut.2.1 8 (.istore 4) 2 10 := ⟨by decide +kernel, rfl⟩
theorem d_Whole_cut_10 : dn m_Whole_cut.2.1 10 (.iload 4) 2 12 := ⟨by decide +kernel, rfl⟩
theorem d_Whole_cut_12 : db m_Whole_cut.2.1 12 (.ifCond .lt) 53 15 := ⟨41, by decide +kernel, by decide, rfl⟩
theorem d_Whole_cut_15 : dn m_Whole_cut.2.1 15 (.lload_n 2) 1 16 := ⟨by decide +kernel, rfl⟩
theorem d_Whole_cut_16 : dn m_Whole_cut.2.1 16 (.ldc2_w 19) 3 19 := ⟨by decide +kernel, rfl⟩
theorem d_Whole_cut_19 : dn m_Whole_cut.2.1 19 (.lmul) 1 20 := ⟨by decide +kernel, rfl⟩
theorem d_Whole_cut_20 : dn m_Whole_cut.2.1 20 (.aload_n 0) 1 21 := ⟨by decide +kernel, rfl⟩
theorem d_Whole_cut_21 : dn m_Whole_cut.2.1 21 (.getfield 9) 3 24 := ⟨by decide +kernel, rfl⟩
theorem d_Whole_cut_24 : dn m_Whole_cut.2.1 24 (.iload 4) 2 26 := ⟨by decide +kernel, rfl⟩
theorem d_Whole_cut_26 : dn m_Whole_cut.2.1 26 (.iaload) 1 27 := ⟨by decide +kernel, rfl⟩
theorem d_Whole_cut_27 : dn m_Whole_cut.2.1 27 (.i2l) 1 28 := ⟨by decide +kernel, rfl⟩
theorem d_Whole_cut_28 : dn m_Whole_cut.2.1 28 (.ladd) 1 29 := ⟨by decide +kernel, rfl⟩
theorem d_Whole_cut_29 : dn m_Whole_cut.2.1 29 (.lstore_n 2) 1 30 := ⟨by decide +kernel, rfl⟩
theorem d_Whole_cut_30 : dn m_Whole_cut.2.1 30 (.aload_n 0) 1 31 := ⟨by decide +kernel, rfl⟩
theorem d_Whole_cut_31 : dn m_Whole_cut.2.1 31 (.getfield 9) 3 34 := ⟨by decide +kernel, rfl⟩
theorem d_Whole_cut_34 : dn m_Whole_cut.2.1 34 (.iload 4) 2 36 := ⟨by decide +kernel, rfl⟩
theorem d_Whole_cut_36 : dn m_Whole_cut.2.1 36 (.lload_n 2) 1 37 := ⟨by decide +kernel, rfl⟩
theorem d_Whole_cut_37 : dn m_Whole_cut.2.1 37 (.iload_n 1) 1 38 := ⟨by decide +kernel, rfl⟩
theorem d_Whole_cut_38 : dn m_Whole_cut.2.1 38 (.i2l) 1 39 := ⟨by decide +kernel, rfl⟩
theorem d_Whole_cut_39 : dn m_Whole_cut.2.1 39 (.ldiv) 1 40 := ⟨by decide +kernel, rfl⟩
theorem d_Whole_cut_40 : dn m_Whole_cut.2.1 40 (.l2i) 1 41 := ⟨by decide +kernel, rfl⟩
theorem d_Whole_cut_41 : dn m_Whole_cut.2.1 41 (.iastore) 1 42 := ⟨by decide +kernel, rfl⟩
theorem d_Whole_cut_42 : dn m_Whole_cut.2.1 42 (.lload_n 2) 1 43 := ⟨by decide +kernel, rfl⟩
theorem d_Whole_cut_43 : dn m_Whole_cut.2.1 43 (.iload_n 1) 1 44 := ⟨by decide +kernel, rfl⟩
theorem d_Whole_cut_44 : dn m_Whole_cut.2.1 44 (.i2l) 1 45 := ⟨by decide +kernel, rfl⟩
theorem d_Whole_cut_45 : dn m_Whole_cut.2.1 45 (.lrem) 1 46 := ⟨by decide +kernel, rfl⟩
theorem d_Whole_cut_46 : dn m_Whole_cut.2.1 46 (.lstore_n 2) 1 47 := ⟨by decide +kernel, rfl⟩
theorem d_Whole_cut_47 : dn m_Whole_cut.2.1 47 (.iinc 4 (-1)) 3 50 := ⟨by decide +kernel, rfl⟩
theorem d_Whole_cut_50 : db m_Whole_cut.2.1 50 (.goto) 10 53 := ⟨(-40), by decide +kernel, by decide, rfl⟩
theorem d_Whole_cut_53 : dn m_Whole_cut.2.1 53 (.aload_n 0) 1 54 := ⟨by decide +kernel, rfl⟩
theorem d_Whole_cut_54 : dn m_Whole_cut.2.1 54 (.invokevirtual 39) 3 57 := ⟨by decide +kernel, rfl⟩
theorem d_Whole_cut_57 : dn m_Whole_cut.2.1 57 (.lload_n 2) 1 58 := ⟨by decide +kernel, rfl⟩
theorem d_Whole_cut_58 : dn m_Whole_cut.2.1 58 (.l2i) 1 59 := ⟨by decide +kernel, rfl⟩
theorem d_Whole_cut_59 : dn m_Whole_cut.2.1 59 (.ireturn) 1 60 := ⟨by decide +kernel, rfl⟩
theorem sp_Whole_cut {l : Launch} {K : KC} {M : AH} {q cap v b : Nat} (hq : wv K M q cap v) (hb0 : 0 < b) (hb : b ≤ 1000000000) (hcap : cap ≤ 1000) :
    Sp l K m_Whole_cut 1 0 0 [.ref q, iv b] M (fun x M' => x = some (iv (v % b : Nat)) ∧ wv K M' q cap (v / b) ∧ frW M M' q) := by
  refine Sp.ofG R_Whole rfl (by decide) [some (.ref q), some (iv b), none, none, none] rfl (Nat.le_of_ble_eq_true rfl) ?_
  intro X hl hK hN hR hC hQ
  subst hl hK
  obtain ⟨n, f, hW0, hn, hrep⟩ := hq
  have key : ∀ (j : Nat) (rs : Int) (f' : Int → Int) (M' : AH), j ≤ n → 0 ≤ rs → rs < b → isW X.K M' q cap n f' → (∀ i : Int, i < j → f' i = f i) → (∀ i : Nat, j ≤ i → i < n → 0 ≤ f' i ∧ f' i < 1000000000) → vl (sh f j) (n - j) = vl (sh f' j) (n - j) * b + rs → frW M M' q → G X 0 0 M' 10 [some (.ref q), some (iv b), some (jv rs), none, some (iv ((j : Int) - 1))] [] := by
    intro j
    induction j with
    | zero =>
      intro rs f' M' hj h0 h1 hW hfe hd hv hf
      have hd' : dg f' n := fun i hi => hd i (by omega) hi
      have es : ∀ g : Int → Int, vl (sh g 0) (n - 0) = vl g n := fun g => by
        rw [Nat.sub_zero]
        exact vl_congr (fun k hk => by show g _ = _; congr 1; omega)
      rw [es, es, hrep.2.2] at hv
      have hq0 := vl_nonneg hd'
      have hq1 : vl f' n = ((v / b : Nat) : Int) ∧ rs = ((v % b : Nat) : Int) := by
        have e1 : (v : Int) / b = vl f' n ∧ (v : Int) % b = rs := by
          rw [Int.ediv_emod_unique (by omega)]
          exact ⟨by rw [Int.mul_comm]; omega, h0, h1⟩
        rw [Int.natCast_ediv, Int.natCast_emod]
        exact ⟨e1.1.symm, e1.2.symm⟩
      refine g_iload hC rfl d_Whole_cut_10 ?_
      refine g_if_lt hC (by unfold I32; omega) d_Whole_cut_12 (fun c => ?_) (fun c => ?_)
      · refine g_aload_n hC rfl d_Whole_cut_53 ?_
        refine g_callV0 hC (sp_Whole_trim hW hn hcap hd') oc_Whole_trim ov_Whole_trim ml_Whole_39 hW.1 rfl hR (by decide) (by decide) (by decide) (by decide) (by decide) d_Whole_cut_54 (fun r M hp => ?_)
        obtain ⟨rfl, n2, h2, h3, h4, h5, h6⟩ := hp
        refine g_s0 ?_
        rw [hq1.2]
        refine g_lload_n hC rfl d_Whole_cut_57 ?_
        refine g_l2i hC d_Whole_cut_58 ?_
        refine g_iret hC hQ (by decide) (by decide) d_Whole_cut_59 ⟨rfl, ⟨n2, f', h3, by omega, dg_le hd' h2, h4, by rw [h5]; exact hq1.1⟩, hf.trans h6⟩
      · omega
    | succ j ih =>
      intro rs f' M' hj h0 h1 hW hfe hd hv hf
      have e : ((j + 1 : Nat) : Int) - 1 = (j : Int) := by omega
      rw [e]
      have hb1 := hrep.1 j (by omega)
      refine g_iload hC rfl d_Whole_cut_10 ?_
      refine g_if_lt hC (by unfold I32; omega) d_Whole_cut_12 (fun c => ?_) (fun c => ?_)
      · omega
      · have hx1 : rs * 1000000000 + f j ≤ 1000000000 * b - 1 := by
          have h3 : rs * 1000000000 ≤ ((b : Int) - 1) * 1000000000 := Int.mul_le_mul_of_nonneg_right (by omega) (by omega)
          rw [Int.sub_mul] at h3
          omega
        have hq1 : 0 ≤ (rs * 1000000000 + f j) / b := Int.ediv_nonneg (by omega) (by omega)
        have hq2 : (rs * 1000000000 + f j) / b < 1000000000 := Int.ediv_lt_of_lt_mul (by omega) (by omega)
        have hr1 := Int.emod_nonneg (rs * 1000000000 + f j) (show (b : Int) ≠ 0 by omega)
        have hr2 := Int.emod_lt_of_pos (rs * 1000000000 + f j) (show (0 : Int) < b by omega)
        have hdm := Int.mul_ediv_add_emod (rs * 1000000000 + f j) b
        refine g_lload_n hC rfl d_Whole_cut_15 ?_
        refine g_ldc2 (z := 1000000000) hC cn_Whole_19 (by decide) d_Whole_cut_16 ?_
        refine g_lmul hC d_Whole_cut_19 ?_
        refine g_aload_n hC rfl d_Whole_cut_20 ?_
        refine g_get hC fb_Whole_9 hW.1 rfl d_Whole_cut_21 ?_
        refine g_iload hC rfl d_Whole_cut_24 ?_
        refine g_iald hC hW.2 (by omega) (by omega) (by omega) d_Whole_cut_26 ?_
        rw [hfe j (by omega)]
        refine g_i2l hC (by unfold I32; omega) d_Whole_cut_27 ?_
        refine g_ladd hC d_Whole_cut_28 ?_
        first | refine g_lst2 hC d_Whole_cut_29 rfl (hN 3 rfl) ?_ | (refine g_fg1 ?_; refine g_lst2 hC d_Whole_cut_29 rfl (hN 3 rfl) ?_)
        refine g_aload_n hC rfl d_Whole_cut_30 ?_
        refine g_get hC fb_Whole_9 hW.1 rfl d_Whole_cut_31 ?_
        refine g_iload hC rfl d_Whole_cut_34 ?_
        refine g_lload_n hC rfl d_Whole_cut_36 ?_
        refine g_iload_n hC rfl d_Whole_cut_37 ?_
        refine g_i2l hC (by unfold I32; omega) d_Whole_cut_38 ?_
        refine g_ldivN hC (by unfold I64; omega) (by unfold I64; omega) (by omega) (by omega) d_Whole_cut_39 ?_
        refine g_l2i hC d_Whole_cut_40 ?_
        refine g_iast hC hW.2 (by omega) (by omega) (by omega) d_Whole_cut_41 ?_
        replace hf := hf.a (e := oI X.K cap (up f' j ((rs * 1000000000 + f j) / b)))
        replace hW := hW.st (f' := up f' j ((rs * 1000000000 + f j) / b))
        refine g_lload_n hC rfl d_Whole_cut_42 ?_
        refine g_iload_n hC rfl d_Whole_cut_43 ?_
        refine g_i2l hC (by unfold I32; omega) d_Whole_cut_44 ?_
        refine g_lremN hC (by unfold I64; omega) (by unfold I64; omega) (by omega) (by omega) d_Whole_cut_45 ?_
        first | refine g_lst2 hC d_Whole_cut_46 rfl (hN 3 rfl) ?_ | (refine g_fg1 ?_; refine g_lst2 hC d_Whole_cut_46 rfl (hN 3 rfl) ?_)
        refine g_inc4 hC d_Whole_cut_47 rfl (hN 4 rfl) ?_
        refine g_goto hC d_Whole_cut_50 ?_
        rw [show (j : Int) + -1 = (j : Int) - 1 by omega]
        refine ih _ _ _ (by omega) hr1 hr2 hW (fun i hi => ?_) (fun i h5 h6 => ?_) ?_ hf
        · rw [up_n (by omega)]
          exact hfe i (by omega)
        · by_cases e2 : i = j
          · subst e2; rw [up_s]; exact ⟨hq1, hq2⟩
          · rw [up_n (by omega)]; exact hd i (by omega) h6
        · obtain ⟨t, ht⟩ : ∃ t, n - j = t + 1 := ⟨n - j - 1, by omega⟩
          have ht2 : n - (j + 1) = t := by omega
          rw [ht2] at hv
          rw [ht, vl_cons, vl_cons, up_s, hv]
          have e3 : vl (sh (up f' j ((rs * 1000000000 + f j) / b)) (j + 1)) t = vl (sh f' (j + 1)) t := vl_congr (fun k hk => by show up f' j _ _ = f' _; exact up_n (by omega))
          rw [e3]
          generalize vl (sh f' (j + 1)) t = QQ at *
          generalize (rs * 1000000000 + f j) / b = q1 at *
          generalize (rs * 1000000000 + f j) % b = r1 at *
          rw [Int.add_mul, Int.mul_add, Int.mul_assoc, Int.mul_comm q1]
          omega
  refine g_lconst (z := 0) hC (by decide) d_Whole_cut_0 ?_
  first | refine g_lst2 hC d_Whole_cut_1 rfl (hN 3 rfl) ?_ | (refine g_fg1 ?_; refine g_lst2 hC d_Whole_cut_1 rfl (hN 3 rfl) ?_)
  refine g_aload_n hC rfl d_Whole_cut_2 ?_
  refine g_get hC fb_Whole_15 hW0.1 rfl d_Whole_cut_3 ?_
  refine g_iconst hC d_Whole_cut_6 ?_
  refine g_isub hC d_Whole_cut_7 ?_
  first | refine g_ist4 hC d_Whole_cut_8 rfl (hN 4 rfl) ?_ | (refine g_fg3 ?_; refine g_ist4 hC d_Whole_cut_8 rfl (hN 4 rfl) ?_)
  refine key n 0 f M (Nat.le_refl n) (Int.le_refl 0) (by omega) hW0 (fun i _ => rfl) (fun i h5 h6 => by omega) ?_ frW.rf
  simp only [Nat.sub_self, vl_0]
  omega
