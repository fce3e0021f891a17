/-! Whole: giveBack, take(often) -/
theorem sh_up {f : Int → Int} {a k : Nat} {x : Int} : sh (up f ((a : Int) + k) x) a = up (sh f a) k x := by
  funext i
  show up f _ x ((a : Int) + i) = _
  unfold up
  by_cases h : i = k
  · rw [if_pos (by omega), if_pos h]
  · rw [if_neg (by omega), if_neg h]; rfl
theorem d_Whole_giveBack_0 : dn m_Whole_giveBack.2.1 0 (.iconst 0) 1 1 := ⟨by decide +kernel, rfl⟩
theorem d_Whole_giveBack_1 : dn m_Whole_giveBack.2.1 1 (.istore_n 3) 1 2 := ⟨by decide +kernel, rfl⟩
theorem d_Whole_giveBack_2 : dn m_Whole_giveBack.2.1 2 (.iconst 0) 1 3 := ⟨by decide +kernel, rfl⟩
theorem d_Whole_giveBack_3 : dn m_Whole_giveBack.2.1 3 (.istore 4) 2 5 := ⟨by decide +kernel, rfl⟩
theorem d_Whole_giveBack_5 : dn m_Whole_giveBack.2.1 5 (.iload 4) 2 7 := ⟨by decide +kernel, rfl⟩
theorem d_Whole_giveBack_7 : dn m_Whole_giveBack.2.1 7 (.aload_n 1) 1 8 := ⟨by decide +kernel, rfl⟩
theorem d_Whole_giveBack_8 : dn m_Whole_giveBack.2.1 8 (.getfield 15) 3 11 := ⟨by decide +kernel, rfl⟩
theorem d_Whole_giveBack_11 : db m_Whole_giveBack.2.1 11 (.if_icmp .ge) 70 14 := ⟨59, by decide +kernel, by decide, rfl⟩
theorem d_Whole_giveBack_14 : dn m_Whole_giveBack.2.1 14 (.aload_n 0) 1 15 := ⟨by decide +kernel, rfl⟩
theorem d_Whole_giveBack_15 : dn m_Whole_giveBack.2.1 15 (.getfield 9) 3 18 := ⟨by decide +kernel, rfl⟩
theorem d_Whole_giveBack_18 : dn m_Whole_giveBack.2.1 18 (.iload_n 2) 1 19 := ⟨by decide +kernel, rfl⟩
theorem d_Whole_giveBack_19 : dn m_Whole_giveBack.2.1 19 (.iload 4) 2 21 := ⟨by decide +kernel, rfl⟩
theorem d_Whole_giveBack_21 : dn m_Whole_giveBack.2.1 21 (.iadd) 1 22 := ⟨by decide +kernel, rfl⟩
theorem d_Whole_giveBack_22 : dn m_Whole_giveBack.2.1 22 (.iaload) 1 23 := ⟨by decide +kernel, rfl⟩
theorem d_Whole_giveBack_23 : dn m_Whole_giveBack.2.1 23 (.aload_n 1) 1 24 := ⟨by decide +kernel, rfl⟩
theorem d_Whole_giveBack_24 : dn m_Whole_giveBack.2.1 24 (.getfield 9) 3 27 := ⟨by decide +kernel, rfl⟩
theorem d_Whole_giveBack_27 : dn m_Whole_giveBack.2.1 27 (.iload 4) 2 29 := ⟨by decide +kernel, rfl⟩
theorem d_Whole_giveBack_29 : dn m_Whole_giveBack.2.1 29 (.iaload) 1 30 := ⟨by decide +kernel, rfl⟩
theorem d_Whole_giveBack_30 : dn m_Whole_giveBack.2.1 30 (.iadd) 1 31 := ⟨by decide +kernel, rfl⟩
theorem d_Whole_giveBack_31 : dn m_Whole_giveBack.2.1 31 (.iload_n 3) 1 32 := ⟨by decide +kernel, rfl⟩
theorem d_Whole_giveBack_32 : dn m_Whole_giveBack.2.1 32 (.iadd) 1 33 := ⟨by decide +kernel, rfl⟩
theorem d_Whole_giveBack_33 : dn m_Whole_giveBack.2.1 33 (.istore 5) 2 35 := ⟨by decide +kernel, rfl⟩
theorem d_Whole_giveBack_35 : dn m_Whole_giveBack.2.1 35 (.iload 5) 2 37 := ⟨by decide +kernel, rfl⟩
theorem d_Whole_giveBack_37 : dn m_Whole_giveBack.2.1 37 (.ldc 38) 2 39 := ⟨by decide +kernel, rfl⟩
theorem d_Whole_giveBack_39 : db m_Whole_giveBack.2.1 39 (.if_icmp .lt) 46 42 := ⟨7, by decide +kernel, by decide, rfl⟩
theorem d_Whole_giveBack_42 : dn m_Whole_giveBack.2.1 42 (.iconst 1) 1 43 := ⟨by decide +kernel, rfl⟩
theorem d_Whole_giveBack_43 : db m_Whole_giveBack.2.1 43 (.goto) 47 46 := ⟨4, by decide +kernel, by decide, rfl⟩
theorem d_Whole_giveBack_46 : dn m_Whole_giveBack.2.1 46 (.iconst 0) 1 47 := ⟨by decide +kernel, rfl⟩
theorem d_Whole_giveBack_47 : dn m_Whole_giveBack.2.1 47 (.istore_n 3) 1 48 := ⟨by decide +kernel, rfl⟩
theorem d_Whole_giveBack_48 : dn m_Whole_giveBack.2.1 48 (.aload_n 0) 1 49 := ⟨by decide +kernel, rfl⟩
theorem d_Whole_giveBack_49 : dn m_Whole_giveBack.2.1 49 (.getfield 9) 3 52 := ⟨by decide +kernel, rfl⟩
theorem d_Whole_giveBack_52 : dn m_Whole_giveBack.2.1 52 (.iload_n 2) 1 53 := ⟨by decide +kernel, rfl⟩
theorem d_Whole_giveBack_53 : dn m_Whole_giveBack.2.1 53 (.iload 4) 2 55 := ⟨by decide +kernel, rfl⟩
theorem d_Whole_giveBack_55 : dn m_Whole_giveBack.2.1 55 (.iadd) 1 56 := ⟨by decide +kernel, rfl⟩
theorem d_Whole_giveBack_56 : dn m_Whole_giveBack.2.1 56 (.iload 5) 2 58 := ⟨by decide +kernel, rfl⟩
theorem d_Whole_giveBack_58 : dn m_Whole_giveBack.2.1 58 (.iload_n 3) 1 59 := ⟨by decide +kernel, rfl⟩
theorem d_Whole_giveBack_59 : dn m_Whole_giveBack.2.1 59 (.ldc 38) 2 61 := ⟨by decide +kernel, rfl⟩
theorem d_Whole_giveBack_61 : dn m_Whole_giveBack.2.1 61 (.imul) 1 62 := ⟨by decide +kernel, rfl⟩
theorem d_Whole_giveBack_62 : dn m_Whole_giveBack.2.1 62 (.isub) 1 63 := ⟨by decide +kernel, rfl⟩
theorem d_Whole_giveBack_63 : dn m_Whole_giveBack.2.1 63 (.iastore) 1 64 := ⟨by decide +kernel, rfl⟩
theorem d_Whole_giveBack_64 : dn m_Whole_giveBack.2.1 64 (.iinc 4 1) 3 67 := ⟨by decide +kernel, rfl⟩
theorem d_Whole_giveBack_67 : db m_Whole_giveBack.2.1 67 (.goto) 5 70 := ⟨(-62), by decide +kernel, by decide, rfl⟩
theorem d_Whole_giveBack_70 : dn m_Whole_giveBack.2.1 70 (.iload_n 3) 1 71 := ⟨by decide +kernel, rfl⟩
theorem d_Whole_giveBack_71 : dn m_Whole_giveBack.2.1 71 (.i2l) 1 72 := ⟨by decide +kernel, rfl⟩
theorem d_Whole_giveBack_72 : dn m_Whole_giveBack.2.1 72 (.lreturn) 1 73 := ⟨by decide +kernel, rfl⟩
theorem sp_Whole_giveBack {l : Launch} {K : KC} {M : AH} {q r cap c2 n m a w : Nat} {f g : Int → Int} (hW0 : isW K M q cap n f) (hO0 : isW K M r c2 m g) (hne : r ≠ q) (hrep : rep g m w) (hdf : dg (sh f a) m) (ha : a + m ≤ cap) (hm : m ≤ c2) (hcap : cap ≤ 1000) (hc2 : c2 ≤ 1000) :
    Sp l K m_Whole_giveBack 0 0 0 [.ref q, .ref r, iv a] M (fun x M' => ∃ (f' : Int → Int) (c : Int), x = some (jv c) ∧ (c = 0 ∨ c = 1) ∧ isW K M' q cap n f' ∧ (∀ i : Int, i < a ∨ (a : Int) + m ≤ i → f' i = f i) ∧ dg (sh f' a) m ∧ vl (sh f' a) m + c * pw m = vl (sh f a) m + w ∧ frW M M' q) := by
  refine Sp.ofG R_Whole rfl (by decide) [some (.ref q), some (.ref r), some (iv a), none, none, none] rfl (Nat.le_of_ble_eq_true rfl) ?_
  intro X hl hK hN hR hC hQ
  subst hl hK
  have key : ∀ (j k : Nat) (cy : Int) (f' : Int → Int) (M' : AH), j + k = m → (cy = 0 ∨ cy = 1) → isW X.K M' q cap n f' → dg (sh f' a) k → (∀ i : Int, i < a ∨ (a : Int) + k ≤ i → f' i = f i) → vl (sh f' a) k + cy * pw k = vl (sh f a) k + vl g k → frW M M' q → G X 0 0 M' 5 [some (.ref q), some (.ref r), some (iv a), some (iv cy), some (iv k), none] [] := by
    intro j
    induction j with
    | zero =>
      intro k cy f' M' hj hcy hW hd hfe hv hf
      have hO := hO0.oth hW0 hf hne
      have e : k = m := by omega
      subst e
      refine g_iload hC rfl d_Whole_giveBack_5 ?_
      refine g_aload_n hC rfl d_Whole_giveBack_7 ?_
      refine g_get hC fb_Whole_15 hO.1 rfl d_Whole_giveBack_8 ?_
      refine g_icmp_ge hC (by unfold I32; omega) (by unfold I32; omega) d_Whole_giveBack_11 (fun c => ?_) (fun c => ?_)
      · refine g_iload_n hC rfl d_Whole_giveBack_70 ?_
        refine g_i2l hC (by unfold I32; omega) d_Whole_giveBack_71 ?_
        refine g_lret hC hQ (by decide) (by decide) d_Whole_giveBack_72 ⟨f', cy, rfl, hcy, hW, hfe, hd, by rw [hv, hrep.2.2], hf⟩
      · omega
    | succ j ih =>
      intro k cy f' M' hj hcy hW hd hfe hv hf
      have hO := hO0.oth hW0 hf hne
      have hb1 := hdf k (by omega)
      have hb2 := hrep.1 k (by omega)
      unfold sh at hb1
      have hfk := hfe ((a : Int) + k) (Or.inr (Int.le_refl _))
      refine g_iload hC rfl d_Whole_giveBack_5 ?_
      refine g_aload_n hC rfl d_Whole_giveBack_7 ?_
      refine g_get hC fb_Whole_15 hO.1 rfl d_Whole_giveBack_8 ?_
      refine g_icmp_ge hC (by unfold I32; omega) (by unfold I32; omega) d_Whole_giveBack_11 (fun c => ?_) (fun c => ?_)
      · omega
      · refine g_aload_n hC rfl d_Whole_giveBack_14 ?_
        refine g_get hC fb_Whole_9 hW.1 rfl d_Whole_giveBack_15 ?_
        refine g_iload_n hC rfl d_Whole_giveBack_18 ?_
        refine g_iload hC rfl d_Whole_giveBack_19 ?_
        refine g_iadd hC d_Whole_giveBack_21 ?_
        refine g_iald hC hW.2 (by omega) (by omega) (by omega) d_Whole_giveBack_22 ?_
        rw [hfk]
        have J : ∀ c' : Int, (c' = 0 ∧ f ((a : Int) + k) + g k + cy < 1000000000) ∨ (c' = 1 ∧ 1000000000 ≤ f ((a : Int) + k) + g k + cy) → G X 0 0 M' 47 [some (.ref q), some (.ref r), some (iv a), some (iv cy), some (iv k), some (iv (f ((a : Int) + k) + g k + cy))] [iv c'] := by
          intro c' hc'
          first | refine g_ist3 hC d_Whole_giveBack_47 rfl (hN 3 rfl) ?_ | (refine g_fg2 ?_; refine g_ist3 hC d_Whole_giveBack_47 rfl (hN 3 rfl) ?_)
          refine g_aload_n hC rfl d_Whole_giveBack_48 ?_
          refine g_get hC fb_Whole_9 hW.1 rfl d_Whole_giveBack_49 ?_
          refine g_iload_n hC rfl d_Whole_giveBack_52 ?_
          refine g_iload hC rfl d_Whole_giveBack_53 ?_
          refine g_iadd hC d_Whole_giveBack_55 ?_
          refine g_iload hC rfl d_Whole_giveBack_56 ?_
          refine g_iload_n hC rfl d_Whole_giveBack_58 ?_
          refine g_ldc (z := 1000000000) hC cn_Whole_38 (by decide) d_Whole_giveBack_59 ?_
          refine g_imul hC d_Whole_giveBack_61 ?_
          refine g_isub hC d_Whole_giveBack_62 ?_
          refine g_iast hC hW.2 (by omega) (by omega) (by omega) d_Whole_giveBack_63 ?_
          refine g_inc4 hC d_Whole_giveBack_64 rfl (hN 4 rfl) ?_
          refine g_goto hC d_Whole_giveBack_67 ?_
          rw [show (k : Int) + 1 = ((k + 1 : Nat) : Int) by omega]
          refine g_fg5 ?_
          refine ih (k + 1) c' _ _ (by omega) (by omega) hW.st ?_ (fun i hi => ?_) ?_ hf.a
          · rw [sh_up]
            exact dg_up hd (by omega) (by omega)
          · rw [up_n (by omega)]
            exact hfe i (by omega)
          · rw [sh_up, vl_ups, pw_s, vl_s, vl_s]
            show _ = (_ + f ((a : Int) + k) * _) + _
            exact stp_add hv (by omega)
        refine g_aload_n hC rfl d_Whole_giveBack_23 ?_
        refine g_get hC fb_Whole_9 hO.1 rfl d_Whole_giveBack_24 ?_
        refine g_iload hC rfl d_Whole_giveBack_27 ?_
        refine g_iald hC hO.2 (by omega) (by omega) (by omega) d_Whole_giveBack_29 ?_
        refine g_iadd hC d_Whole_giveBack_30 ?_
        refine g_iload_n hC rfl d_Whole_giveBack_31 ?_
        refine g_iadd hC d_Whole_giveBack_32 ?_
        first | refine g_ist5 hC d_Whole_giveBack_33 rfl (hN 5 rfl) ?_ | (refine g_fg4 ?_; refine g_ist5 hC d_Whole_giveBack_33 rfl (hN 5 rfl) ?_)
        refine g_iload hC rfl d_Whole_giveBack_35 ?_
        refine g_ldc (z := 1000000000) hC cn_Whole_38 (by decide) d_Whole_giveBack_37 ?_
        refine g_icmp_lt hC (by unfold I32; omega) (by unfold I32; omega) d_Whole_giveBack_39 (fun c2 => ?_) (fun c2 => ?_)
        · refine g_iconst hC d_Whole_giveBack_46 ?_
          exact J 0 (Or.inl ⟨rfl, c2⟩)
        · refine g_iconst hC d_Whole_giveBack_42 ?_
          refine g_goto hC d_Whole_giveBack_43 ?_
          exact J 1 (Or.inr ⟨rfl, by omega⟩)
  refine g_iconst hC d_Whole_giveBack_0 ?_
  first | refine g_ist3 hC d_Whole_giveBack_1 rfl (hN 3 rfl) ?_ | (refine g_fg2 ?_; refine g_ist3 hC d_Whole_giveBack_1 rfl (hN 3 rfl) ?_)
  refine g_iconst hC d_Whole_giveBack_2 ?_
  first | refine g_ist4 hC d_Whole_giveBack_3 rfl (hN 4 rfl) ?_ | (refine g_fg3 ?_; refine g_ist4 hC d_Whole_giveBack_3 rfl (hN 4 rfl) ?_)
  exact key m 0 0 f M (by omega) (Or.inl rfl) hW0 (fun i hi => by omega) (fun i _ => rfl) (by simp only [vl_0]; omega) frW.rf
theorem d_Whole_take3_0 : dn m_Whole_take3.2.1 0 (.lconst 0) 1 1 := ⟨by decide +kernel, rfl⟩
theorem d_Whole_take3_1 : dn m_Whole_take3.2.1 1 (.lstore 5) 2 3 := ⟨by decide +kernel, rfl⟩
theorem d_Whole_take3_3 : dn m_Whole_take3.2.1 3 (.iconst 0) 1 4 := ⟨by decide +kernel, rfl⟩
theorem d_Whole_take3_4 : dn m_Whole_take3.2.1 4 (.istore 7) 2 6 := ⟨by decide +kernel, rfl⟩
theorem d_Whole_take3_6 : dn m_Whole_take3.2.1 6 (.iload 7) 2 8 := ⟨by decide +kernel, rfl⟩
theorem d_Whole_take3_8 : dn m_Whole_take3.2.1 8 (.aload_n 1) 1 9 := ⟨by decide +kernel, rfl⟩
theorem d_Whole_take3_9 : dn m_Whole_take3.2.1 9 (.getfield 15) 3 12 := ⟨by decide +kernel, rfl⟩
theorem d_Whole_take3_12 : db m_Whole_take3.2.1 12 (.if_icmp .ge) 82 15 := ⟨70, by decide +kernel, by decide, rfl⟩
theorem d_Whole_take3_15 : dn m_Whole_take3.2.1 15 (.lload 5) 2 17 := ⟨by decide +kernel, rfl⟩
theorem d_Whole_take3_17 : dn m_Whole_take3.2.1 17 (.aload_n 0) 1 18 := ⟨by decide +kernel, rfl⟩
theorem d_Whole_take3_18 : dn m_Whole_take3.2.1 18 (.getfield 9) 3 21 := ⟨by decide +kernel, rfl⟩
theorem d_Whole_take3_21 : dn m_Whole_take3.2.1 21 (.iload 4) 2 23 := ⟨by decide +kernel, rfl⟩
theorem d_Whole_take3_23 : dn m_Whole_take3.2.1 23 (.iload 7) 2 25 := ⟨by decide +kernel, rfl⟩
theorem d_Whole_take3_25 : dn m_Whole_take3.2.1 25 (.iadd) 1 26 := ⟨by decide +kernel, rfl⟩
theorem d_Whole_take3_26 : dn m_Whole_take3.2.1 26 (.iaload) 1 27 := ⟨by decide +kernel, rfl⟩
theorem d_Whole_take3_27 : dn m_Whole_take3.2.1 27 (.i2l) 1 28 := ⟨by decide +kernel, rfl⟩
theorem d_Whole_take3_28 : dn m_Whole_take3.2.1 28 (.lload_n 2) 1 29 := ⟨by decide +kernel, rfl⟩
theorem d_Whole_take3_29 : dn m_Whole_take3.2.1 29 (.aload_n 1) 1 30 := ⟨by decide +kernel, rfl⟩
theorem d_Whole_take3_30 : dn m_Whole_take3.2.1 30 (.getfield 9) 3 33 := ⟨by decide +kernel, rfl⟩
theorem d_Whole_take3_33 : dn m_Whole_take3.2.1 33 (.iload 7) 2 35 := ⟨by decide +kernel, rfl⟩
theorem d_Whole_take3_35 : dn m_Whole_take3.2.1 35 (.iaload) 1 36 := ⟨by decide +kernel, rfl⟩
theorem d_Whole_take3_36 : dn m_Whole_take3.2.1 36 (.i2l) 1 37 := ⟨by decide +kernel, rfl⟩
theorem d_Whole_take3_37 : dn m_Whole_take3.2.1 37 (.lmul) 1 38 := ⟨by decide +kernel, rfl⟩
theorem d_Whole_take3_38 : dn m_Whole_take3.2.1 38 (.lsub) 1 39 := ⟨by decide +kernel, rfl⟩
theorem d_Whole_take3_39 : dn m_Whole_take3.2.1 39 (.ladd) 1 40 := ⟨by decide +kernel, rfl⟩
theorem d_Whole_take3_40 : dn m_Whole_take3.2.1 40 (.lstore 5) 2 42 := ⟨by decide +kernel, rfl⟩
theorem d_Whole_take3_42 : dn m_Whole_take3.2.1 42 (.lload 5) 2 44 := ⟨by decide +kernel, rfl⟩
theorem d_Whole_take3_44 : dn m_Whole_take3.2.1 44 (.ldc2_w 19) 3 47 := ⟨by decide +kernel, rfl⟩
theorem d_Whole_take3_47 : dn m_Whole_take3.2.1 47 (.invokestatic 72) 3 50 := ⟨by decide +kernel, rfl⟩
theorem d_Whole_take3_50 : dn m_Whole_take3.2.1 50 (.lstore 8) 2 52 := ⟨by decide +kernel, rfl⟩
theorem d_Whole_take3_52 : dn m_Whole_take3.2.1 52 (.aload_n 0) 1 53 := ⟨by decide +kernel, rfl⟩
theorem d_Whole_take3_53 : dn m_Whole_take3.2.1 53 (.getfield 9) 3 56 := ⟨by decide +kernel, rfl⟩
theorem d_Whole_take3_56 : dn m_Whole_take3.2.1 56 (.iload 4) 2 58 := ⟨by decide +kernel, rfl⟩
theorem d_Whole_take3_58 : dn m_Whole_take3.2.1 58 (.iload 7) 2 60 := ⟨by decide +kernel, rfl⟩
theorem d_Whole_take3_60 : dn m_Whole_take3.2.1 60 (.iadd) 1 61 := ⟨by decide +kernel, rfl⟩
theorem d_Whole_take3_61 : dn m_Whole_take3.2.1 61 (.lload 8) 2 63 := ⟨by decide +kernel, rfl⟩
theorem d_Whole_take3_63 : dn m_Whole_take3.2.1 63 (.l2i) 1 64 := ⟨by decide +kernel, rfl⟩
theorem d_Whole_take3_64 : dn m_Whole_take3.2.1 64 (.iastore) 1 65 := ⟨by decide +kernel, rfl⟩
theorem d_Whole_take3_65 : dn m_Whole_take3.2.1 65 (.lload 5) 2 67 := ⟨by decide +kernel, rfl⟩
theorem d_Whole_take3_67 : dn m_Whole_take3.2.1 67 (.lload 8) 2 69 := ⟨by decide +kernel, rfl⟩
theorem d_Whole_take3_69 : dn m_Whole_take3.2.1 69 (.lsub) 1 70 := ⟨by decide +kernel, rfl⟩
theorem d_Whole_take3_70 : dn m_Whole_take3.2.1 70 (.ldc2_w 19) 3 73 := ⟨by decide +kernel, rfl⟩
theorem d_Whole_take3_73 : dn m_Whole_take3.2.1 73 (.ldiv) 1 74 := ⟨by decide +kernel, rfl⟩
theorem d_Whole_take3_74 : dn m_Whole_take3.2.1 74 (.lstore 5) 2 76 := ⟨by decide +kernel, rfl⟩
theorem d_Whole_take3_76 : dn m_Whole_take3.2.1 76 (.iinc 7 1) 3 79 := ⟨by decide +kernel, rfl⟩
theorem d_Whole_take3_79 : db m_Whole_take3.2.1 79 (.goto) 6 82 := ⟨(-73), by decide +kernel, by decide, rfl⟩
theorem d_Whole_take3_82 : dn m_Whole_take3.2.1 82 (.aload_n 0) 1 83 := ⟨by decide +kernel, rfl⟩
theorem d_Whole_take3_83 : dn m_Whole_take3.2.1 83 (.getfield 9) 3 86 := ⟨by decide +kernel, rfl⟩
theorem d_Whole_take3_86 : dn m_Whole_take3.2.1 86 (.iload 4) 2 88 := ⟨by decide +kernel, rfl⟩
theorem d_Whole_take3_88 : dn m_Whole_take3.2.1 88 (.aload_n 1) 1 89 := ⟨by decide +kernel, rfl⟩
theorem d_Whole_take3_89 : dn m_Whole_take3.2.1 89 (.getfield 15) 3 92 := ⟨by decide +kernel, rfl⟩
theorem d_Whole_take3_92 : dn m_Whole_take3.2.1 92 (.iadd) 1 93 := ⟨by decide +kernel, rfl⟩
theorem d_Whole_take3_93 : dn m_Whole_take3.2.1 93 (.iaload) 1 94 := ⟨by decide +kernel, rfl⟩
theorem d_Whole_take3_94 : dn m_Whole_take3.2.1 94 (.i2l) 1 95 := ⟨by decide +kernel, rfl⟩
theorem d_Whole_take3_95 : dn m_Whole_take3.2.1 95 (.lload 5) 2 97 := ⟨by decide +kernel, rfl⟩
theorem d_Whole_take3_97 : dn m_Whole_take3.2.1 97 (.ladd) 1 98 := ⟨by decide +kernel, rfl⟩
theorem d_Whole_take3_98 : dn m_Whole_take3.2.1 98 (.lreturn) 1 99 := ⟨by decide +kernel, rfl⟩
theorem sp_Whole_take3 {l : Launch} {K : KC} {M : AH} {q r cap c2 n m a w : Nat} {f g : Int → Int} {o : Int} (hW0 : isW K M q cap n f) (hO0 : isW K M r c2 m g) (hne : r ≠ q) (hrep : rep g m w) (hdf : dg (sh f a) (m + 1)) (ha : a + m < cap) (hm : m ≤ c2) (ho : 0 ≤ o) (ho2 : o < 1000000000) (hcap : cap ≤ 1000) (hc2 : c2 ≤ 1000) :
    Sp l K m_Whole_take3 1 0 0 [.ref q, .ref r, jv o, iv a] M (fun x M' => ∃ (f' : Int → Int) (c : Int), x = some (jv (f ((a : Int) + m) + c)) ∧ -o ≤ c ∧ c ≤ 0 ∧ isW K M' q cap n f' ∧ (∀ i : Int, i < a ∨ (a : Int) + m ≤ i → f' i = f i) ∧ dg (sh f' a) m ∧ vl (sh f' a) m + c * pw m = vl (sh f a) m - o * w ∧ frW M M' q) := by
  refine Sp.ofG R_Whole rfl (by decide) [some (.ref q), some (.ref r), some (jv o), none, some (iv a), none, none, none, none, none] rfl (Nat.le_of_ble_eq_true rfl) ?_
  intro X hl hK hN hR hC hQ
  subst hl hK
  have key : ∀ (j k : Nat) (cy : Int) (f' : Int → Int) (M' : AH), j + k = m → -o ≤ cy → cy ≤ 0 → isW X.K M' q cap n f' → dg (sh f' a) k → (∀ i : Int, i < a ∨ (a : Int) + k ≤ i → f' i = f i) → vl (sh f' a) k + cy * pw k = vl (sh f a) k - o * vl g k → frW M M' q → G X 0 0 M' 6 [some (.ref q), some (.ref r), some (jv o), none, some (iv a), some (jv cy), none, some (iv k), none, none] [] := by
    intro j
    induction j with
    | zero =>
      intro k cy f' M' hj hc0 hc1 hW hd hfe hv hf
      have hO := hO0.oth hW0 hf hne
      have e : k = m := by omega
      subst e
      have hb1 := hdf k (by omega)
      unfold sh at hb1
      have hfk := hfe ((a : Int) + k) (Or.inr (Int.le_refl _))
      refine g_iload hC rfl d_Whole_take3_6 ?_
      refine g_aload_n hC rfl d_Whole_take3_8 ?_
      refine g_get hC fb_Whole_15 hO.1 rfl d_Whole_take3_9 ?_
      refine g_icmp_ge hC (by unfold I32; omega) (by unfold I32; omega) d_Whole_take3_12 (fun c => ?_) (fun c => ?_)
      · refine g_aload_n hC rfl d_Whole_take3_82 ?_
        refine g_get hC fb_Whole_9 hW.1 rfl d_Whole_take3_83 ?_
        refine g_iload hC rfl d_Whole_take3_86 ?_
        refine g_aload_n hC rfl d_Whole_take3_88 ?_
        refine g_get hC fb_Whole_15 hO.1 rfl d_Whole_take3_89 ?_
        refine g_iadd hC d_Whole_take3_92 ?_
        refine g_iald hC hW.2 (by omega) (by omega) (by omega) d_Whole_take3_93 ?_
        rw [hfk]
        refine g_i2l hC (by unfold I32; omega) d_Whole_take3_94 ?_
        refine g_lload hC rfl d_Whole_take3_95 ?_
        refine g_ladd hC d_Whole_take3_97 ?_
        refine g_lret hC hQ (by decide) (by decide) d_Whole_take3_98 ⟨f', cy, rfl, hc0, hc1, hW, hfe, hd, by rw [hv, hrep.2.2], hf⟩
      · omega
    | succ j ih =>
      intro k cy f' M' hj hc0 hc1 hW hd hfe hv hf
      have hO := hO0.oth hW0 hf hne
      have hb1 := hdf k (by omega)
      have hb2 := hrep.1 k (by omega)
      unfold sh at hb1
      have hfk := hfe ((a : Int) + k) (Or.inr (Int.le_refl _))
      have hm1 := mul_bd ho (show o ≤ 999999999 by omega) hb2.1 (show g k ≤ 999999999 by omega)
      have hm2 : o * g k ≤ o * 999999999 := Int.mul_le_mul_of_nonneg_left (by omega) ho
      refine g_iload hC rfl d_Whole_take3_6 ?_
      refine g_aload_n hC rfl d_Whole_take3_8 ?_
      refine g_get hC fb_Whole_15 hO.1 rfl d_Whole_take3_9 ?_
      refine g_icmp_ge hC (by unfold I32; omega) (by unfold I32; omega) d_Whole_take3_12 (fun c => ?_) (fun c => ?_)
      · omega
      · refine g_lload hC rfl d_Whole_take3_15 ?_
        refine g_aload_n hC rfl d_Whole_take3_17 ?_
        refine g_get hC fb_Whole_9 hW.1 rfl d_Whole_take3_18 ?_
        refine g_iload hC rfl d_Whole_take3_21 ?_
        refine g_iload hC rfl d_Whole_take3_23 ?_
        refine g_iadd hC d_Whole_take3_25 ?_
        refine g_iald hC hW.2 (by omega) (by omega) (by omega) d_Whole_take3_26 ?_
        rw [hfk]
        generalize hx : cy + (f ((a : Int) + k) - o * g k) = x
        have e1 : (x - x % 1000000000).tdiv 1000000000 = x / 1000000000 := by
          have := Int.mul_ediv_add_emod x 1000000000
          rw [show x - x % 1000000000 = 1000000000 * (x / 1000000000) by omega]
          exact Int.mul_tdiv_cancel_left _ (by omega)
        refine g_i2l hC (by unfold I32; omega) d_Whole_take3_27 ?_
        refine g_lload_n hC rfl d_Whole_take3_28 ?_
        refine g_aload_n hC rfl d_Whole_take3_29 ?_
        refine g_get hC fb_Whole_9 hO.1 rfl d_Whole_take3_30 ?_
        refine g_iload hC rfl d_Whole_take3_33 ?_
        refine g_iald hC hO.2 (by omega) (by omega) (by omega) d_Whole_take3_35 ?_
        refine g_i2l hC (by unfold I32; omega) d_Whole_take3_36 ?_
        refine g_lmul hC d_Whole_take3_37 ?_
        refine g_lsub hC d_Whole_take3_38 ?_
        refine g_ladd hC d_Whole_take3_39 ?_
        rw [hx]
        first | refine g_lst5 hC d_Whole_take3_40 rfl (hN 6 rfl) ?_ | (refine g_fg4 ?_; refine g_lst5 hC d_Whole_take3_40 rfl (hN 6 rfl) ?_)
        refine g_lload hC rfl d_Whole_take3_42 ?_
        refine g_ldc2 (z := 1000000000) hC cn_Whole_19 (by decide) d_Whole_take3_44 ?_
        refine g_callS2 hC (sp_floorMod (by unfold I64; omega) (by unfold I64; omega) (by omega)) oc_Math_floorMod os_Math_floorMod ml_Whole_72 hR (by decide) (by decide) (by decide) (by decide) (by decide) d_Whole_take3_47 (fun r M hp => ?_)
        obtain ⟨rfl, rfl⟩ := hp
        refine g_sv ?_
        first | refine g_lst8 hC d_Whole_take3_50 rfl (hN 9 rfl) ?_ | (refine g_fg7 ?_; refine g_lst8 hC d_Whole_take3_50 rfl (hN 9 rfl) ?_)
        refine g_aload_n hC rfl d_Whole_take3_52 ?_
        refine g_get hC fb_Whole_9 hW.1 rfl d_Whole_take3_53 ?_
        refine g_iload hC rfl d_Whole_take3_56 ?_
        refine g_iload hC rfl d_Whole_take3_58 ?_
        refine g_iadd hC d_Whole_take3_60 ?_
        refine g_lload hC rfl d_Whole_take3_61 ?_
        refine g_l2i hC d_Whole_take3_63 ?_
        refine g_iast hC hW.2 (by omega) (by omega) (by omega) d_Whole_take3_64 ?_
        replace hf := hf.a (e := oI X.K cap (up f' ((a : Int) + k) (x % 1000000000)))
        replace hW := hW.st (f' := up f' ((a : Int) + k) (x % 1000000000))
        refine g_lload hC rfl d_Whole_take3_65 ?_
        refine g_lload hC rfl d_Whole_take3_67 ?_
        refine g_lsub hC d_Whole_take3_69 ?_
        refine g_ldc2 (z := 1000000000) hC cn_Whole_19 (by decide) d_Whole_take3_70 ?_
        refine g_ldiv hC (by unfold I64; omega) (by unfold I64; omega) (by omega) d_Whole_take3_73 ?_
        rw [e1]
        first | refine g_lst5 hC d_Whole_take3_74 rfl (hN 6 rfl) ?_ | (refine g_fg4 ?_; refine g_lst5 hC d_Whole_take3_74 rfl (hN 6 rfl) ?_)
        refine g_inc7 hC d_Whole_take3_76 rfl (hN 7 rfl) ?_
        refine g_goto hC d_Whole_take3_79 ?_
        rw [show (k : Int) + 1 = ((k + 1 : Nat) : Int) by omega]
        refine g_fg8 ?_
        refine ih (k + 1) _ _ _ (by omega) (by omega) (by omega) hW ?_ (fun i hi => ?_) ?_ hf
        · rw [sh_up]
          exact dg_up hd (by omega) (by omega)
        · rw [up_n (by omega)]
          exact hfe i (by omega)
        · rw [sh_up, vl_ups, pw_s, vl_s, vl_s, stp_div, ← hx, Int.add_mul, ← Int.add_assoc, hv, Int.sub_mul, Int.mul_add]
          show _ = (_ + f ((a : Int) + k) * _) - _
          rw [Int.mul_assoc]
          omega
  refine g_lconst (z := 0) hC (by decide) d_Whole_take3_0 ?_
  first | refine g_lst5 hC d_Whole_take3_1 rfl (hN 6 rfl) ?_ | (refine g_fg4 ?_; refine g_lst5 hC d_Whole_take3_1 rfl (hN 6 rfl) ?_)
  refine g_iconst hC d_Whole_take3_3 ?_
  first | refine g_ist7 hC d_Whole_take3_4 rfl (hN 7 rfl) ?_ | (refine g_fg6 ?_; refine g_ist7 hC d_Whole_take3_4 rfl (hN 7 rfl) ?_)
  exact key m 0 0 f M (by omega) (by omega) (Int.le_refl 0) hW0 (fun i hi => by omega) (fun i _ => rfl) (by simp only [vl_0]; omega) frW.rf
