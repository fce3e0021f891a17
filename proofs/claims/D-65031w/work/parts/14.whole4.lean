/-! Whole: multiply, take(often), giveBack -/
/-- the lower part of a row product -/
theorem stp_mul {S c F a b x P Pi G0 : Int} (h : S + c * P = F + a * G0 * Pi) (hx : x = c + G0 * 0 + (0 : Int)) : True := trivial
theorem vl_upd_in {f : Int → Int} {i x : Int} {n k : Nat} (hk : (k : Int) = i) (hn : k < n) : vl (up f i x) n = vl f n + (x - f i) * pw k := by
  induction n with
  | zero => omega
  | succ n ih =>
    rw [vl_s, vl_s]
    by_cases e : k = n
    · subst e
      rw [vl_up (by omega), hk, up_s, Int.sub_mul]
      omega
    · rw [ih (by omega), up_n (by omega)]
      omega
theorem stp_mul1 {S c F A y x P Pi V : Int} (h : S + c * P = F + A * V * Pi) (Bj Pj : Int) (hP : P = Pj * Pi) (hx : x = c + (y + A * Bj)) : S + x % 1000000000 * P + x / 1000000000 * (1000000000 * P) = (F + y * P) + A * (V + Bj * Pj) * Pi := by
  rw [stp_div, hx, Int.add_mul, Int.add_mul, ← Int.add_assoc, ← Int.add_assoc, h, Int.mul_add, Int.add_mul]
  have e : A * Bj * P = A * (Bj * Pj) * Pi := by rw [hP]; simp only [Int.mul_assoc]
  omega
theorem d_Whole_multiply_0 : dn m_Whole_multiply.2.1 0 (.aload_n 0) 1 1 := ⟨by decide +kernel, rfl⟩
theorem d_Whole_multiply_1 : dn m_Whole_multiply.2.1 1 (.aload_n 1) 1 2 := ⟨by decide +kernel, rfl⟩
theorem d_Whole_multiply_2 : dn m_Whole_multiply.2.1 2 (.getfield 15) 3 5 := ⟨by decide +kernel, rfl⟩
theorem d_Whole_multiply_5 : dn m_Whole_multiply.2.1 5 (.aload_n 2) 1 6 := ⟨by decide +kernel, rfl⟩
theorem d_Whole_multiply_6 : dn m_Whole_multiply.2.1 6 (.getfield 15) 3 9 := ⟨by decide +kernel, rfl⟩
theorem d_Whole_multiply_9 : dn m_Whole_multiply.2.1 9 (.iadd) 1 10 := ⟨by decide +kernel, rfl⟩
theorem d_Whole_multiply_10 : dn m_Whole_multiply.2.1 10 (.putfield 15) 3 13 := ⟨by decide +kernel, rfl⟩
theorem d_Whole_multiply_13 : dn m_Whole_multiply.2.1 13 (.iconst 0) 1 14 := ⟨by decide +kernel, rfl⟩
theorem d_Whole_multiply_14 : dn m_Whole_multiply.2.1 14 (.istore_n 3) 1 15 := ⟨by decide +kernel, rfl⟩
theorem d_Whole_multiply_15 : dn m_Whole_multiply.2.1 15 (.iload_n 3) 1 16 := ⟨by decide +kernel, rfl⟩
theorem d_Whole_multiply_16 : dn m_Whole_multiply.2.1 16 (.aload_n 0) 1 17 := ⟨by decide +kernel, rfl⟩
theorem d_Whole_multiply_17 : dn m_Whole_multiply.2.1 17 (.getfield 15) 3 20 := ⟨by decide +kernel, rfl⟩
theorem d_Whole_multiply_20 : db m_Whole_multiply.2.1 20 (.if_icmp .ge) 36 23 := ⟨16, by decide +kernel, by decide, rfl⟩
theorem d_Whole_multiply_23 : dn m_Whole_multiply.2.1 23 (.aload_n 0) 1 24 := ⟨by decide +kernel, rfl⟩
theorem d_Whole_multiply_24 : dn m_Whole_multiply.2.1 24 (.getfield 9) 3 27 := ⟨by decide +kernel, rfl⟩
theorem d_Whole_multiply_27 : dn m_Whole_multiply.2.1 27 (.iload_n 3) 1 28 := ⟨by decide +kernel, rfl⟩
theorem d_Whole_multiply_28 : dn m_Whole_multiply.2.1 28 (.iconst 0) 1 29 := ⟨by decide +kernel, rfl⟩
theorem d_Whole_multiply_29 : dn m_Whole_multiply.2.1 29 (.iastore) 1 30 := ⟨by decide +kernel, rfl⟩
theorem d_Whole_multiply_30 : dn m_Whole_multiply.2.1 30 (.iinc 3 1) 3 33 := ⟨by decide +kernel, rfl⟩
theorem d_Whole_multiply_33 : db m_Whole_multiply.2.1 33 (.goto) 15 36 := ⟨(-18), by decide +kernel, by decide, rfl⟩
theorem d_Whole_multiply_36 : dn m_Whole_multiply.2.1 36 (.iconst 0) 1 37 := ⟨by decide +kernel, rfl⟩
theorem d_Whole_multiply_37 : dn m_Whole_multiply.2.1 37 (.istore_n 3) 1 38 := ⟨by decide +kernel, rfl⟩
theorem d_Whole_multiply_38 : dn m_Whole_multiply.2.1 38 (.iload_n 3) 1 39 := ⟨by decide +kernel, rfl⟩
theorem d_Whole_multiply_39 : dn m_Whole_multiply.2.1 39 (.aload_n 1) 1 40 := ⟨by decide +kernel, rfl⟩
theorem d_Whole_multiply_40 : dn m_Whole_multiply.2.1 40 (.getfield 15) 3 43 := ⟨by decide +kernel, rfl⟩
theorem d_Whole_multiply_43 : db m_Whole_multiply.2.1 43 (.if_icmp .ge) 141 46 := ⟨98, by decide +kernel, by decide, rfl⟩
theorem d_Whole_multiply_46 : dn m_Whole_multiply.2.1 46 (.lconst 0) 1 47 := ⟨by decide +kernel, rfl⟩
theorem d_Whole_multiply_47 : dn m_Whole_multiply.2.1 47 (.lstore 4) 2 49 := ⟨by decide +kernel, rfl⟩
theorem d_Whole_multiply_49 : dn m_Whole_multiply.2.1 49 (.iload_n 3) 1 50 := ⟨by decide +kernel, rfl⟩
theorem d_Whole_multiply_50 : dn m_Whole_multiply.2.1 50 (.istore 6) 2 52 := ⟨by decide +kernel, rfl⟩
theorem d_Whole_multiply_52 : dn m_Whole_multiply.2.1 52 (.iconst 0) 1 53 := ⟨by decide +kernel, rfl⟩
theorem d_Whole_multiply_53 : dn m_Whole_multiply.2.1 53 (.istore 7) 2 55 := ⟨by decide +kernel, rfl⟩
theorem d_Whole_multiply_55 : dn m_Whole_multiply.2.1 55 (.iload 7) 2 57 := ⟨by decide +kernel, rfl⟩
theorem d_Whole_multiply_57 : dn m_Whole_multiply.2.1 57 (.aload_n 2) 1 58 := ⟨by decide +kernel, rfl⟩
theorem d_Whole_multiply_58 : dn m_Whole_multiply.2.1 58 (.getfield 15) 3 61 := ⟨by decide +kernel, rfl⟩
theorem d_Whole_multiply_61 : db m_Whole_multiply.2.1 61 (.if_icmp .ge) 125 64 := ⟨64, by decide +kernel, by decide, rfl⟩
theorem d_Whole_multiply_64 : dn m_Whole_multiply.2.1 64 (.lload 4) 2 66 := ⟨by decide +kernel, rfl⟩
theorem d_Whole_multiply_66 : dn m_Whole_multiply.2.1 66 (.aload_n 0) 1 67 := ⟨by decide +kernel, rfl⟩
theorem d_Whole_multiply_67 : dn m_Whole_multiply.2.1 67 (.getfield 9) 3 70 := ⟨by decide +kernel, rfl⟩
theorem d_Whole_multiply_70 : dn m_Whole_multiply.2.1 70 (.iload 6) 2 72 := ⟨by decide +kernel, rfl⟩
theorem d_Whole_multiply_72 : dn m_Whole_multiply.2.1 72 (.iaload) 1 73 := ⟨by decide +kernel, rfl⟩
theorem d_Whole_multiply_73 : dn m_Whole_multiply.2.1 73 (.i2l) 1 74 := ⟨by decide +kernel, rfl⟩
theorem d_Whole_multiply_74 : dn m_Whole_multiply.2.1 74 (.aload_n 1) 1 75 := ⟨by decide +kernel, rfl⟩
theorem d_Whole_multiply_75 : dn m_Whole_multiply.2.1 75 (.getfield 9) 3 78 := ⟨by decide +kernel, rfl⟩
theorem d_Whole_multiply_78 : dn m_Whole_multiply.2.1 78 (.iload_n 3) 1 79 := ⟨by decide +kernel, rfl⟩
theorem d_Whole_multiply_79 : dn m_Whole_multiply.2.1 79 (.iaload) 1 80 := ⟨by decide +kernel, rfl⟩
theorem d_Whole_multiply_80 : dn m_Whole_multiply.2.1 80 (.i2l) 1 81 := ⟨by decide +kernel, rfl⟩
theorem d_Whole_multiply_81 : dn m_Whole_multiply.2.1 81 (.aload_n 2) 1 82 := ⟨by decide +kernel, rfl⟩
theorem d_Whole_multiply_82 : dn m_Whole_multiply.2.1 82 (.getfield 9) 3 85 := ⟨by decide +kernel, rfl⟩
theorem d_Whole_multiply_85 : dn m_Whole_multiply.2.1 85 (.iload 7) 2 87 := ⟨by decide +kernel, rfl⟩
theorem d_Whole_multiply_87 : dn m_Whole_multiply.2.1 87 (.iaload) 1 88 := ⟨by decide +kernel, rfl⟩
theorem d_Whole_multiply_88 : dn m_Whole_multiply.2.1 88 (.i2l) 1 89 := ⟨by decide +kernel, rfl⟩
theorem d_Whole_multiply_89 : dn m_Whole_multiply.2.1 89 (.lmul) 1 90 := ⟨by decide +kernel, rfl⟩
theorem d_Whole_multiply_90 : dn m_Whole_multiply.2.1 90 (.ladd) 1 91 := ⟨by decide +kernel, rfl⟩
theorem d_Whole_multiply_91 : dn m_Whole_multiply.2.1 91 (.ladd) 1 92 := ⟨by decide +kernel, rfl⟩
theorem d_Whole_multiply_92 : dn m_Whole_multiply.2.1 92 (.lstore 4) 2 94 := ⟨by decide +kernel, rfl⟩
theorem d_Whole_multiply_94 : dn m_Whole_multiply.2.1 94 (.aload_n 0) 1 95 := ⟨by decide +kernel, rfl⟩
theorem d_Whole_multiply_95 : dn m_Whole_multiply.2.1 95 (.getfield 9) 3 98 := ⟨by decide +kernel, rfl⟩
theorem d_Whole_multiply_98 : dn m_Whole_multiply.2.1 98 (.iload 6) 2 100 := ⟨by decide +kernel, rfl⟩
theorem d_Whole_multiply_100 : dn m_Whole_multiply.2.1 100 (.lload 4) 2 102 := ⟨by decide +kernel, rfl⟩
theorem d_Whole_multiply_102 : dn m_Whole_multiply.2.1 102 (.ldc2_w 19) 3 105 := ⟨by decide +kernel, rfl⟩
theorem d_Whole_multiply_105 : dn m_Whole_multiply.2.1 105 (.lrem) 1 106 := ⟨by decide +kernel, rfl⟩
theorem d_Whole_multiply_106 : dn m_Whole_multiply.2.1 106 (.l2i) 1 107 := ⟨by decide +kernel, rfl⟩
theorem d_Whole_multiply_107 : dn m_Whole_multiply.2.1 107 (.iastore) 1 108 := ⟨by decide +kernel, rfl⟩
theorem d_Whole_multiply_108 : dn m_Whole_multiply.2.1 108 (.lload 4) 2 110 := ⟨by decide +kernel, rfl⟩
theorem d_Whole_multiply_110 : dn m_Whole_multiply.2.1 110 (.ldc2_w 19) 3 113 := ⟨by decide +kernel, rfl⟩
theorem d_Whole_multiply_113 : dn m_Whole_multiply.2.1 113 (.ldiv) 1 114 := ⟨by decide +kernel, rfl⟩
theorem d_Whole_multiply_114 : dn m_Whole_multiply.2.1 114 (.lstore 4) 2 116 := ⟨by decide +kernel, rfl⟩
theorem d_Whole_multiply_116 : dn m_Whole_multiply.2.1 116 (.iinc 6 1) 3 119 := ⟨by decide +kernel, rfl⟩
theorem d_Whole_multiply_119 : dn m_Whole_multiply.2.1 119 (.iinc 7 1) 3 122 := ⟨by decide +kernel, rfl⟩
theorem d_Whole_multiply_122 : db m_Whole_multiply.2.1 122 (.goto) 55 125 := ⟨(-67), by decide +kernel, by decide, rfl⟩
theorem d_Whole_multiply_125 : dn m_Whole_multiply.2.1 125 (.aload_n 0) 1 126 := ⟨by decide +kernel, rfl⟩
theorem d_Whole_multiply_126 : dn m_Whole_multiply.2.1 126 (.getfield 9) 3 129 := ⟨by decide +kernel, rfl⟩
theorem d_Whole_multiply_129 : dn m_Whole_multiply.2.1 129 (.iload 6) 2 131 := ⟨by decide +kernel, rfl⟩
theorem d_Whole_multiply_131 : dn m_Whole_multiply.2.1 131 (.lload 4) 2 133 := ⟨by decide +kernel, rfl⟩
theorem d_Whole_multiply_133 : dn m_Whole_multiply.2.1 133 (.l2i) 1 134 := ⟨by decide +kernel, rfl⟩
theorem d_Whole_multiply_134 : dn m_Whole_multiply.2.1 134 (.iastore) 1 135 := ⟨by decide +kernel, rfl⟩
theorem d_Whole_multiply_135 : dn m_Whole_multiply.2.1 135 (.iinc 3 1) 3 138 := ⟨by decide +kernel, rfl⟩
theorem d_Whole_multiply_138 : db m_Whole_multiply.2.1 138 (.goto) 38 141 := ⟨(-100), by decide +kernel, by decide, rfl⟩
theorem d_Whole_multiply_141 : dn m_Whole_multiply.2.1 141 (.aload_n 0) 1 142 := ⟨by decide +kernel, rfl⟩
theorem d_Whole_multiply_142 : dn m_Whole_multiply.2.1 142 (.invokevirtual 39) 3 145 := ⟨by decide +kernel, rfl⟩
theorem d_Whole_multiply_145 : dn m_Whole_multiply.2.1 145 (.return_) 1 146 := ⟨by decide +kernel, rfl⟩
theorem sp_Whole_multiply {l : Launch} {K : KC} {M : AH} {q r1 r2 cap c1 c2 v w i1 i2 : Nat} (hq : wx K M q cap) (h1 : wv K M r1 c1 v) (h2 : wv K M r2 c2 w) (hn1 : r1 ≠ q) (hn2 : r2 ≠ q) (hv : (v : Int) < pw i1) (hw : (w : Int) < pw i2) (hi : i1 + i2 ≤ cap) (hcap : cap ≤ 1000) (hc1 : c1 ≤ 1000) (hc2 : c2 ≤ 1000) :
    Sp l K m_Whole_multiply 1 0 0 [.ref q, .ref r1, .ref r2] M (fun x M' => x = none ∧ wv K M' q cap (v * w) ∧ frW M M' q) := by
  refine Sp.ofG R_Whole rfl (by decide) [some (.ref q), some (.ref r1), some (.ref r2), none, none, none, none, none] rfl (Nat.le_of_ble_eq_true rfl) ?_
  intro X hl hK hN hR hC hQ
  subst hl hK
  obtain ⟨nq, fq, hW0⟩ := hq
  obtain ⟨n, f, hA0, hn, hrep⟩ := h1
  obtain ⟨m, g, hB0, hm, hrep2⟩ := h2
  have b1 := rep_le hrep hv
  have b2 := rep_le hrep2 hw
  have gW := fun (M' : AH) (hf : frW M M' q) => hA0.oth hW0 hf hn1
  have gB := fun (M' : AH) (hf : frW M M' q) => hB0.oth hW0 hf hn2
  -- the outer loop
  have outer : ∀ (j i : Nat) (h : Int → Int) (M' : AH) (a4 a5 a6 a7 : Option Value), j + i = n → isW X.K M' q cap (n + m) h → dg h (n + m) → (∀ k : Nat, i + m ≤ k → k < n + m → h k = 0) → vl h (i + m) = vl f i * w → frW M M' q → G X 0 0 M' 38 [some (.ref q), some (.ref r1), some (.ref r2), some (iv i), none, none, none, none] [] := by
    intro j
    induction j with
    | zero =>
      intro i h M' _ _ _ _ hj hW hd hz hv hf
      have hA := gW M' hf
      have e : i = n := by omega
      subst e
      refine g_iload_n hC rfl d_Whole_multiply_38 ?_
      refine g_aload_n hC rfl d_Whole_multiply_39 ?_
      refine g_get hC fb_Whole_15 hA.1 rfl d_Whole_multiply_40 ?_
      refine g_icmp_ge hC (by unfold I32; omega) (by unfold I32; omega) d_Whole_multiply_43 (fun c => ?_) (fun c => ?_)
      · refine g_aload_n hC rfl d_Whole_multiply_141 ?_
        refine g_callV0 hC (sp_Whole_trim hW (by omega) hcap hd) oc_Whole_trim ov_Whole_trim ml_Whole_39 hW.1 rfl hR (by decide) (by decide) (by decide) (by decide) (by decide) d_Whole_multiply_142 (fun r M hp => ?_)
        obtain ⟨rfl, n2, h2, h3, h4, h5, h6⟩ := hp
        refine g_s0 ?_
        refine g_vret hC hQ (by decide) (by decide) d_Whole_multiply_145 ⟨rfl, ⟨n2, h, h3, by omega, dg_le hd h2, h4, by rw [h5, hv, hrep.2.2, Int.natCast_mul]⟩, hf.trans h6⟩
      · omega
    | succ j ih =>
      intro i h M' _ _ _ _ hj hW hd hz hv hf
      have hA := gW M' hf
      have hai := hrep.1 i (by omega)
      -- the inner loop
      have inner : ∀ (t k : Nat) (cy : Int) (h' : Int → Int) (M2 : AH), t + k = m → 0 ≤ cy → cy < 1000000000 → isW X.K M2 q cap (n + m) h' → dg h' (n + m) → (∀ x : Nat, i + k ≤ x → h' x = h x) → vl h' (i + k) + cy * pw (i + k) = vl h (i + k) + f i * vl g k * pw i → frW M M2 q → G X 0 0 M2 55 [some (.ref q), some (.ref r1), some (.ref r2), some (iv i), some (jv cy), none, some (iv ((i : Int) + k)), some (iv k)] [] := by
        intro t
        induction t with
        | zero =>
          intro k cy h' M2 ht hc0 hc1 hW2 hd2 he hv2 hf2
          have hB := gB M2 hf2
          have e : k = m := by omega
          subst e
          refine g_iload hC rfl d_Whole_multiply_55 ?_
          refine g_aload_n hC rfl d_Whole_multiply_57 ?_
          refine g_get hC fb_Whole_15 hB.1 rfl d_Whole_multiply_58 ?_
          refine g_icmp_ge hC (by unfold I32; omega) (by unfold I32; omega) d_Whole_multiply_61 (fun c => ?_) (fun c => ?_)
          · refine g_aload_n hC rfl d_Whole_multiply_125 ?_
            refine g_get hC fb_Whole_9 hW2.1 rfl d_Whole_multiply_126 ?_
            refine g_iload hC rfl d_Whole_multiply_129 ?_
            refine g_lload hC rfl d_Whole_multiply_131 ?_
            refine g_l2i hC d_Whole_multiply_133 ?_
            refine g_iast hC hW2.2 (by omega) (by omega) (by omega) d_Whole_multiply_134 ?_
            replace hf2 := hf2.a (e := oI X.K cap (up h' ((i : Int) + k) cy))
            replace hW2 := hW2.st (f' := up h' ((i : Int) + k) cy)
            refine g_inc3 hC d_Whole_multiply_135 rfl (hN 3 rfl) ?_
            refine g_goto hC d_Whole_multiply_138 ?_
            rw [show (i : Int) + 1 = ((i + 1 : Nat) : Int) by omega]
            refine g_fg4 (g_fg6 (g_fg7 ?_))
            have hik : ((i + k : Nat) : Int) = (i : Int) + k := by omega
            have hz0 := hz (i + k) (Nat.le_refl _) (by omega)
            have he0 := he (i + k) (Nat.le_refl _)
            refine ih (i + 1) _ _ none none none none (by omega) hW2 (fun x hx => ?_) (fun x hx1 hx2 => ?_) ?_ hf2
            · by_cases e : x = i + k
              · subst e; rw [hik, up_s]; exact ⟨hc0, hc1⟩
              · rw [up_n (by omega)]; exact hd2 x hx
            · rw [up_n (by omega), he x (by omega)]
              exact hz x (by omega) hx2
            · rw [show i + 1 + k = (i + k) + 1 by omega, vl_s, vl_up (by omega), hik, up_s, hv2, hv, vl_s, Int.add_mul, hrep2.2.2, Int.mul_assoc, Int.mul_comm (w : Int) (pw i), ← Int.mul_assoc]
          · omega
        | succ t iht =>
          intro k cy h' M2 ht hc0 hc1 hW2 hd2 he hv2 hf2
          have hB := gB M2 hf2
          have hA := gW M2 hf2
          have hbk := hrep2.1 k (by omega)
          have hhk := hd2 (i + k) (by omega)
          have hik : ((i + k : Nat) : Int) = (i : Int) + k := by omega
          rw [hik] at hhk
          have hm := mul_bd hai.1 (show f i ≤ 999999999 by omega) hbk.1 (show g k ≤ 999999999 by omega)
          refine g_iload hC rfl d_Whole_multiply_55 ?_
          refine g_aload_n hC rfl d_Whole_multiply_57 ?_
          refine g_get hC fb_Whole_15 hB.1 rfl d_Whole_multiply_58 ?_
          refine g_icmp_ge hC (by unfold I32; omega) (by unfold I32; omega) d_Whole_multiply_61 (fun c => ?_) (fun c => ?_)
          · omega
          · refine g_lload hC rfl d_Whole_multiply_64 ?_
            refine g_aload_n hC rfl d_Whole_multiply_66 ?_
            refine g_get hC fb_Whole_9 hW2.1 rfl d_Whole_multiply_67 ?_
            refine g_iload hC rfl d_Whole_multiply_70 ?_
            refine g_iald hC hW2.2 (by omega) (by omega) (by omega) d_Whole_multiply_72 ?_
            refine g_i2l hC (by unfold I32; omega) d_Whole_multiply_73 ?_
            refine g_aload_n hC rfl d_Whole_multiply_74 ?_
            refine g_get hC fb_Whole_9 hA.1 rfl d_Whole_multiply_75 ?_
            refine g_iload_n hC rfl d_Whole_multiply_78 ?_
            refine g_iald hC hA.2 (by omega) (by omega) (by omega) d_Whole_multiply_79 ?_
            refine g_i2l hC (by unfold I32; omega) d_Whole_multiply_80 ?_
            refine g_aload_n hC rfl d_Whole_multiply_81 ?_
            refine g_get hC fb_Whole_9 hB.1 rfl d_Whole_multiply_82 ?_
            refine g_iload hC rfl d_Whole_multiply_85 ?_
            refine g_iald hC hB.2 (by omega) (by omega) (by omega) d_Whole_multiply_87 ?_
            refine g_i2l hC (by unfold I32; omega) d_Whole_multiply_88 ?_
            refine g_lmul hC d_Whole_multiply_89 ?_
            refine g_ladd hC d_Whole_multiply_90 ?_
            refine g_ladd hC d_Whole_multiply_91 ?_
            first | refine g_lst4 hC d_Whole_multiply_92 rfl (hN 5 rfl) ?_ | (refine g_fg3 ?_; refine g_lst4 hC d_Whole_multiply_92 rfl (hN 5 rfl) ?_)
            refine g_aload_n hC rfl d_Whole_multiply_94 ?_
            refine g_get hC fb_Whole_9 hW2.1 rfl d_Whole_multiply_95 ?_
            refine g_iload hC rfl d_Whole_multiply_98 ?_
            refine g_lload hC rfl d_Whole_multiply_100 ?_
            refine g_ldc2 (z := 1000000000) hC cn_Whole_19 (by decide) d_Whole_multiply_102 ?_
            refine g_lremN hC (by unfold I64; omega) (by unfold I64; omega) (by omega) (by omega) d_Whole_multiply_105 ?_
            refine g_l2i hC d_Whole_multiply_106 ?_
            refine g_iast hC hW2.2 (by omega) (by omega) (by omega) d_Whole_multiply_107 ?_
            replace hf2 := hf2.a (e := oI X.K cap (up h' ((i : Int) + k) ((cy + (h' ((i : Int) + k) + f i * g k)) % 1000000000)))
            replace hW2 := hW2.st (f' := up h' ((i : Int) + k) ((cy + (h' ((i : Int) + k) + f i * g k)) % 1000000000))
            refine g_lload hC rfl d_Whole_multiply_108 ?_
            refine g_ldc2 (z := 1000000000) hC cn_Whole_19 (by decide) d_Whole_multiply_110 ?_
            refine g_ldivN hC (by unfold I64; omega) (by unfold I64; omega) (by omega) (by omega) d_Whole_multiply_113 ?_
            first | refine g_lst4 hC d_Whole_multiply_114 rfl (hN 5 rfl) ?_ | (refine g_fg3 ?_; refine g_lst4 hC d_Whole_multiply_114 rfl (hN 5 rfl) ?_)
            refine g_inc6 hC d_Whole_multiply_116 rfl (hN 6 rfl) ?_
            refine g_inc7 hC d_Whole_multiply_119 rfl (hN 7 rfl) ?_
            refine g_goto hC d_Whole_multiply_122 ?_
            rw [show (k : Int) + 1 = ((k + 1 : Nat) : Int) by omega, show (i : Int) + (k : Int) + 1 = (i : Int) + ((k + 1 : Nat) : Int) by omega]
            refine iht (k + 1) _ _ _ (by omega) (by omega) (by omega) hW2 (fun x hx => ?_) (fun x hx => ?_) ?_ hf2
            · by_cases e : x = i + k
              · subst e; rw [hik, up_s]; omega
              · rw [up_n (by omega)]; exact hd2 x hx
            · rw [up_n (by omega)]
              exact he x (by omega)
            · have he0 := he (i + k) (Nat.le_refl _)
              rw [hik] at he0
              rw [show i + (k + 1) = (i + k) + 1 by omega, vl_s, vl_up (by omega), hik, up_s, pw_s, vl_s h, hik, vl_s, ← he0]
              exact stp_mul1 hv2 (g k) (pw k) (by rw [Nat.add_comm, pw_add]) rfl
      refine g_iload_n hC rfl d_Whole_multiply_38 ?_
      refine g_aload_n hC rfl d_Whole_multiply_39 ?_
      refine g_get hC fb_Whole_15 hA.1 rfl d_Whole_multiply_40 ?_
      refine g_icmp_ge hC (by unfold I32; omega) (by unfold I32; omega) d_Whole_multiply_43 (fun c => ?_) (fun c => ?_)
      · omega
      · refine g_lconst (z := 0) hC (by decide) d_Whole_multiply_46 ?_
        first | refine g_lst4 hC d_Whole_multiply_47 rfl (hN 5 rfl) ?_ | (refine g_fg3 ?_; refine g_lst4 hC d_Whole_multiply_47 rfl (hN 5 rfl) ?_)
        refine g_iload_n hC rfl d_Whole_multiply_49 ?_
        first | refine g_ist6 hC d_Whole_multiply_50 rfl (hN 6 rfl) ?_ | (refine g_fg5 ?_; refine g_ist6 hC d_Whole_multiply_50 rfl (hN 6 rfl) ?_)
        refine g_iconst hC d_Whole_multiply_52 ?_
        first | refine g_ist7 hC d_Whole_multiply_53 rfl (hN 7 rfl) ?_ | (refine g_fg6 ?_; refine g_ist7 hC d_Whole_multiply_53 rfl (hN 7 rfl) ?_)
        refine inner m 0 0 h M' (by omega) (Int.le_refl 0) (by omega) hW hd (fun x _ => rfl) ?_ hf
        rw [vl_0]
        simp
  -- the zeroing loop
  have zero : ∀ (j k : Nat) (h : Int → Int) (M' : AH), j + k = n + m → isW X.K M' q cap (n + m) h → (∀ x : Nat, x < k → h x = 0) → frW M M' q → G X 0 0 M' 15 [some (.ref q), some (.ref r1), some (.ref r2), some (iv k), none, none, none, none] [] := by
    intro j
    induction j with
    | zero =>
      intro k h M' hj hW hz hf
      refine g_iload_n hC rfl d_Whole_multiply_15 ?_
      refine g_aload_n hC rfl d_Whole_multiply_16 ?_
      refine g_get hC fb_Whole_15 hW.1 rfl d_Whole_multiply_17 ?_
      refine g_icmp_ge hC (by unfold I32; omega) (by unfold I32; omega) d_Whole_multiply_20 (fun c => ?_) (fun c => ?_)
      · refine g_iconst hC d_Whole_multiply_36 ?_
        first | refine g_ist3 hC d_Whole_multiply_37 rfl (hN 3 rfl) ?_ | (refine g_fg2 ?_; refine g_ist3 hC d_Whole_multiply_37 rfl (hN 3 rfl) ?_)
        have hd : dg h (n + m) := fun x hx => by rw [hz x (by omega)]; omega
        refine outer n 0 h M' none none none none (by omega) hW hd (fun x _ hx => hz x (by omega)) ?_ hf
        rw [vl_0, Nat.zero_add]
        have : vl h m = vl (fun _ => 0) m := vl_congr (fun x hx => hz x (by omega))
        rw [this]
        have z : ∀ t : Nat, vl (fun _ => 0) t = 0 := fun t => by
          induction t with
          | zero => rfl
          | succ t iht => rw [vl_s, iht]; simp
        rw [z]
        simp
      · omega
    | succ j ih =>
      intro k h M' hj hW hz hf
      refine g_iload_n hC rfl d_Whole_multiply_15 ?_
      refine g_aload_n hC rfl d_Whole_multiply_16 ?_
      refine g_get hC fb_Whole_15 hW.1 rfl d_Whole_multiply_17 ?_
      refine g_icmp_ge hC (by unfold I32; omega) (by unfold I32; omega) d_Whole_multiply_20 (fun c => ?_) (fun c => ?_)
      · omega
      · refine g_aload_n hC rfl d_Whole_multiply_23 ?_
        refine g_get hC fb_Whole_9 hW.1 rfl d_Whole_multiply_24 ?_
        refine g_iload_n hC rfl d_Whole_multiply_27 ?_
        refine g_iconst hC d_Whole_multiply_28 ?_
        refine g_iast hC hW.2 (by omega) (by omega) (by omega) d_Whole_multiply_29 ?_
        refine g_inc3 hC d_Whole_multiply_30 rfl (hN 3 rfl) ?_
        refine g_goto hC d_Whole_multiply_33 ?_
        rw [show (k : Int) + 1 = ((k + 1 : Nat) : Int) by omega]
        refine ih (k + 1) _ _ (by omega) hW.st (fun x hx => ?_) hf.a
        by_cases e : x = k
        · subst e; exact up_s
        · rw [up_n (by omega)]; exact hz x (by omega)
  refine g_aload_n hC rfl d_Whole_multiply_0 ?_
  refine g_aload_n hC rfl d_Whole_multiply_1 ?_
  refine g_get hC fb_Whole_15 hA0.1 rfl d_Whole_multiply_2 ?_
  refine g_aload_n hC rfl d_Whole_multiply_5 ?_
  refine g_get hC fb_Whole_15 hB0.1 rfl d_Whole_multiply_6 ?_
  refine g_iadd hC d_Whole_multiply_9 ?_
  rw [show (n : Int) + (m : Int) = ((n + m : Nat) : Int) by omega]
  refine g_put hC fb_Whole_15 hW0.1 rfl rfl (Nat.le_of_ble_eq_true rfl) d_Whole_multiply_10 ?_
  refine g_iconst hC d_Whole_multiply_13 ?_
  first | refine g_ist3 hC d_Whole_multiply_14 rfl (hN 3 rfl) ?_ | (refine g_fg2 ?_; refine g_ist3 hC d_Whole_multiply_14 rfl (hN 3 rfl) ?_)
  exact zero (n + m) 0 fq _ (by omega) hW0.sz (fun x hx => by omega) (frW.rf).o
