/-! Whole: add, take, times, cut -/
section GDIVN
variable {X : CT} {cs sl : Nat} {M : AH} {pc pc' : Nat} {L : List (Option Value)} {st : List Value} {own : String} {cc : ByteArray} {rt : Option FieldType} {nm : String} {hh : Bool}
theorem g_idivN (hC : Cx X own cc rt nm hh) {a b : Int} (ha : I32 a) (hb : I32 b) (h0 : 0 < b) (hn : 0 ≤ a) (hd : dn cc pc .idiv 1 pc') (kk : G X cs sl M pc' L (iv (a / b) :: st)) : G X cs sl M pc L (iv b :: iv a :: st) := g_idiv hC ha hb h0 hd (by rw [tdiv_pos hn]; exact kk)
theorem g_iremN (hC : Cx X own cc rt nm hh) {a b : Int} (ha : I32 a) (hb : I32 b) (h0 : 0 < b) (hn : 0 ≤ a) (hd : dn cc pc .irem 1 pc') (kk : G X cs sl M pc' L (iv (a % b) :: st)) : G X cs sl M pc L (iv b :: iv a :: st) := g_irem hC ha hb h0 hd (by rw [tmod_pos hn]; exact kk)
theorem g_ldivN (hC : Cx X own cc rt nm hh) {a b : Int} (ha : I64 a) (hb : I64 b) (h0 : 0 < b) (hn : 0 ≤ a) (hd : dn cc pc .ldiv 1 pc') (kk : G X cs sl M pc' L (jv (a / b) :: st)) : G X cs sl M pc L (jv b :: jv a :: st) := g_ldiv hC ha hb h0 hd (by rw [tdiv_pos hn]; exact kk)
theorem g_lremN (hC : Cx X own cc rt nm hh) {a b : Int} (ha : I64 a) (hb : I64 b) (h0 : 0 < b) (hn : 0 ≤ a) (hd : dn cc pc .lrem 1 pc') (kk : G X cs sl M pc' L (jv (a % b) :: st)) : G X cs sl M pc L (jv b :: jv a :: st) := g_lrem hC ha hb h0 hd (by rw [tmod_pos hn]; exact kk)
end GDIVN
/-- limbs, with zeros above -/
def lx (f : Int → Int) (n : Nat) : Int → Int := fun k => if k < (n : Int) then f k else 0
theorem lx_in {f : Int → Int} {n : Nat} {k : Int} (h : k < n) : lx f n k = f k := if_pos h
theorem lx_out {f : Int → Int} {n : Nat} {k : Int} (h : ¬ k < n) : lx f n k = 0 := if_neg h
theorem lx_dg {f : Int → Int} {n : Nat} (h : dg f n) (k : Nat) : 0 ≤ lx f n (k : Int) ∧ lx f n (k : Int) < 1000000000 := by
  by_cases q : (k : Int) < n
  · rw [lx_in q]; exact h k (by omega)
  · rw [lx_out q]; omega
theorem vl_lx {f : Int → Int} {n k : Nat} (h : n ≤ k) : vl (lx f n) k = vl f n := by
  induction k with
  | zero => rw [show n = 0 by omega]; rfl
  | succ k ih =>
    by_cases e : n = k + 1
    · subst e; exact vl_congr (fun j hj => lx_in (by omega))
    · rw [vl_s, ih (by omega), lx_out (by omega)]; omega
theorem tpn_of_ge {f : Int → Int} {n : Nat} (hd : dg f n) (h : n = 0 ∨ pw (n - 1) ≤ vl f n) : tpn f n := by
  intro k hk e
  subst hk
  rcases h with h | h
  · omega
  · rw [vl_s, e] at h
    have := vl_lt (dg_le hd (Nat.le_succ k))
    simp at h
    omega
theorem rep_max {f g : Int → Int} {n m v w : Nat} (hf : rep f n v) (hg : rep g m w) (h : max n m ≠ 0) : pw (max n m - 1) ≤ ((v + w : Nat) : Int) := by
  rcases Nat.le_total m n with q | q
  · rw [Nat.max_eq_left q] at h ⊢
    obtain ⟨k, rfl⟩ : ∃ k, n = k + 1 := ⟨n - 1, by omega⟩
    have := vl_ge hf.1 (hf.2.1 k rfl)
    rw [hf.2.2] at this
    show pw k ≤ _
    omega
  · rw [Nat.max_eq_right q] at h ⊢
    obtain ⟨k, rfl⟩ : ∃ k, m = k + 1 := ⟨m - 1, by omega⟩
    have := vl_ge hg.1 (hg.2.1 k rfl)
    rw [hg.2.2] at this
    show pw k ≤ _
    omega
/-- one limb of a sum: v and c' out of a, b and c -/
theorem stp_add {S T U c a b v c' P : Int} (h : S + c * P = T + U) (hv : v + c' * 1000000000 = c + a + b) : (S + v * P) + c' * (1000000000 * P) = (T + a * P) + (U + b * P) := by
  have e : (v + c' * 1000000000) * P = (c + a + b) * P := by rw [hv]
  rw [Int.add_mul, Int.add_mul, Int.add_mul, Int.mul_assoc] at e
  omega
theorem d_Whole_add_0 : dn m_Whole_add.2.1 0 (.aload_n 0) 1 1 := ⟨by decide +kernel, rfl⟩
theorem d_Whole_add_1 : dn m_Whole_add.2.1 1 (.getfield 15) 3 4 := ⟨by decide +kernel, rfl⟩
theorem d_Whole_add_4 : dn m_Whole_add.2.1 4 (.aload_n 1) 1 5 := ⟨by decide +kernel, rfl⟩
theorem d_Whole_add_5 : dn m_Whole_add.2.1 5 (.getfield 15) 3 8 := ⟨by decide +kernel, rfl⟩
theorem d_Whole_add_8 : dn m_Whole_add.2.1 8 (.invokestatic 33) 3 11 := ⟨by decide +kernel, rfl⟩
theorem d_Whole_add_11 : dn m_Whole_add.2.1 11 (.istore_n 2) 1 12 := ⟨by decide +kernel, rfl⟩
theorem d_Whole_add_12 : dn m_Whole_add.2.1 12 (.iconst 0) 1 13 := ⟨by decide +kernel, rfl⟩
theorem d_Whole_add_13 : dn m_Whole_add.2.1 13 (.istore_n 3) 1 14 := ⟨by decide +kernel, rfl⟩
theorem d_Whole_add_14 : dn m_Whole_add.2.1 14 (.iconst 0) 1 15 := ⟨by decide +kernel, rfl⟩
theorem d_Whole_add_15 : dn m_Whole_add.2.1 15 (.istore 4) 2 17 := ⟨by decide +kernel, rfl⟩
theorem d_Whole_add_17 : dn m_Whole_add.2.1 17 (.iload 4) 2 19 := ⟨by decide +kernel, rfl⟩
theorem d_Whole_add_19 : dn m_Whole_add.2.1 19 (.iload_n 2) 1 20 := ⟨by decide +kernel, rfl⟩
theorem d_Whole_add_20 : db m_Whole_add.2.1 20 (.if_icmp .lt) 27 23 := ⟨7, by decide +kernel, by decide, rfl⟩
theorem d_Whole_add_23 : dn m_Whole_add.2.1 23 (.iload_n 3) 1 24 := ⟨by decide +kernel, rfl⟩
theorem d_Whole_add_24 : db m_Whole_add.2.1 24 (.ifCond .le) 114 27 := ⟨90, by decide +kernel, by decide, rfl⟩
theorem d_Whole_add_27 : dn m_Whole_add.2.1 27 (.iload_n 3) 1 28 := ⟨by decide +kernel, rfl⟩
theorem d_Whole_add_28 : dn m_Whole_add.2.1 28 (.iload 4) 2 30 := ⟨by decide +kernel, rfl⟩
theorem d_Whole_add_30 : dn m_Whole_add.2.1 30 (.aload_n 0) 1 31 := ⟨by decide +kernel, rfl⟩
theorem d_Whole_add_31 : dn m_Whole_add.2.1 31 (.getfield 15) 3 34 := ⟨by decide +kernel, rfl⟩
theorem d_Whole_add_34 : db m_Whole_add.2.1 34 (.if_icmp .ge) 47 37 := ⟨13, by decide +kernel, by decide, rfl⟩
theorem d_Whole_add_37 : dn m_Whole_add.2.1 37 (.aload_n 0) 1 38 := ⟨by decide +kernel, rfl⟩
theorem d_Whole_add_38 : dn m_Whole_add.2.1 38 (.getfield 9) 3 41 := ⟨by decide +kernel, rfl⟩
theorem d_Whole_add_41 : dn m_Whole_add.2.1 41 (.iload 4) 2 43 := ⟨by decide +kernel, rfl⟩
theorem d_Whole_add_43 : dn m_Whole_add.2.1 43 (.iaload) 1 44 := ⟨by decide +kernel, rfl⟩
theorem d_Whole_add_44 : db m_Whole_add.2.1 44 (.goto) 48 47 := ⟨4, by decide +kernel, by decide, rfl⟩
theorem d_Whole_add_47 : dn m_Whole_add.2.1 47 (.iconst 0) 1 48 := ⟨by decide +kernel, rfl⟩
theorem d_Whole_add_48 : dn m_Whole_add.2.1 48 (.iadd) 1 49 := ⟨by decide +kernel, rfl⟩
theorem d_Whole_add_49 : dn m_Whole_add.2.1 49 (.iload 4) 2 51 := ⟨by decide +kernel, rfl⟩
theorem d_Whole_add_51 : dn m_Whole_add.2.1 51 (.aload_n 1) 1 52 := ⟨by decide +kernel, rfl⟩
theorem d_Whole_add_52 : dn m_Whole_add.2.1 52 (.getfield 15) 3 55 := ⟨by decide +kernel, rfl⟩
theorem d_Whole_add_55 : db m_Whole_add.2.1 55 (.if_icmp .ge) 68 58 := ⟨13, by decide +kernel, by decide, rfl⟩
theorem d_Whole_add_58 : dn m_Whole_add.2.1 58 (.aload_n 1) 1 59 := ⟨by decide +kernel, rfl⟩
theorem d_Whole_add_59 : dn m_Whole_add.2.1 59 (.getfield 9) 3 62 := ⟨by decide +kernel, rfl⟩
theorem d_Whole_add_62 : dn m_Whole_add.2.1 62 (.iload 4) 2 64 := ⟨by decide +kernel, rfl⟩
theorem d_Whole_add_64 : dn m_Whole_add.2.1 64 (.iaload) 1 65 := ⟨by decide +kernel, rfl⟩
theorem d_Whole_add_65 : db m_Whole_add.2.1 65 (.goto) 69 68 := ⟨4, by decide +kernel, by decide, rfl⟩
theorem d_Whole_add_68 : dn m_Whole_add.2.1 68 (.iconst 0) 1 69 := ⟨by decide +kernel, rfl⟩
theorem d_Whole_add_69 : dn m_Whole_add.2.1 69 (.iadd) 1 70 := ⟨by decide +kernel, rfl⟩
theorem d_Whole_add_70 : dn m_Whole_add.2.1 70 (.istore 5) 2 72 := ⟨by decide +kernel, rfl⟩
theorem d_Whole_add_72 : dn m_Whole_add.2.1 72 (.iload 5) 2 74 := ⟨by decide +kernel, rfl⟩
theorem d_Whole_add_74 : dn m_Whole_add.2.1 74 (.ldc 38) 2 76 := ⟨by decide +kernel, rfl⟩
theorem d_Whole_add_76 : db m_Whole_add.2.1 76 (.if_icmp .lt) 83 79 := ⟨7, by decide +kernel, by decide, rfl⟩
theorem d_Whole_add_79 : dn m_Whole_add.2.1 79 (.iconst 1) 1 80 := ⟨by decide +kernel, rfl⟩
theorem d_Whole_add_80 : db m_Whole_add.2.1 80 (.goto) 84 83 := ⟨4, by decide +kernel, by decide, rfl⟩
theorem d_Whole_add_83 : dn m_Whole_add.2.1 83 (.iconst 0) 1 84 := ⟨by decide +kernel, rfl⟩
theorem d_Whole_add_84 : dn m_Whole_add.2.1 84 (.istore_n 3) 1 85 := ⟨by decide +kernel, rfl⟩
theorem d_Whole_add_85 : dn m_Whole_add.2.1 85 (.aload_n 0) 1 86 := ⟨by decide +kernel, rfl⟩
theorem d_Whole_add_86 : dn m_Whole_add.2.1 86 (.getfield 9) 3 89 := ⟨by decide +kernel, rfl⟩
theorem d_Whole_add_89 : dn m_Whole_add.2.1 89 (.iload 4) 2 91 := ⟨by decide +kernel, rfl⟩
theorem d_Whole_add_91 : dn m_Whole_add.2.1 91 (.iload 5) 2 93 := ⟨by decide +kernel, rfl⟩
theorem d_Whole_add_93 : dn m_Whole_add.2.1 93 (.iload_n 3) 1 94 := ⟨by decide +kernel, rfl⟩
theorem d_Whole_add_94 : dn m_Whole_add.2.1 94 (.ldc 38) 2 96 := ⟨by decide +kernel, rfl⟩
theorem d_Whole_add_96 : dn m_Whole_add.2.1 96 (.imul) 1 97 := ⟨by decide +kernel, rfl⟩
theorem d_Whole_add_97 : dn m_Whole_add.2.1 97 (.isub) 1 98 := ⟨by decide +kernel, rfl⟩
theorem d_Whole_add_98 : dn m_Whole_add.2.1 98 (.iastore) 1 99 := ⟨by decide +kernel, rfl⟩
theorem d_Whole_add_99 : dn m_Whole_add.2.1 99 (.iload_n 2) 1 100 := ⟨by decide +kernel, rfl⟩
theorem d_Whole_add_100 : dn m_Whole_add.2.1 100 (.iload 4) 2 102 := ⟨by decide +kernel, rfl⟩
theorem d_Whole_add_102 : dn m_Whole_add.2.1 102 (.iconst 1) 1 103 := ⟨by decide +kernel, rfl⟩
theorem d_Whole_add_103 : dn m_Whole_add.2.1 103 (.iadd) 1 104 := ⟨by decide +kernel, rfl⟩
theorem d_Whole_add_104 : dn m_Whole_add.2.1 104 (.invokestatic 33) 3 107 := ⟨by decide +kernel, rfl⟩
theorem d_Whole_add_107 : dn m_Whole_add.2.1 107 (.istore_n 2) 1 108 := ⟨by decide +kernel, rfl⟩
theorem d_Whole_add_108 : dn m_Whole_add.2.1 108 (.iinc 4 1) 3 111 := ⟨by decide +kernel, rfl⟩
theorem d_Whole_add_111 : db m_Whole_add.2.1 111 (.goto) 17 114 := ⟨(-94), by decide +kernel, by decide, rfl⟩
theorem d_Whole_add_114 : dn m_Whole_add.2.1 114 (.aload_n 0) 1 115 := ⟨by decide +kernel, rfl⟩
theorem d_Whole_add_115 : dn m_Whole_add.2.1 115 (.iload_n 2) 1 116 := ⟨by decide +kernel, rfl⟩
theorem d_Whole_add_116 : dn m_Whole_add.2.1 116 (.putfield 15) 3 119 := ⟨by decide +kernel, rfl⟩
theorem d_Whole_add_119 : dn m_Whole_add.2.1 119 (.return_) 1 120 := ⟨by decide +kernel, rfl⟩
theorem sp_Whole_add {l : Launch} {K : KC} {M : AH} {q r cap c2 v w : Nat} (hq : wv K M q cap v) (hr : wv K M r c2 w) (hne : r ≠ q) (hs : ((v + w : Nat) : Int) < pw cap) (hcap : cap ≤ 1000) (hc2 : c2 ≤ 1000) :
    Sp l K m_Whole_add 1 0 0 [.ref q, .ref r] M (fun x M' => x = none ∧ wv K M' q cap (v + w) ∧ frW M M' q) := by
  refine Sp.ofG R_Whole rfl (by decide) [some (.ref q), some (.ref r), none, none, none, none] rfl (Nat.le_of_ble_eq_true rfl) ?_
  intro X hl hK hN hR hC hQ
  subst hl hK
  obtain ⟨n, f, hW0, hn, hrep⟩ := hq
  obtain ⟨m, g, hO0, hm, hrep2⟩ := hr
  have hN0 : max n m ≤ cap := by
    by_cases e : max n m = 0
    · omega
    · have := rep_max hrep hrep2 e
      have := pow_lt_of (Int.lt_of_le_of_lt this hs)
      omega
  have key : ∀ (j k : Nat) (cy : Int) (f' : Int → Int) (M' : AH), j + k = max n m + 1 → (cy = 0 ∨ cy = 1) → (k ≤ max n m ∨ (cy = 0 ∧ pw (max n m) ≤ ((v + w : Nat) : Int))) → isW X.K M' q cap n f' → dg f' k → (∀ i : Int, (k : Int) ≤ i → f' i = f i) → vl f' k + cy * pw k = vl (lx f n) k + vl (lx g m) k → frW M M' q → G X 0 0 M' 17 [some (.ref q), some (.ref r), some (iv (max (max n m) k : Nat)), some (iv cy), some (iv k), none] [] := by
    intro j
    induction j with
    | zero =>
      intro k cy f' M' hj hcy hk hW hd hfe hv hf
      refine g_iload hC rfl d_Whole_add_17 ?_
      refine g_iload_n hC rfl d_Whole_add_19 ?_
      refine g_icmp_lt hC (by unfold I32; omega) (by unfold I32; omega) d_Whole_add_20 (fun c => ?_) (fun c => ?_)
      · omega
      · refine g_iload_n hC rfl d_Whole_add_23 ?_
        refine g_if_le hC (by unfold I32; omega) d_Whole_add_24 (fun c => ?_) (fun c => ?_)
        · have hO := hO0.oth hW0 hf hne
          refine g_aload_n hC rfl d_Whole_add_114 ?_
          refine g_iload_n hC rfl d_Whole_add_115 ?_
          refine g_put hC fb_Whole_15 hW.1 rfl rfl (Nat.le_of_ble_eq_true rfl) d_Whole_add_116 ?_
          have e2 : max (max n m) k = k := by omega
          rw [e2]
          rw [vl_lx (by omega), vl_lx (by omega), hrep.2.2, hrep2.2.2] at hv
          have hcy0 : cy = 0 := by omega
          rw [hcy0] at hv
          have hvv : vl f' k = ((v + w : Nat) : Int) := by omega
          have hk1 : k = max n m + 1 := by omega
          refine g_vret hC hQ (by decide) (by decide) d_Whole_add_119 ⟨rfl, ⟨k, f', hW.sz, ?_, hd, tpn_of_ge hd (Or.inr ?_), hvv⟩, hf.o⟩
          · rcases hk with h | h
            · omega
            · have := pow_lt_of (Int.lt_of_le_of_lt h.2 hs)
              omega
          · rw [hvv, show k - 1 = max n m by omega]
            rcases hk with h | h
            · omega
            · exact h.2
        · omega
    | succ j ih =>
      intro k cy f' M' hj hcy hk hW hd hfe hv hf
      have hO := hO0.oth hW0 hf hne
      have body : (k < max n m ∨ 0 < cy) → G X 0 0 M' 27 [some (.ref q), some (.ref r), some (iv (max (max n m) k : Nat)), some (iv cy), some (iv k), none] [] := by
        intro hgo
        have hkc : k < cap := by
          by_cases e : k < max n m
          · omega
          · have hcy1 : cy = 1 := by omega
            rw [vl_lx (by omega), vl_lx (by omega), hrep.2.2, hrep2.2.2, hcy1] at hv
            have := vl_nonneg hd
            exact pow_lt_of (by omega)
        have hb1 := lx_dg hrep.1 k
        have hb2 := lx_dg hrep2.1 k
        have J3 : ∀ c' : Int, (c' = 0 ∧ cy + lx f n k + lx g m k < 1000000000) ∨ (c' = 1 ∧ 1000000000 ≤ cy + lx f n k + lx g m k) → G X 0 0 M' 84 [some (.ref q), some (.ref r), some (iv (max (max n m) k : Nat)), some (iv cy), some (iv k), some (iv (cy + lx f n k + lx g m k))] [iv c'] := by
          intro c' hc'
          first | refine g_ist3 hC d_Whole_add_84 rfl (hN 3 rfl) ?_ | (refine g_fg2 ?_; refine g_ist3 hC d_Whole_add_84 rfl (hN 3 rfl) ?_)
          refine g_aload_n hC rfl d_Whole_add_85 ?_
          refine g_get hC fb_Whole_9 hW.1 rfl d_Whole_add_86 ?_
          refine g_iload hC rfl d_Whole_add_89 ?_
          refine g_iload hC rfl d_Whole_add_91 ?_
          refine g_iload_n hC rfl d_Whole_add_93 ?_
          refine g_ldc (z := 1000000000) hC cn_Whole_38 (by decide) d_Whole_add_94 ?_
          refine g_imul hC d_Whole_add_96 ?_
          refine g_isub hC d_Whole_add_97 ?_
          refine g_iast hC hW.2 (by omega) (by omega) (by omega) d_Whole_add_98 ?_
          replace hf := hf.a (e := oI X.K cap (up f' k (cy + lx f n k + lx g m k - c' * 1000000000)))
          replace hW := hW.st (f' := up f' k (cy + lx f n k + lx g m k - c' * 1000000000))
          refine g_iload_n hC rfl d_Whole_add_99 ?_
          refine g_iload hC rfl d_Whole_add_100 ?_
          refine g_iconst hC d_Whole_add_102 ?_
          refine g_iadd hC d_Whole_add_103 ?_
          refine g_callS2 hC (sp_max (by unfold I32; omega) (by unfold I32; omega)) oc_Math_max os_Math_max ml_Whole_33 hR (by decide) (by decide) (by decide) (by decide) (by decide) d_Whole_add_104 (fun r M hp => ?_)
          obtain ⟨rfl, rfl⟩ := hp
          refine g_sv ?_
          first | refine g_ist2 hC d_Whole_add_107 rfl (hN 2 rfl) ?_ | (refine g_fg1 ?_; refine g_ist2 hC d_Whole_add_107 rfl (hN 2 rfl) ?_)
          refine g_inc4 hC d_Whole_add_108 rfl (hN 4 rfl) ?_
          refine g_goto hC d_Whole_add_111 ?_
          rw [show max ((max (max n m) k : Nat) : Int) ((k : Int) + 1) = ((max (max n m) (k + 1) : Nat) : Int) by omega, show (k : Int) + 1 = ((k + 1 : Nat) : Int) by omega]
          refine g_fg5 ?_
          refine ih (k + 1) c' _ _ (by omega) (by omega) ?_ hW (dg_up hd (by omega) (by omega)) (fun i hi => ?_) ?_ hf
          · by_cases e : k < max n m
            · exact Or.inl (by omega)
            · have hcy1 : cy = 1 := by omega
              rw [lx_out (by omega), lx_out (by omega)] at hc'
              rw [vl_lx (by omega), vl_lx (by omega), hrep.2.2, hrep2.2.2, hcy1, show k = max n m by omega] at hv
              have := vl_nonneg hd
              rw [show k = max n m by omega] at this
              exact Or.inr ⟨by omega, by omega⟩
          · rw [up_n (by omega)]
            exact hfe i (by omega)
          · rw [vl_ups, pw_s, vl_s, vl_s]
            exact stp_add hv (by omega)
        have J2 : G X 0 0 M' 70 [some (.ref q), some (.ref r), some (iv (max (max n m) k : Nat)), some (iv cy), some (iv k), none] [iv (cy + lx f n k + lx g m k)] := by
          first | refine g_ist5 hC d_Whole_add_70 rfl (hN 5 rfl) ?_ | (refine g_fg4 ?_; refine g_ist5 hC d_Whole_add_70 rfl (hN 5 rfl) ?_)
          refine g_iload hC rfl d_Whole_add_72 ?_
          refine g_ldc (z := 1000000000) hC cn_Whole_38 (by decide) d_Whole_add_74 ?_
          refine g_icmp_lt hC (by unfold I32; omega) (by unfold I32; omega) d_Whole_add_76 (fun c => ?_) (fun c => ?_)
          · refine g_iconst hC d_Whole_add_83 ?_
            exact J3 0 (Or.inl ⟨rfl, c⟩)
          · refine g_iconst hC d_Whole_add_79 ?_
            refine g_goto hC d_Whole_add_80 ?_
            exact J3 1 (Or.inr ⟨rfl, by omega⟩)
        have J1 : G X 0 0 M' 48 [some (.ref q), some (.ref r), some (iv (max (max n m) k : Nat)), some (iv cy), some (iv k), none] [iv (lx f n k), iv cy] := by
          refine g_iadd hC d_Whole_add_48 ?_
          refine g_iload hC rfl d_Whole_add_49 ?_
          refine g_aload_n hC rfl d_Whole_add_51 ?_
          refine g_get hC fb_Whole_15 hO.1 rfl d_Whole_add_52 ?_
          refine g_icmp_ge hC (by unfold I32; omega) (by unfold I32; omega) d_Whole_add_55 (fun c => ?_) (fun c => ?_)
          · refine g_iconst hC d_Whole_add_68 ?_
            refine g_iadd hC d_Whole_add_69 ?_
            rw [lx_out (by omega : ¬ (k : Int) < m)] at J2
            exact J2
          · rw [lx_in (by omega : (k : Int) < m)] at J2
            refine g_aload_n hC rfl d_Whole_add_58 ?_
            refine g_get hC fb_Whole_9 hO.1 rfl d_Whole_add_59 ?_
            refine g_iload hC rfl d_Whole_add_62 ?_
            refine g_iald hC hO.2 (by omega) (by omega) (by omega) d_Whole_add_64 ?_
            refine g_goto hC d_Whole_add_65 ?_
            refine g_iadd hC d_Whole_add_69 ?_
            exact J2
        refine g_iload_n hC rfl d_Whole_add_27 ?_
        refine g_iload hC rfl d_Whole_add_28 ?_
        refine g_aload_n hC rfl d_Whole_add_30 ?_
        refine g_get hC fb_Whole_15 hW.1 rfl d_Whole_add_31 ?_
        refine g_icmp_ge hC (by unfold I32; omega) (by unfold I32; omega) d_Whole_add_34 (fun c => ?_) (fun c => ?_)
        · rw [lx_out (by omega : ¬ (k : Int) < n)] at J1
          refine g_iconst hC d_Whole_add_47 ?_
          exact J1
        · rw [lx_in (by omega : (k : Int) < n)] at J1
          refine g_aload_n hC rfl d_Whole_add_37 ?_
          refine g_get hC fb_Whole_9 hW.1 rfl d_Whole_add_38 ?_
          refine g_iload hC rfl d_Whole_add_41 ?_
          refine g_iald hC hW.2 (by omega) (by omega) (by omega) d_Whole_add_43 ?_
          refine g_goto hC d_Whole_add_44 ?_
          rw [hfe k (Int.le_refl _)]
          exact J1
      refine g_iload hC rfl d_Whole_add_17 ?_
      refine g_iload_n hC rfl d_Whole_add_19 ?_
      refine g_icmp_lt hC (by unfold I32; omega) (by unfold I32; omega) d_Whole_add_20 (fun c => ?_) (fun c => ?_)
      · exact body (by omega)
      · refine g_iload_n hC rfl d_Whole_add_23 ?_
        refine g_if_le hC (by unfold I32; omega) d_Whole_add_24 (fun c2 => ?_) (fun c2 => ?_)
        · refine g_aload_n hC rfl d_Whole_add_114 ?_
          refine g_iload_n hC rfl d_Whole_add_115 ?_
          refine g_put hC fb_Whole_15 hW.1 rfl rfl (Nat.le_of_ble_eq_true rfl) d_Whole_add_116 ?_
          have e2 : max (max n m) k = max n m := by omega
          rw [e2]
          have hkm : k = max n m := by omega
          have hcy0 : cy = 0 := by omega
          rw [vl_lx (by omega), vl_lx (by omega), hrep.2.2, hrep2.2.2, hcy0] at hv
          have hvv : vl f' k = ((v + w : Nat) : Int) := by omega
          rw [← hkm]
          refine g_vret hC hQ (by decide) (by decide) d_Whole_add_119 ⟨rfl, ⟨k, f', hW.sz, by omega, hd, tpn_of_ge hd ?_, hvv⟩, hf.o⟩
          by_cases e : k = 0
          · exact Or.inl e
          · rw [hvv, hkm]; exact Or.inr (rep_max hrep hrep2 (by omega))
        · exact body (by omega)
  refine g_aload_n hC rfl d_Whole_add_0 ?_
  refine g_get hC fb_Whole_15 hW0.1 rfl d_Whole_add_1 ?_
  refine g_aload_n hC rfl d_Whole_add_4 ?_
  refine g_get hC fb_Whole_15 hO0.1 rfl d_Whole_add_5 ?_
  refine g_callS2 hC (sp_max (by unfold I32; omega) (by unfold I32; omega)) oc_Math_max os_Math_max ml_Whole_33 hR (by decide) (by decide) (by decide) (by decide) (by decide) d_Whole_add_8 (fun r M hp => ?_)
  obtain ⟨rfl, rfl⟩ := hp
  refine g_sv ?_
  rw [show max (n : Int) (m : Int) = ((max (max n m) 0 : Nat) : Int) by omega]
  first | refine g_ist2 hC d_Whole_add_11 rfl (hN 2 rfl) ?_ | (refine g_fg1 ?_; refine g_ist2 hC d_Whole_add_11 rfl (hN 2 rfl) ?_)
  refine g_iconst hC d_Whole_add_12 ?_
  first | refine g_ist3 hC d_Whole_add_13 rfl (hN 3 rfl) ?_ | (refine g_fg2 ?_; refine g_ist3 hC d_Whole_add_13 rfl (hN 3 rfl) ?_)
  refine g_iconst hC d_Whole_add_14 ?_
  first | refine g_ist4 hC d_Whole_add_15 rfl (hN 4 rfl) ?_ | (refine g_fg3 ?_; refine g_ist4 hC d_Whole_add_15 rfl (hN 4 rfl) ?_)
  exact key (max n m + 1) 0 0 f M (by omega) (Or.inl rfl) (Or.inl (by omega)) hW0 (fun i hi => by omega) (fun i _ => rfl) (by rw [vl_0, vl_0, vl_0]; omega) frW.rf
