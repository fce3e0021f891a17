/-! Desk: round -/
def rup (rule : Int) (neg : Bool) (h : Int) (odd : Bool) : Bool := if rule = 0 then neg else if rule = 1 then !neg else decide (0 < h) || (decide (h = 0) && (if rule = 2 then !neg else odd))
def rdn (rule : Int) (neg : Bool) (A b : Nat) : Nat := A / b + (if rup rule neg (cz ((A % b * 2 : Nat) : Int) (b : Int)) (decide (A / b % 2 = 1)) = true ∧ A % b ≠ 0 then 1 else 0)
def rnd (rule : Int) (k : Nat) (x : Rat) : Rat := mkRat (sg (decide (x.num < 0)) (rdn rule (decide (x.num < 0)) (x.num.natAbs * k) x.den)) k
theorem rdn_0 (rule : Int) (neg : Bool) (b : Nat) : rdn rule neg 0 b = 0 := by
  unfold rdn
  rw [Nat.zero_div, Nat.zero_mod, if_neg (fun h => h.2 rfl)]
theorem isQ.neg {mi : Bool} {a b : Nat} {x : Rat} (h : isQ mi a b x) (h0 : a ≠ 0) : decide (x.num < 0) = mi := by
  have := h.2.2 h0
  cases mi with
  | true => exact decide_eq_true (this.mp rfl)
  | false => exact decide_eq_false (fun q => absurd (this.mpr q) (by decide))
theorem rnd_eq {mi : Bool} {a b : Nat} {x : Rat} (h : isQ mi a b x) (rule : Int) (k : Nat) (ng : Bool) (hn : a ≠ 0 → ng = mi) : mkRat (sg mi (rdn rule ng (a * k) b)) k = rnd rule k x := by
  unfold rnd
  rw [← h.1, ← h.2.1]
  by_cases h0 : a = 0
  · subst h0
    rw [Nat.zero_mul, rdn_0, rdn_0, sg_0, sg_0]
  · rw [h.neg h0, hn h0]
theorem rdn_le (rule : Int) (neg : Bool) (A b : Nat) : rdn rule neg A b ≤ A + 1 := by
  unfold rdn
  have := Nat.div_le_self A b
  split <;> omega
theorem DK.f3y {K : KC} {M M' : AH} {d : Nat} {mi : Bool} {un : Int} (h : DK K M d mi un) (hf : fr3 M M' (d + 6) (d + 8) (d + 12)) (hx : wx K M' (d + 6) 740) (hy : wx K M' (d + 8) 740) (hs : wx K M' (d + 12) 740) : DK K M' d mi un := by
  obtain ⟨h1, h2, h3, h4, h5, h6, h7, h8⟩ := h
  have e : ∀ p, p ≠ d + 6 → p ≠ d + 6 + 1 → p ≠ d + 8 → p ≠ d + 8 + 1 → p ≠ d + 12 → p ≠ d + 12 + 1 → M'.1 p = M.1 p := hf.2
  have e' : ∀ p, p < d + 6 ∨ d + 10 ≤ p ∧ p < d + 12 → M'.1 p = M.1 p := fun p hp => e p (by omega) (by omega) (by omega) (by omega) (by omega) (by omega)
  exact ⟨(e' _ (by omega)).trans h1, (e' _ (by omega)).trans h2, h3.eq (e' _ (by omega)) (e' _ (by omega)), h4.eq (e' _ (by omega)) (e' _ (by omega)), hx, hy, h7.eq (e' _ (by omega)) (e' _ (by omega)), hs⟩
theorem d_Desk_round_0 : dn m_Desk_round.2.1 0 (.aload_n 0) 1 1 := ⟨by decide +kernel, rfl⟩
theorem d_Desk_round_1 : dn m_Desk_round.2.1 1 (.getfield 14) 3 4 := ⟨by decide +kernel, rfl⟩
theorem d_Desk_round_4 : dn m_Desk_round.2.1 4 (.invokevirtual 89) 3 7 := ⟨by decide +kernel, rfl⟩
theorem d_Desk_round_7 : db m_Desk_round.2.1 7 (.ifCond .ge) 14 10 := ⟨7, by decide +kernel, by decide, rfl⟩
theorem d_Desk_round_10 : dn m_Desk_round.2.1 10 (.iconst 1) 1 11 := ⟨by decide +kernel, rfl⟩
theorem d_Desk_round_11 : db m_Desk_round.2.1 11 (.goto) 15 14 := ⟨4, by decide +kernel, by decide, rfl⟩
theorem d_Desk_round_14 : dn m_Desk_round.2.1 14 (.iconst 0) 1 15 := ⟨by decide +kernel, rfl⟩
theorem d_Desk_round_15 : dn m_Desk_round.2.1 15 (.istore_n 3) 1 16 := ⟨by decide +kernel, rfl⟩
theorem d_Desk_round_16 : dn m_Desk_round.2.1 16 (.aload_n 0) 1 17 := ⟨by decide +kernel, rfl⟩
theorem d_Desk_round_17 : dn m_Desk_round.2.1 17 (.getfield 23) 3 20 := ⟨by decide +kernel, rfl⟩
theorem d_Desk_round_20 : dn m_Desk_round.2.1 20 (.aload_n 0) 1 21 := ⟨by decide +kernel, rfl⟩
theorem d_Desk_round_21 : dn m_Desk_round.2.1 21 (.getfield 14) 3 24 := ⟨by decide +kernel, rfl⟩
theorem d_Desk_round_24 : dn m_Desk_round.2.1 24 (.getfield 39) 3 27 := ⟨by decide +kernel, rfl⟩
theorem d_Desk_round_27 : dn m_Desk_round.2.1 27 (.invokevirtual 64) 3 30 := ⟨by decide +kernel, rfl⟩
theorem d_Desk_round_30 : dn m_Desk_round.2.1 30 (.aload_n 0) 1 31 := ⟨by decide +kernel, rfl⟩
theorem d_Desk_round_31 : dn m_Desk_round.2.1 31 (.getfield 23) 3 34 := ⟨by decide +kernel, rfl⟩
theorem d_Desk_round_34 : dn m_Desk_round.2.1 34 (.iload_n 2) 1 35 := ⟨by decide +kernel, rfl⟩
theorem d_Desk_round_35 : dn m_Desk_round.2.1 35 (.invokevirtual 86) 3 38 := ⟨by decide +kernel, rfl⟩
theorem d_Desk_round_38 : dn m_Desk_round.2.1 38 (.aload_n 0) 1 39 := ⟨by decide +kernel, rfl⟩
theorem d_Desk_round_39 : dn m_Desk_round.2.1 39 (.getfield 23) 3 42 := ⟨by decide +kernel, rfl⟩
theorem d_Desk_round_42 : dn m_Desk_round.2.1 42 (.aload_n 0) 1 43 := ⟨by decide +kernel, rfl⟩
theorem d_Desk_round_43 : dn m_Desk_round.2.1 43 (.getfield 14) 3 46 := ⟨by decide +kernel, rfl⟩
theorem d_Desk_round_46 : dn m_Desk_round.2.1 46 (.getfield 46) 3 49 := ⟨by decide +kernel, rfl⟩
theorem d_Desk_round_49 : dn m_Desk_round.2.1 49 (.aload_n 0) 1 50 := ⟨by decide +kernel, rfl⟩
theorem d_Desk_round_50 : dn m_Desk_round.2.1 50 (.getfield 27) 3 53 := ⟨by decide +kernel, rfl⟩
theorem d_Desk_round_53 : dn m_Desk_round.2.1 53 (.aload_n 0) 1 54 := ⟨by decide +kernel, rfl⟩
theorem d_Desk_round_54 : dn m_Desk_round.2.1 54 (.getfield 33) 3 57 := ⟨by decide +kernel, rfl⟩
theorem d_Desk_round_57 : dn m_Desk_round.2.1 57 (.invokevirtual 68) 3 60 := ⟨by decide +kernel, rfl⟩
theorem d_Desk_round_60 : dn m_Desk_round.2.1 60 (.aload_n 0) 1 61 := ⟨by decide +kernel, rfl⟩
theorem d_Desk_round_61 : dn m_Desk_round.2.1 61 (.getfield 23) 3 64 := ⟨by decide +kernel, rfl⟩
theorem d_Desk_round_64 : dn m_Desk_round.2.1 64 (.invokevirtual 60) 3 67 := ⟨by decide +kernel, rfl⟩
theorem d_Desk_round_67 : dn m_Desk_round.2.1 67 (.istore 4) 2 69 := ⟨by decide +kernel, rfl⟩
theorem d_Desk_round_69 : dn m_Desk_round.2.1 69 (.aload_n 0) 1 70 := ⟨by decide +kernel, rfl⟩
theorem d_Desk_round_70 : dn m_Desk_round.2.1 70 (.getfield 23) 3 73 := ⟨by decide +kernel, rfl⟩
theorem d_Desk_round_73 : dn m_Desk_round.2.1 73 (.iconst 2) 1 74 := ⟨by decide +kernel, rfl⟩
theorem d_Desk_round_74 : dn m_Desk_round.2.1 74 (.invokevirtual 86) 3 77 := ⟨by decide +kernel, rfl⟩
theorem d_Desk_round_77 : dn m_Desk_round.2.1 77 (.aload_n 0) 1 78 := ⟨by decide +kernel, rfl⟩
theorem d_Desk_round_78 : dn m_Desk_round.2.1 78 (.getfield 23) 3 81 := ⟨by decide +kernel, rfl⟩
theorem d_Desk_round_81 : dn m_Desk_round.2.1 81 (.aload_n 0) 1 82 := ⟨by decide +kernel, rfl⟩
theorem d_Desk_round_82 : dn m_Desk_round.2.1 82 (.getfield 14) 3 85 := ⟨by decide +kernel, rfl⟩
theorem d_Desk_round_85 : dn m_Desk_round.2.1 85 (.getfield 46) 3 88 := ⟨by decide +kernel, rfl⟩
theorem d_Desk_round_88 : dn m_Desk_round.2.1 88 (.invokevirtual 79) 3 91 := ⟨by decide +kernel, rfl⟩
theorem d_Desk_round_91 : dn m_Desk_round.2.1 91 (.istore 5) 2 93 := ⟨by decide +kernel, rfl⟩
theorem d_Desk_round_93 : dn m_Desk_round.2.1 93 (.iload_n 1) 1 94 := ⟨by decide +kernel, rfl⟩
theorem d_Desk_round_94 : db m_Desk_round.2.1 94 (.ifCond .ne) 101 97 := ⟨7, by decide +kernel, by decide, rfl⟩
theorem d_Desk_round_97 : dn m_Desk_round.2.1 97 (.iload_n 3) 1 98 := ⟨by decide +kernel, rfl⟩
theorem d_Desk_round_98 : db m_Desk_round.2.1 98 (.goto) 155 101 := ⟨57, by decide +kernel, by decide, rfl⟩
theorem d_Desk_round_101 : dn m_Desk_round.2.1 101 (.iload_n 1) 1 102 := ⟨by decide +kernel, rfl⟩
theorem d_Desk_round_102 : dn m_Desk_round.2.1 102 (.iconst 1) 1 103 := ⟨by decide +kernel, rfl⟩
theorem d_Desk_round_103 : db m_Desk_round.2.1 103 (.if_icmp .ne) 118 106 := ⟨15, by decide +kernel, by decide, rfl⟩
theorem d_Desk_round_106 : dn m_Desk_round.2.1 106 (.iload_n 3) 1 107 := ⟨by decide +kernel, rfl⟩
theorem d_Desk_round_107 : db m_Desk_round.2.1 107 (.ifCond .ne) 114 110 := ⟨7, by decide +kernel, by decide, rfl⟩
theorem d_Desk_round_110 : dn m_Desk_round.2.1 110 (.iconst 1) 1 111 := ⟨by decide +kernel, rfl⟩
theorem d_Desk_round_111 : db m_Desk_round.2.1 111 (.goto) 155 114 := ⟨44, by decide +kernel, by decide, rfl⟩
theorem d_Desk_round_114 : dn m_Desk_round.2.1 114 (.iconst 0) 1 115 := ⟨by decide +kernel, rfl⟩
theorem d_Desk_round_115 : db m_Desk_round.2.1 115 (.goto) 155 118 := ⟨40, by decide +kernel, by decide, rfl⟩
theorem d_Desk_round_118 : dn m_Desk_round.2.1 118 (.iload 5) 2 120 := ⟨by decide +kernel, rfl⟩
theorem d_Desk_round_120 : db m_Desk_round.2.1 120 (.ifCond .gt) 150 123 := ⟨30, by decide +kernel, by decide, rfl⟩
theorem d_Desk_round_123 : dn m_Desk_round.2.1 123 (.iload 5) 2 125 := ⟨by decide +kernel, rfl⟩
theorem d_Desk_round_125 : db m_Desk_round.2.1 125 (.ifCond .ne) 154 128 := ⟨29, by decide +kernel, by decide, rfl⟩
theorem d_Desk_round_128 : dn m_Desk_round.2.1 128 (.iload_n 1) 1 129 := ⟨by decide +kernel, rfl⟩
theorem d_Desk_round_129 : dn m_Desk_round.2.1 129 (.iconst 2) 1 130 := ⟨by decide +kernel, rfl⟩
theorem d_Desk_round_130 : db m_Desk_round.2.1 130 (.if_icmp .ne) 140 133 := ⟨10, by decide +kernel, by decide, rfl⟩
theorem d_Desk_round_133 : dn m_Desk_round.2.1 133 (.iload_n 3) 1 134 := ⟨by decide +kernel, rfl⟩
theorem d_Desk_round_134 : db m_Desk_round.2.1 134 (.ifCond .ne) 154 137 := ⟨20, by decide +kernel, by decide, rfl⟩
theorem d_Desk_round_137 : db m_Desk_round.2.1 137 (.goto) 150 140 := ⟨13, by decide +kernel, by decide, rfl⟩
theorem d_Desk_round_140 : dn m_Desk_round.2.1 140 (.aload_n 0) 1 141 := ⟨by decide +kernel, rfl⟩
theorem d_Desk_round_141 : dn m_Desk_round.2.1 141 (.getfield 27) 3 144 := ⟨by decide +kernel, rfl⟩
theorem d_Desk_round_144 : dn m_Desk_round.2.1 144 (.invokevirtual 99) 3 147 := ⟨by decide +kernel, rfl⟩
theorem d_Desk_round_147 : db m_Desk_round.2.1 147 (.ifCond .eq) 154 150 := ⟨7, by decide +kernel, by decide, rfl⟩
theorem d_Desk_round_150 : dn m_Desk_round.2.1 150 (.iconst 1) 1 151 := ⟨by decide +kernel, rfl⟩
theorem d_Desk_round_151 : db m_Desk_round.2.1 151 (.goto) 155 154 := ⟨4, by decide +kernel, by decide, rfl⟩
theorem d_Desk_round_154 : dn m_Desk_round.2.1 154 (.iconst 0) 1 155 := ⟨by decide +kernel, rfl⟩
theorem d_Desk_round_155 : dn m_Desk_round.2.1 155 (.istore 6) 2 157 := ⟨by decide +kernel, rfl⟩
theorem d_Desk_round_157 : dn m_Desk_round.2.1 157 (.iload 6) 2 159 := ⟨by decide +kernel, rfl⟩
theorem d_Desk_round_159 : db m_Desk_round.2.1 159 (.ifCond .eq) 186 162 := ⟨27, by decide +kernel, by decide, rfl⟩
theorem d_Desk_round_162 : dn m_Desk_round.2.1 162 (.iload 4) 2 164 := ⟨by decide +kernel, rfl⟩
theorem d_Desk_round_164 : db m_Desk_round.2.1 164 (.ifCond .ne) 186 167 := ⟨22, by decide +kernel, by decide, rfl⟩
theorem d_Desk_round_167 : dn m_Desk_round.2.1 167 (.aload_n 0) 1 168 := ⟨by decide +kernel, rfl⟩
theorem d_Desk_round_168 : dn m_Desk_round.2.1 168 (.getfield 23) 3 171 := ⟨by decide +kernel, rfl⟩
theorem d_Desk_round_171 : dn m_Desk_round.2.1 171 (.lconst 1) 1 172 := ⟨by decide +kernel, rfl⟩
theorem d_Desk_round_172 : dn m_Desk_round.2.1 172 (.invokevirtual 42) 3 175 := ⟨by decide +kernel, rfl⟩
theorem d_Desk_round_175 : dn m_Desk_round.2.1 175 (.aload_n 0) 1 176 := ⟨by decide +kernel, rfl⟩
theorem d_Desk_round_176 : dn m_Desk_round.2.1 176 (.getfield 27) 3 179 := ⟨by decide +kernel, rfl⟩
theorem d_Desk_round_179 : dn m_Desk_round.2.1 179 (.aload_n 0) 1 180 := ⟨by decide +kernel, rfl⟩
theorem d_Desk_round_180 : dn m_Desk_round.2.1 180 (.getfield 23) 3 183 := ⟨by decide +kernel, rfl⟩
theorem d_Desk_round_183 : dn m_Desk_round.2.1 183 (.invokevirtual 76) 3 186 := ⟨by decide +kernel, rfl⟩
theorem d_Desk_round_186 : dn m_Desk_round.2.1 186 (.aload_n 0) 1 187 := ⟨by decide +kernel, rfl⟩
theorem d_Desk_round_187 : dn m_Desk_round.2.1 187 (.getfield 14) 3 190 := ⟨by decide +kernel, rfl⟩
theorem d_Desk_round_190 : dn m_Desk_round.2.1 190 (.getfield 39) 3 193 := ⟨by decide +kernel, rfl⟩
theorem d_Desk_round_193 : dn m_Desk_round.2.1 193 (.aload_n 0) 1 194 := ⟨by decide +kernel, rfl⟩
theorem d_Desk_round_194 : dn m_Desk_round.2.1 194 (.getfield 27) 3 197 := ⟨by decide +kernel, rfl⟩
theorem d_Desk_round_197 : dn m_Desk_round.2.1 197 (.invokevirtual 64) 3 200 := ⟨by decide +kernel, rfl⟩
theorem d_Desk_round_200 : dn m_Desk_round.2.1 200 (.aload_n 0) 1 201 := ⟨by decide +kernel, rfl⟩
theorem d_Desk_round_201 : dn m_Desk_round.2.1 201 (.getfield 14) 3 204 := ⟨by decide +kernel, rfl⟩
theorem d_Desk_round_204 : dn m_Desk_round.2.1 204 (.getfield 46) 3 207 := ⟨by decide +kernel, rfl⟩
theorem d_Desk_round_207 : dn m_Desk_round.2.1 207 (.iload_n 2) 1 208 := ⟨by decide +kernel, rfl⟩
theorem d_Desk_round_208 : dn m_Desk_round.2.1 208 (.i2l) 1 209 := ⟨by decide +kernel, rfl⟩
theorem d_Desk_round_209 : dn m_Desk_round.2.1 209 (.invokevirtual 42) 3 212 := ⟨by decide +kernel, rfl⟩
theorem d_Desk_round_212 : dn m_Desk_round.2.1 212 (.aload_n 0) 1 213 := ⟨by decide +kernel, rfl⟩
theorem d_Desk_round_213 : dn m_Desk_round.2.1 213 (.invokevirtual 57) 3 216 := ⟨by decide +kernel, rfl⟩
theorem d_Desk_round_216 : dn m_Desk_round.2.1 216 (.return_) 1 217 := ⟨by decide +kernel, rfl⟩
theorem sp_Desk_round {l : Launch} {K : KC} {M : AH} {d i k : Nat} {x : Rat} {un rule : Int} (hm : mdx K M d x un) (hk0 : 0 < k) (hk : k ≤ 1000000000) (hr0 : 0 ≤ rule) (hr3 : rule ≤ 3) (bx : bdq x i i) (hi : i + 4 ≤ 730) :
    Sp l K m_Desk_round 4 0 0 [.ref d, iv rule, iv k] M (fun r M' => r = none ∧ mdx K M' d (rnd rule k x) un ∧ frM M M' d) := by
  refine Sp.ofG R_Desk rfl (by decide) [some (.ref d), some (iv rule), some (iv k), none, none, none, none] rfl (Nat.le_of_ble_eq_true rfl) ?_
  intro X hl hK hN hR hC hQ
  subst hl hK
  obtain ⟨mi, a, b, hD, hA, hB, qx⟩ := hm
  have b1 := qx.bd bx
  have hb0 := qx.pos
  have hk2 : (k : Int) < pw 2 := by
    have : pw 2 = 1000000000000000000 := by decide
    omega
  have t1 := mul_lt_pw b1.1 hk2
  have t2 : ((a * k + 1 : Nat) : Int) < pw (i + 3) := by
    have := pw_s (i + 2)
    have := pw_pos (i + 2)
    show ((a * k + 1 : Nat) : Int) < pw (i + 2 + 1)
    omega
  have J : ∀ (ng : Bool), (a ≠ 0 → ng = mi) → G X 0 0 M 16 [some (.ref d), some (iv rule), some (iv k), some (iv (bz ng)), none, none, none] [] := by
    intro ng hng
    refine g_aload_n hC rfl d_Desk_round_16 ?_
    refine g_get hC fb_Desk_23 hD.o rfl d_Desk_round_17 ?_
    refine g_aload_n hC rfl d_Desk_round_20 ?_
    refine g_get hC fb_Desk_14 hD.o rfl d_Desk_round_21 ?_
    refine g_get hC fb_Desk_39 hD.m rfl d_Desk_round_24 ?_
    refine g_callV1 hC (sp_Whole_copy hD.x hA (Int.lt_of_lt_of_le b1.1 (pow_le (by omega))) (by omega) (by decide) (by decide)) oc_Whole_copy ov_Whole_copy ml_Desk_64 hD.x.rc.choose_spec rfl hR (Nat.le_of_ble_eq_true rfl) (Nat.le_of_ble_eq_true rfl) (Nat.le_of_ble_eq_true rfl) (Nat.le_of_ble_eq_true rfl) (Nat.le_of_ble_eq_true rfl) d_Desk_round_27 (fun r M1 hp => ?_)
    obtain ⟨rfl, hX1, f1⟩ := hp
    refine g_s0 ?_
    have D1 := hD.fw i6 f1 hX1.tox
    have F1 := (frM.rf).fw i6 f1
    have hB1 := hB.fr f1 (by omega) (by omega) (by omega)
    refine g_aload_n hC rfl d_Desk_round_30 ?_
    refine g_get hC fb_Desk_23 D1.o rfl d_Desk_round_31 ?_
    refine g_iload_n hC rfl d_Desk_round_34 ?_
    refine g_callV1 hC (sp_Whole_times hX1 hk (Int.lt_of_lt_of_le t1 (pow_le (by omega))) (by decide)) oc_Whole_times ov_Whole_times ml_Desk_86 hX1.rc.choose_spec rfl hR (Nat.le_of_ble_eq_true rfl) (Nat.le_of_ble_eq_true rfl) (Nat.le_of_ble_eq_true rfl) (Nat.le_of_ble_eq_true rfl) (Nat.le_of_ble_eq_true rfl) d_Desk_round_35 (fun r M2 hp => ?_)
    obtain ⟨rfl, hX2, f2⟩ := hp
    refine g_s0 ?_
    have D2 := D1.fw i6 f2 hX2.tox
    have F2 := F1.fw i6 f2
    have hB2 := hB1.fr f2 (by omega) (by omega) (by omega)
    refine g_aload_n hC rfl d_Desk_round_38 ?_
    refine g_get hC fb_Desk_23 D2.o rfl d_Desk_round_39 ?_
    refine g_aload_n hC rfl d_Desk_round_42 ?_
    refine g_get hC fb_Desk_14 D2.o rfl d_Desk_round_43 ?_
    refine g_get hC fb_Desk_46 D2.m rfl d_Desk_round_46 ?_
    refine g_aload_n hC rfl d_Desk_round_49 ?_
    refine g_get hC fb_Desk_27 D2.o rfl d_Desk_round_50 ?_
    refine g_aload_n hC rfl d_Desk_round_53 ?_
    refine g_get hC fb_Desk_33 D2.o rfl d_Desk_round_54 ?_
    generalize hAk : a * k = A at *
    refine g_callV3 hC (sp_Whole_divide (i := i + 2) hX2 hB2 D2.y D2.s (by omega) (by omega) (by omega) (by omega) (by omega) (by omega) hb0 t1 (by omega) (by omega) (by omega) (by decide) (by decide) (by decide) (by decide)) oc_Whole_divide ov_Whole_divide ml_Desk_68 hX2.rc.choose_spec rfl hR (Nat.le_of_ble_eq_true rfl) (Nat.le_of_ble_eq_true rfl) (Nat.le_of_ble_eq_true rfl) (Nat.le_of_ble_eq_true rfl) (Nat.le_of_ble_eq_true rfl) d_Desk_round_57 (fun r M3 hp => ?_)
    obtain ⟨rfl, hX3, hY3, hS3, f3⟩ := hp
    refine g_s0 ?_
    have D3 := D2.f3y f3 hX3.tox hY3.tox hS3
    have F3 : frM M M3 d := ⟨f3.1.trans F2.1, fun p hp => (f3.2 p (by omega) (by omega) (by omega) (by omega) (by omega) (by omega)).trans (F2.2 p hp)⟩
    have hB3 := hB2.eq (M' := M3) (f3.2 _ (by omega) (by omega) (by omega) (by omega) (by omega) (by omega)) (f3.2 _ (by omega) (by omega) (by omega) (by omega) (by omega) (by omega))
    have hml := Nat.mod_lt A hb0
    clear D1 D2 F1 F2 f1 f2 f3 hX1 hX2 hB1 hB2
    refine g_aload_n hC rfl d_Desk_round_60 ?_
    refine g_get hC fb_Desk_23 D3.o rfl d_Desk_round_61 ?_
    refine g_callV0 hC (sp_Whole_isNothing hX3 (by decide)) oc_Whole_isNothing ov_Whole_isNothing ml_Desk_60 hX3.rc.choose_spec rfl hR (Nat.le_of_ble_eq_true rfl) (Nat.le_of_ble_eq_true rfl) (Nat.le_of_ble_eq_true rfl) (Nat.le_of_ble_eq_true rfl) (Nat.le_of_ble_eq_true rfl) d_Desk_round_64 (fun r M3 hp => ?_)
    obtain ⟨rfl, rfl⟩ := hp
    refine g_sv ?_
    first | refine g_ist4 hC d_Desk_round_67 rfl (hN 4 rfl) ?_ | (refine g_fg3 ?_; refine g_ist4 hC d_Desk_round_67 rfl (hN 4 rfl) ?_)
    refine g_aload_n hC rfl d_Desk_round_69 ?_
    refine g_get hC fb_Desk_23 D3.o rfl d_Desk_round_70 ?_
    refine g_iconst hC d_Desk_round_73 ?_
    have t3 : ((A % b * 2 : Nat) : Int) < pw 740 := by
      have h1 : pw (i + 1) ≤ pw 740 := pow_le (by omega)
      have := pw_s i
      have := pw_pos i
      omega
    refine g_callV1 hC (sp_Whole_times hX3 (b := 2) (by omega) t3 (by decide)) oc_Whole_times ov_Whole_times ml_Desk_86 hX3.rc.choose_spec rfl hR (Nat.le_of_ble_eq_true rfl) (Nat.le_of_ble_eq_true rfl) (Nat.le_of_ble_eq_true rfl) (Nat.le_of_ble_eq_true rfl) (Nat.le_of_ble_eq_true rfl) d_Desk_round_74 (fun r M4 hp => ?_)
    obtain ⟨rfl, hX4, f4⟩ := hp
    refine g_s0 ?_
    have D4 := D3.fw i6 f4 hX4.tox
    have F4 := F3.fw i6 f4
    have hB4 := hB3.fr f4 (by omega) (by omega) (by omega)
    have hY4 := hY3.fr f4 (by omega) (by omega) (by omega)
    clear D3 F3 f4 hX3 hB3 hY3
    refine g_aload_n hC rfl d_Desk_round_77 ?_
    refine g_get hC fb_Desk_23 D4.o rfl d_Desk_round_78 ?_
    refine g_aload_n hC rfl d_Desk_round_81 ?_
    refine g_get hC fb_Desk_14 D4.o rfl d_Desk_round_82 ?_
    refine g_get hC fb_Desk_46 D4.m rfl d_Desk_round_85 ?_
    refine g_callV1 hC (sp_Whole_against hX4 hB4 (by decide) (by decide)) oc_Whole_against ov_Whole_against ml_Desk_79 hX4.rc.choose_spec rfl hR (Nat.le_of_ble_eq_true rfl) (Nat.le_of_ble_eq_true rfl) (Nat.le_of_ble_eq_true rfl) (Nat.le_of_ble_eq_true rfl) (Nat.le_of_ble_eq_true rfl) d_Desk_round_88 (fun r M4 hp => ?_)
    obtain ⟨rfl, rfl⟩ := hp
    refine g_sv ?_
    first | refine g_ist5 hC d_Desk_round_91 rfl (hN 5 rfl) ?_ | (refine g_fg4 ?_; refine g_ist5 hC d_Desk_round_91 rfl (hN 5 rfl) ?_)
    have hcz := cz_in ((A % b * 2 : Nat) : Int) (b : Int)
    obtain ⟨hf, ehf⟩ : ∃ hf, cz ((A % b * 2 : Nat) : Int) (b : Int) = hf := ⟨_, rfl⟩
    rw [ehf] at hcz ⊢
    -- the end, from made.above on
    have fin : ∀ (M5 : AH) (v : Nat) (o5 o6 : Option Value), DK X.K M5 d mi un → wv X.K M5 (d + 8) 740 v → v = rdn rule ng A b → frM M M5 d → G X 0 0 M5 186 [some (.ref d), some (iv rule), some (iv k), some (iv (bz ng)), some (iv (if A % b = 0 then 1 else 0)), o5, o6] [] := by
      intro M5 v o5 o6 D5 hY5 hv F5
      have hvl : (v : Int) < pw (i + 3) := by have := rdn_le rule ng A b; omega
      refine g_aload_n hC rfl d_Desk_round_186 ?_
      refine g_get hC fb_Desk_14 D5.o rfl d_Desk_round_187 ?_
      refine g_get hC fb_Desk_39 D5.m rfl d_Desk_round_190 ?_
      refine g_aload_n hC rfl d_Desk_round_193 ?_
      refine g_get hC fb_Desk_27 D5.o rfl d_Desk_round_194 ?_
      refine g_callV1 hC (sp_Whole_copy D5.a hY5 (Int.lt_of_lt_of_le hvl (pow_le (by omega))) (by omega) (by decide) (by decide)) oc_Whole_copy ov_Whole_copy ml_Desk_64 D5.a.rc.choose_spec rfl hR (Nat.le_of_ble_eq_true rfl) (Nat.le_of_ble_eq_true rfl) (Nat.le_of_ble_eq_true rfl) (Nat.le_of_ble_eq_true rfl) (Nat.le_of_ble_eq_true rfl) d_Desk_round_197 (fun r M6 hp => ?_)
      obtain ⟨rfl, hA6, f6⟩ := hp
      refine g_s0 ?_
      have D6 := D5.fw i2 f6 hA6.tox
      have F6 := F5.fw i2 f6
      refine g_aload_n hC rfl d_Desk_round_200 ?_
      refine g_get hC fb_Desk_14 D6.o rfl d_Desk_round_201 ?_
      refine g_get hC fb_Desk_46 D6.m rfl d_Desk_round_204 ?_
      refine g_iload_n hC rfl d_Desk_round_207 ?_
      refine g_i2l hC (by unfold I32; omega) d_Desk_round_208 ?_
      refine g_callV1 hC (sp_Whole_set (v := (k : Int)) D6.b (by unfold I64; omega) (by decide) (by decide)) oc_Whole_set ov_Whole_set ml_Desk_42 D6.b.rc.choose_spec rfl hR (Nat.le_of_ble_eq_true rfl) (Nat.le_of_ble_eq_true rfl) (Nat.le_of_ble_eq_true rfl) (Nat.le_of_ble_eq_true rfl) (Nat.le_of_ble_eq_true rfl) d_Desk_round_209 (fun r M7 hp => ?_)
      obtain ⟨rfl, hB7, f7⟩ := hp
      refine g_s0 ?_
      have D7 := D6.fw i4 f7 hB7.tox
      have F7 := F6.fw i4 f7
      have hA7 := hA6.fr f7 (by omega) (by omega) (by omega)
      rw [Int.natAbs_natCast] at hB7
      refine g_aload_n hC rfl d_Desk_round_212 ?_
      refine g_callV0 hC (sp_Desk_reduce D7 hA7 hB7 hk0 hvl (Int.lt_of_lt_of_le hk2 (pow_le (by omega))) (by omega)) oc_Desk_reduce ov_Desk_reduce ml_Desk_57 D7.o rfl hR (Nat.le_of_ble_eq_true rfl) (Nat.le_of_ble_eq_true rfl) (Nat.le_of_ble_eq_true rfl) (Nat.le_of_ble_eq_true rfl) (Nat.le_of_ble_eq_true rfl) d_Desk_round_213 (fun r M8 hp => ?_)
      obtain ⟨rfl, h8, f8⟩ := hp
      refine g_s0 ?_
      subst hAk hv
      rw [rnd_eq qx rule k ng hng] at h8
      refine g_vret hC hQ (by decide) (by decide) d_Desk_round_216 ⟨rfl, h8, F7.trans f8⟩
    have K2 : ∀ (u : Bool), u = rup rule ng hf (decide (A / b % 2 = 1)) → ∀ z : Int, z = bz u → G X 0 0 M4 155 [some (.ref d), some (iv rule), some (iv k), some (iv (bz ng)), some (iv (if A % b = 0 then 1 else 0)), some (iv hf), none] [iv z] := by
      intro u hu z hz
      subst hz
      first | refine g_ist6 hC d_Desk_round_155 rfl (hN 6 rfl) ?_ | (refine g_fg5 ?_; refine g_ist6 hC d_Desk_round_155 rfl (hN 6 rfl) ?_)
      refine g_iload hC rfl d_Desk_round_157 ?_
      refine g_if_eq hC (bz_I _) d_Desk_round_159 (fun c1 => ?_) (fun c1 => ?_)
      · refine fin M4 (A / b) _ _ D4 hY4 ?_ F4
        unfold rdn
        rw [ehf, ← hu, if_neg (fun h => by rw [h.1, bz_t] at c1; omega), Nat.add_zero]
      · have hu1 : u = true := by cases u with | true => rfl | false => exact absurd bz_f c1
        refine g_iload hC rfl d_Desk_round_162 ?_
        refine g_if_ne hC (by unfold I32; split <;> omega) d_Desk_round_164 (fun c2 => ?_) (fun c2 => ?_)
        · have h0 : A % b = 0 := by
            by_cases h : A % b = 0
            · exact h
            · rw [if_neg h] at c2; omega
          refine fin M4 (A / b) _ _ D4 hY4 ?_ F4
          unfold rdn
          rw [if_neg (fun h => h.2 h0), Nat.add_zero]
        · have h0 : A % b ≠ 0 := fun h => by rw [if_pos h] at c2; omega
          refine g_aload_n hC rfl d_Desk_round_167 ?_
          refine g_get hC fb_Desk_23 D4.o rfl d_Desk_round_168 ?_
          refine g_lconst (z := 1) hC (by decide) d_Desk_round_171 ?_
          refine g_callV1 hC (sp_Whole_set (v := 1) D4.x (by unfold I64; omega) (by decide) (by decide)) oc_Whole_set ov_Whole_set ml_Desk_42 D4.x.rc.choose_spec rfl hR (Nat.le_of_ble_eq_true rfl) (Nat.le_of_ble_eq_true rfl) (Nat.le_of_ble_eq_true rfl) (Nat.le_of_ble_eq_true rfl) (Nat.le_of_ble_eq_true rfl) d_Desk_round_172 (fun r M5 hp => ?_)
          obtain ⟨rfl, hX5, f5⟩ := hp
          refine g_s0 ?_
          have D5 := D4.fw i6 f5 hX5.tox
          have F5 := F4.fw i6 f5
          have hY5 := hY4.fr f5 (by omega) (by omega) (by omega)
          have e1 : (1 : Int).natAbs = 1 := rfl
          rw [e1] at hX5
          have hdl := Nat.div_le_self A b
          have t5 : ((A / b + 1 : Nat) : Int) < pw 740 := by
            have h1 : pw (i + 3) ≤ pw 740 := pow_le (by omega)
            omega
          refine g_aload_n hC rfl d_Desk_round_175 ?_
          refine g_get hC fb_Desk_27 D5.o rfl d_Desk_round_176 ?_
          refine g_aload_n hC rfl d_Desk_round_179 ?_
          refine g_get hC fb_Desk_23 D5.o rfl d_Desk_round_180 ?_
          refine g_callV1 hC (sp_Whole_add hY5 hX5 (by omega) t5 (by decide) (by decide)) oc_Whole_add ov_Whole_add ml_Desk_76 hY5.rc.choose_spec rfl hR (Nat.le_of_ble_eq_true rfl) (Nat.le_of_ble_eq_true rfl) (Nat.le_of_ble_eq_true rfl) (Nat.le_of_ble_eq_true rfl) (Nat.le_of_ble_eq_true rfl) d_Desk_round_183 (fun r M6 hp => ?_)
          obtain ⟨rfl, hY6, f6⟩ := hp
          refine g_s0 ?_
          refine fin M6 (A / b + 1) _ _ (D5.fw i8 f6 hY6.tox) hY6 ?_ (F5.fw i8 f6)
          unfold rdn
          rw [ehf, ← hu, if_pos ⟨hu1, h0⟩]
    refine g_iload_n hC rfl d_Desk_round_93 ?_
    refine g_if_ne hC (by unfold I32; omega) d_Desk_round_94 (fun c1 => ?_) (fun c1 => ?_)
    · refine g_iload_n hC rfl d_Desk_round_101 ?_
      refine g_iconst hC d_Desk_round_102 ?_
      refine g_icmp_ne hC (by unfold I32; omega) (by unfold I32; omega) d_Desk_round_103 (fun c2 => ?_) (fun c2 => ?_)
      · refine g_iload hC rfl d_Desk_round_118 ?_
        refine g_if_gt hC (by unfold I32; omega) d_Desk_round_120 (fun c3 => ?_) (fun c3 => ?_)
        · refine g_iconst hC d_Desk_round_150 ?_
          refine g_goto hC d_Desk_round_151 ?_
          refine K2 true ?_ 1 rfl
          unfold rup
          rw [if_neg c1, if_neg c2, decide_eq_true (by omega), Bool.true_or]
        · refine g_iload hC rfl d_Desk_round_123 ?_
          refine g_if_ne hC (by unfold I32; omega) d_Desk_round_125 (fun c4 => ?_) (fun c4 => ?_)
          · refine g_iconst hC d_Desk_round_154 ?_
            refine K2 false ?_ 0 rfl
            unfold rup
            rw [if_neg c1, if_neg c2, decide_eq_false (by omega), decide_eq_false (by omega)]
            rfl
          · refine g_iload_n hC rfl d_Desk_round_128 ?_
            refine g_iconst hC d_Desk_round_129 ?_
            refine g_icmp_ne hC (by unfold I32; omega) (by unfold I32; omega) d_Desk_round_130 (fun c5 => ?_) (fun c5 => ?_)
            · skip
              refine g_aload_n hC rfl d_Desk_round_140 ?_
              refine g_get hC fb_Desk_27 D4.o rfl d_Desk_round_141 ?_
              refine g_callV0 hC (sp_Whole_isOdd hY4 (by decide)) oc_Whole_isOdd ov_Whole_isOdd ml_Desk_99 hY4.rc.choose_spec rfl hR (Nat.le_of_ble_eq_true rfl) (Nat.le_of_ble_eq_true rfl) (Nat.le_of_ble_eq_true rfl) (Nat.le_of_ble_eq_true rfl) (Nat.le_of_ble_eq_true rfl) d_Desk_round_144 (fun r M4 hp => ?_)
              obtain ⟨rfl, rfl⟩ := hp
              refine g_sv ?_
              refine g_if_eq hC (by unfold I32; split <;> omega) d_Desk_round_147 (fun c6 => ?_) (fun c6 => ?_)
              · have h1 : ¬ A / b % 2 = 1 := fun h => by rw [if_pos h] at c6; omega
                refine g_iconst hC d_Desk_round_154 ?_
                refine K2 false ?_ 0 rfl
                unfold rup
                rw [if_neg c1, if_neg c2, decide_eq_false (by omega), decide_eq_true (by omega), if_neg c5, decide_eq_false h1]
                rfl
              · have h1 : A / b % 2 = 1 := by
                  by_cases h : A / b % 2 = 1
                  · exact h
                  · rw [if_neg h] at c6; omega
                refine g_iconst hC d_Desk_round_150 ?_
                refine g_goto hC d_Desk_round_151 ?_
                refine K2 true ?_ 1 rfl
                unfold rup
                rw [if_neg c1, if_neg c2, decide_eq_false (by omega), decide_eq_true (by omega), if_neg c5, decide_eq_true h1]
                rfl
            · refine g_iload_n hC rfl d_Desk_round_133 ?_
              refine g_if_ne hC (bz_I _) d_Desk_round_134 (fun c6 => ?_) (fun c6 => ?_)
              · refine g_iconst hC d_Desk_round_154 ?_
                refine K2 false ?_ 0 rfl
                unfold rup
                rw [if_neg c1, if_neg c2, decide_eq_false (by omega), decide_eq_true (by omega), if_pos c5]
                cases ng with
                | true => rfl
                | false => exact absurd bz_f c6
              · refine g_goto hC d_Desk_round_137 ?_
                refine g_iconst hC d_Desk_round_150 ?_
                refine g_goto hC d_Desk_round_151 ?_
                refine K2 true ?_ 1 rfl
                unfold rup
                rw [if_neg c1, if_neg c2, decide_eq_false (by omega), decide_eq_true (by omega), if_pos c5]
                cases ng with
                | false => rfl
                | true => rw [bz_t] at c6; omega
      · refine g_iload_n hC rfl d_Desk_round_106 ?_
        refine g_if_ne hC (bz_I _) d_Desk_round_107 (fun c3 => ?_) (fun c3 => ?_)
        · refine g_iconst hC d_Desk_round_114 ?_
          refine g_goto hC d_Desk_round_115 ?_
          refine K2 false ?_ 0 rfl
          unfold rup
          rw [if_neg c1, if_pos c2]
          cases ng with
          | true => rfl
          | false => exact absurd bz_f c3
        · refine g_iconst hC d_Desk_round_110 ?_
          refine g_goto hC d_Desk_round_111 ?_
          refine K2 true ?_ 1 rfl
          unfold rup
          rw [if_neg c1, if_pos c2]
          cases ng with
          | false => rfl
          | true => rw [bz_t] at c3; omega
    · refine g_iload_n hC rfl d_Desk_round_97 ?_
      refine g_goto hC d_Desk_round_98 ?_
      refine K2 ng ?_ _ rfl
      unfold rup
      rw [if_pos c1]
  refine g_aload_n hC rfl d_Desk_round_0 ?_
  refine g_get hC fb_Desk_14 hD.o rfl d_Desk_round_1 ?_
  have hFm : isF X.K M (d + 1) 740 a b mi un := ⟨hD.m, hA, hB⟩
  refine g_callV0 hC (sp_Frac_sign hFm (by decide)) oc_Frac_sign ov_Frac_sign ml_Desk_89 hFm.1 rfl hR (Nat.le_of_ble_eq_true rfl) (Nat.le_of_ble_eq_true rfl) (Nat.le_of_ble_eq_true rfl) (Nat.le_of_ble_eq_true rfl) (Nat.le_of_ble_eq_true rfl) d_Desk_round_4 (fun r M hp => ?_)
  obtain ⟨rfl, rfl⟩ := hp
  refine g_sv ?_
  show G X 0 0 M 7 _ [iv (sgn mi a)]
  refine g_if_ge hC (sgn_I _ _) d_Desk_round_7 (fun c => ?_) (fun c => ?_)
  · refine g_iconst hC d_Desk_round_14 ?_
    first | refine g_ist3 hC d_Desk_round_15 rfl (hN 3 rfl) ?_ | (refine g_fg2 ?_; refine g_ist3 hC d_Desk_round_15 rfl (hN 3 rfl) ?_)
    refine J false (fun h => ?_)
    unfold sgn at c
    rw [if_neg h] at c
    cases mi with
    | false => rfl
    | true => rw [if_pos rfl] at c; omega
  · refine g_iconst hC d_Desk_round_10 ?_
    refine g_goto hC d_Desk_round_11 ?_
    first | refine g_ist3 hC d_Desk_round_15 rfl (hN 3 rfl) ?_ | (refine g_fg2 ?_; refine g_ist3 hC d_Desk_round_15 rfl (hN 3 rfl) ?_)
    refine J true (fun h => ?_)
    unfold sgn at c
    rw [if_neg h] at c
    cases mi with
    | true => rfl
    | false => rw [if_neg (by decide)] at c; omega
