/-! Whole: divide -/
theorem wx.oth {K : KC} {M M' : AH} {q r c cq : Nat} (h : wx K M r c) (hx : wx K M q cq) (hf : frW M M' q) (hne : r ≠ q) : wx K M' r c := by
  obtain ⟨n, f, h⟩ := h
  obtain ⟨n', f', h'⟩ := hx
  exact ⟨n, f, h.oth h' hf hne⟩
theorem wv.oth {K : KC} {M M' : AH} {q r c cq v : Nat} (h : wv K M r c v) (hx : wx K M q cq) (hf : frW M M' q) (hne : r ≠ q) : wv K M' r c v := by
  obtain ⟨n, f, h, h2⟩ := h
  obtain ⟨n', f', h'⟩ := hx
  exact ⟨n, f, h.oth h' hf hne, h2⟩
/-- nothing but three Wholes has changed -/
def fr3 (M M' : AH) (q u t : Nat) : Prop := M'.2 = M.2 ∧ ∀ p, p ≠ q → p ≠ q + 1 → p ≠ u → p ≠ u + 1 → p ≠ t → p ≠ t + 1 → M'.1 p = M.1 p
theorem fr3.rf {M : AH} {q u t : Nat} : fr3 M M q u t := ⟨rfl, fun _ _ _ _ _ _ _ => rfl⟩
theorem fr3.q {M M1 M2 : AH} {q u t : Nat} (h : fr3 M M1 q u t) (h2 : frW M1 M2 q) : fr3 M M2 q u t := ⟨h2.1.trans h.1, fun p a b c d e f => (h2.2 p a b).trans (h.2 p a b c d e f)⟩
theorem fr3.u {M M1 M2 : AH} {q u t : Nat} (h : fr3 M M1 q u t) (h2 : frW M1 M2 u) : fr3 M M2 q u t := ⟨h2.1.trans h.1, fun p a b c d e f => (h2.2 p c d).trans (h.2 p a b c d e f)⟩
theorem fr3.t {M M1 M2 : AH} {q u t : Nat} (h : fr3 M M1 q u t) (h2 : frW M1 M2 t) : fr3 M M2 q u t := ⟨h2.1.trans h.1, fun p a b c d e f' => (h2.2 p e f').trans (h.2 p a b c d e f')⟩
theorem mul_pw {v s i : Nat} (hv : (v : Int) < pw i) (hs : s ≤ 1000000000) : ((v * s : Nat) : Int) < pw (i + 1) := by
  rw [pw_s, Int.natCast_mul]
  have h1 : (v : Int) * s ≤ v * 1000000000 := Int.mul_le_mul_of_nonneg_left (by omega) (by omega)
  omega
theorem dg_cons {f : Int → Int} {j n : Nat} (h0 : 0 ≤ f j ∧ f j < 1000000000) (h : dg (sh f (j + 1)) n) : dg (sh f j) (n + 1) := by
  intro k hk
  cases k with
  | zero => show 0 ≤ f _ ∧ f _ < _; rw [show (j : Int) + ((0 : Nat) : Int) = j by omega]; exact h0
  | succ k =>
    have := h k (by omega)
    show 0 ≤ f _ ∧ f _ < _
    rw [show (j : Int) + ((k + 1 : Nat) : Int) = ((j + 1 : Nat) : Int) + k by omega]
    exact this
/-- the guess is not too small -/
theorem q_hat {U D top gt lo P : Int} (hU : U = top * P + lo) (hlo : lo < P) (hP : 0 < P) (hg : 0 < gt) (hD : gt * P ≤ D) (htop : 0 ≤ top) : U < (top / gt + 1) * D := by
  have h1 : top < gt * (top / gt + 1) := by have := Int.lt_mul_ediv_self_add (x := top) hg; rw [Int.mul_add]; omega
  have hq : 0 ≤ top / gt := Int.ediv_nonneg htop (by omega)
  have h2 : (top + 1) * P ≤ gt * (top / gt + 1) * P := Int.mul_le_mul_of_nonneg_right (by omega) (by omega)
  have h3 : (top / gt + 1) * (gt * P) ≤ (top / gt + 1) * D := Int.mul_le_mul_of_nonneg_left hD (by omega)
  have e : gt * (top / gt + 1) * P = (top / gt + 1) * (gt * P) := by rw [Int.mul_comm gt, Int.mul_assoc]
  rw [Int.add_mul] at h2
  omega
theorem d_Whole_divide_0 : dn m_Whole_divide.2.1 0 (.aload_n 2) 1 1 := ⟨by decide +kernel, rfl⟩
theorem d_Whole_divide_1 : dn m_Whole_divide.2.1 1 (.iconst 0) 1 2 := ⟨by decide +kernel, rfl⟩
theorem d_Whole_divide_2 : dn m_Whole_divide.2.1 2 (.putfield 15) 3 5 := ⟨by decide +kernel, rfl⟩
theorem d_Whole_divide_5 : dn m_Whole_divide.2.1 5 (.aload_n 0) 1 6 := ⟨by decide +kernel, rfl⟩
theorem d_Whole_divide_6 : dn m_Whole_divide.2.1 6 (.aload_n 1) 1 7 := ⟨by decide +kernel, rfl⟩
theorem d_Whole_divide_7 : dn m_Whole_divide.2.1 7 (.invokevirtual 42) 3 10 := ⟨by decide +kernel, rfl⟩
theorem d_Whole_divide_10 : db m_Whole_divide.2.1 10 (.ifCond .ge) 14 13 := ⟨4, by decide +kernel, by decide, rfl⟩
theorem d_Whole_divide_13 : dn m_Whole_divide.2.1 13 (.return_) 1 14 := ⟨by decide +kernel, rfl⟩
theorem d_Whole_divide_14 : dn m_Whole_divide.2.1 14 (.ldc 38) 2 16 := ⟨by decide +kernel, rfl⟩
theorem d_Whole_divide_16 : dn m_Whole_divide.2.1 16 (.aload_n 1) 1 17 := ⟨by decide +kernel, rfl⟩
theorem d_Whole_divide_17 : dn m_Whole_divide.2.1 17 (.getfield 9) 3 20 := ⟨by decide +kernel, rfl⟩
theorem d_Whole_divide_20 : dn m_Whole_divide.2.1 20 (.aload_n 1) 1 21 := ⟨by decide +kernel, rfl⟩
theorem d_Whole_divide_21 : dn m_Whole_divide.2.1 21 (.getfield 15) 3 24 := ⟨by decide +kernel, rfl⟩
theorem d_Whole_divide_24 : dn m_Whole_divide.2.1 24 (.iconst 1) 1 25 := ⟨by decide +kernel, rfl⟩
theorem d_Whole_divide_25 : dn m_Whole_divide.2.1 25 (.isub) 1 26 := ⟨by decide +kernel, rfl⟩
theorem d_Whole_divide_26 : dn m_Whole_divide.2.1 26 (.iaload) 1 27 := ⟨by decide +kernel, rfl⟩
theorem d_Whole_divide_27 : dn m_Whole_divide.2.1 27 (.iconst 1) 1 28 := ⟨by decide +kernel, rfl⟩
theorem d_Whole_divide_28 : dn m_Whole_divide.2.1 28 (.iadd) 1 29 := ⟨by decide +kernel, rfl⟩
theorem d_Whole_divide_29 : dn m_Whole_divide.2.1 29 (.idiv) 1 30 := ⟨by decide +kernel, rfl⟩
theorem d_Whole_divide_30 : dn m_Whole_divide.2.1 30 (.istore 4) 2 32 := ⟨by decide +kernel, rfl⟩
theorem d_Whole_divide_32 : dn m_Whole_divide.2.1 32 (.aload_n 3) 1 33 := ⟨by decide +kernel, rfl⟩
theorem d_Whole_divide_33 : dn m_Whole_divide.2.1 33 (.aload_n 1) 1 34 := ⟨by decide +kernel, rfl⟩
theorem d_Whole_divide_34 : dn m_Whole_divide.2.1 34 (.invokevirtual 46) 3 37 := ⟨by decide +kernel, rfl⟩
theorem d_Whole_divide_37 : dn m_Whole_divide.2.1 37 (.aload_n 3) 1 38 := ⟨by decide +kernel, rfl⟩
theorem d_Whole_divide_38 : dn m_Whole_divide.2.1 38 (.iload 4) 2 40 := ⟨by decide +kernel, rfl⟩
theorem d_Whole_divide_40 : dn m_Whole_divide.2.1 40 (.invokevirtual 50) 3 43 := ⟨by decide +kernel, rfl⟩
theorem d_Whole_divide_43 : dn m_Whole_divide.2.1 43 (.aload_n 0) 1 44 := ⟨by decide +kernel, rfl⟩
theorem d_Whole_divide_44 : dn m_Whole_divide.2.1 44 (.iload 4) 2 46 := ⟨by decide +kernel, rfl⟩
theorem d_Whole_divide_46 : dn m_Whole_divide.2.1 46 (.invokevirtual 50) 3 49 := ⟨by decide +kernel, rfl⟩
theorem d_Whole_divide_49 : dn m_Whole_divide.2.1 49 (.aload_n 0) 1 50 := ⟨by decide +kernel, rfl⟩
theorem d_Whole_divide_50 : dn m_Whole_divide.2.1 50 (.getfield 9) 3 53 := ⟨by decide +kernel, rfl⟩
theorem d_Whole_divide_53 : dn m_Whole_divide.2.1 53 (.aload_n 0) 1 54 := ⟨by decide +kernel, rfl⟩
theorem d_Whole_divide_54 : dn m_Whole_divide.2.1 54 (.getfield 15) 3 57 := ⟨by decide +kernel, rfl⟩
theorem d_Whole_divide_57 : dn m_Whole_divide.2.1 57 (.iconst 0) 1 58 := ⟨by decide +kernel, rfl⟩
theorem d_Whole_divide_58 : dn m_Whole_divide.2.1 58 (.iastore) 1 59 := ⟨by decide +kernel, rfl⟩
theorem d_Whole_divide_59 : dn m_Whole_divide.2.1 59 (.aload_n 3) 1 60 := ⟨by decide +kernel, rfl⟩
theorem d_Whole_divide_60 : dn m_Whole_divide.2.1 60 (.getfield 15) 3 63 := ⟨by decide +kernel, rfl⟩
theorem d_Whole_divide_63 : dn m_Whole_divide.2.1 63 (.istore 5) 2 65 := ⟨by decide +kernel, rfl⟩
theorem d_Whole_divide_65 : dn m_Whole_divide.2.1 65 (.aload_n 0) 1 66 := ⟨by decide +kernel, rfl⟩
theorem d_Whole_divide_66 : dn m_Whole_divide.2.1 66 (.getfield 15) 3 69 := ⟨by decide +kernel, rfl⟩
theorem d_Whole_divide_69 : dn m_Whole_divide.2.1 69 (.iload 5) 2 71 := ⟨by decide +kernel, rfl⟩
theorem d_Whole_divide_71 : dn m_Whole_divide.2.1 71 (.isub) 1 72 := ⟨by decide +kernel, rfl⟩
theorem d_Whole_divide_72 : dn m_Whole_divide.2.1 72 (.iconst 1) 1 73 := ⟨by decide +kernel, rfl⟩
theorem d_Whole_divide_73 : dn m_Whole_divide.2.1 73 (.iadd) 1 74 := ⟨by decide +kernel, rfl⟩
theorem d_Whole_divide_74 : dn m_Whole_divide.2.1 74 (.istore 6) 2 76 := ⟨by decide +kernel, rfl⟩
theorem d_Whole_divide_76 : dn m_Whole_divide.2.1 76 (.aload_n 2) 1 77 := ⟨by decide +kernel, rfl⟩
theorem d_Whole_divide_77 : dn m_Whole_divide.2.1 77 (.iload 6) 2 79 := ⟨by decide +kernel, rfl⟩
theorem d_Whole_divide_79 : dn m_Whole_divide.2.1 79 (.putfield 15) 3 82 := ⟨by decide +kernel, rfl⟩
theorem d_Whole_divide_82 : dn m_Whole_divide.2.1 82 (.iload 6) 2 84 := ⟨by decide +kernel, rfl⟩
theorem d_Whole_divide_84 : dn m_Whole_divide.2.1 84 (.iconst 1) 1 85 := ⟨by decide +kernel, rfl⟩
theorem d_Whole_divide_85 : dn m_Whole_divide.2.1 85 (.isub) 1 86 := ⟨by decide +kernel, rfl⟩
theorem d_Whole_divide_86 : dn m_Whole_divide.2.1 86 (.istore 7) 2 88 := ⟨by decide +kernel, rfl⟩
theorem d_Whole_divide_88 : dn m_Whole_divide.2.1 88 (.iload 7) 2 90 := ⟨by decide +kernel, rfl⟩
theorem d_Whole_divide_90 : db m_Whole_divide.2.1 90 (.ifCond .lt) 213 93 := ⟨123, by decide +kernel, by decide, rfl⟩
theorem d_Whole_divide_93 : dn m_Whole_divide.2.1 93 (.aload_n 0) 1 94 := ⟨by decide +kernel, rfl⟩
theorem d_Whole_divide_94 : dn m_Whole_divide.2.1 94 (.getfield 9) 3 97 := ⟨by decide +kernel, rfl⟩
theorem d_Whole_divide_97 : dn m_Whole_divide.2.1 97 (.iload 7) 2 99 := ⟨by decide +kernel, rfl⟩
theorem d_Whole_divide_99 : dn m_Whole_divide.2.1 99 (.iload 5) 2 101 := ⟨by decide +kernel, rfl⟩
theorem d_Whole_divide_101 : dn m_Whole_divide.2.1 101 (.iadd) 1 102 := ⟨by decide +kernel, rfl⟩
theorem d_Whole_divide_102 : dn m_Whole_divide.2.1 102 (.iaload) 1 103 := ⟨by decide +kernel, rfl⟩
theorem d_Whole_divide_103 : dn m_Whole_divide.2.1 103 (.i2l) 1 104 := ⟨by decide +kernel, rfl⟩
theorem d_Whole_divide_104 : dn m_Whole_divide.2.1 104 (.ldc2_w 19) 3 107 := ⟨by decide +kernel, rfl⟩
theorem d_Whole_divide_107 : dn m_Whole_divide.2.1 107 (.lmul) 1 108 := ⟨by decide +kernel, rfl⟩
theorem d_Whole_divide_108 : dn m_Whole_divide.2.1 108 (.aload_n 0) 1 109 := ⟨by decide +kernel, rfl⟩
theorem d_Whole_divide_109 : dn m_Whole_divide.2.1 109 (.getfield 9) 3 112 := ⟨by decide +kernel, rfl⟩
theorem d_Whole_divide_112 : dn m_Whole_divide.2.1 112 (.iload 7) 2 114 := ⟨by decide +kernel, rfl⟩
theorem d_Whole_divide_114 : dn m_Whole_divide.2.1 114 (.iload 5) 2 116 := ⟨by decide +kernel, rfl⟩
theorem d_Whole_divide_116 : dn m_Whole_divide.2.1 116 (.iadd) 1 117 := ⟨by decide +kernel, rfl⟩
theorem d_Whole_divide_117 : dn m_Whole_divide.2.1 117 (.iconst 1) 1 118 := ⟨by decide +kernel, rfl⟩
theorem d_Whole_divide_118 : dn m_Whole_divide.2.1 118 (.isub) 1 119 := ⟨by decide +kernel, rfl⟩
theorem d_Whole_divide_119 : dn m_Whole_divide.2.1 119 (.iaload) 1 120 := ⟨by decide +kernel, rfl⟩
theorem d_Whole_divide_120 : dn m_Whole_divide.2.1 120 (.i2l) 1 121 := ⟨by decide +kernel, rfl⟩
theorem d_Whole_divide_121 : dn m_Whole_divide.2.1 121 (.ladd) 1 122 := ⟨by decide +kernel, rfl⟩
theorem d_Whole_divide_122 : dn m_Whole_divide.2.1 122 (.lstore 8) 2 124 := ⟨by decide +kernel, rfl⟩
theorem d_Whole_divide_124 : dn m_Whole_divide.2.1 124 (.ldc2_w 54) 3 127 := ⟨by decide +kernel, rfl⟩
theorem d_Whole_divide_127 : dn m_Whole_divide.2.1 127 (.lload 8) 2 129 := ⟨by decide +kernel, rfl⟩
theorem d_Whole_divide_129 : dn m_Whole_divide.2.1 129 (.aload_n 3) 1 130 := ⟨by decide +kernel, rfl⟩
theorem d_Whole_divide_130 : dn m_Whole_divide.2.1 130 (.getfield 9) 3 133 := ⟨by decide +kernel, rfl⟩
theorem d_Whole_divide_133 : dn m_Whole_divide.2.1 133 (.iload 5) 2 135 := ⟨by decide +kernel, rfl⟩
theorem d_Whole_divide_135 : dn m_Whole_divide.2.1 135 (.iconst 1) 1 136 := ⟨by decide +kernel, rfl⟩
theorem d_Whole_divide_136 : dn m_Whole_divide.2.1 136 (.isub) 1 137 := ⟨by decide +kernel, rfl⟩
theorem d_Whole_divide_137 : dn m_Whole_divide.2.1 137 (.iaload) 1 138 := ⟨by decide +kernel, rfl⟩
theorem d_Whole_divide_138 : dn m_Whole_divide.2.1 138 (.i2l) 1 139 := ⟨by decide +kernel, rfl⟩
theorem d_Whole_divide_139 : dn m_Whole_divide.2.1 139 (.ldiv) 1 140 := ⟨by decide +kernel, rfl⟩
theorem d_Whole_divide_140 : dn m_Whole_divide.2.1 140 (.invokestatic 56) 3 143 := ⟨by decide +kernel, rfl⟩
theorem d_Whole_divide_143 : dn m_Whole_divide.2.1 143 (.lstore 10) 2 145 := ⟨by decide +kernel, rfl⟩
theorem d_Whole_divide_145 : dn m_Whole_divide.2.1 145 (.aload_n 0) 1 146 := ⟨by decide +kernel, rfl⟩
theorem d_Whole_divide_146 : dn m_Whole_divide.2.1 146 (.aload_n 3) 1 147 := ⟨by decide +kernel, rfl⟩
theorem d_Whole_divide_147 : dn m_Whole_divide.2.1 147 (.lload 10) 2 149 := ⟨by decide +kernel, rfl⟩
theorem d_Whole_divide_149 : dn m_Whole_divide.2.1 149 (.iload 7) 2 151 := ⟨by decide +kernel, rfl⟩
theorem d_Whole_divide_151 : dn m_Whole_divide.2.1 151 (.invokevirtual 60) 3 154 := ⟨by decide +kernel, rfl⟩
theorem d_Whole_divide_154 : dn m_Whole_divide.2.1 154 (.lstore 12) 2 156 := ⟨by decide +kernel, rfl⟩
theorem d_Whole_divide_156 : dn m_Whole_divide.2.1 156 (.lload 12) 2 158 := ⟨by decide +kernel, rfl⟩
theorem d_Whole_divide_158 : dn m_Whole_divide.2.1 158 (.lconst 0) 1 159 := ⟨by decide +kernel, rfl⟩
theorem d_Whole_divide_159 : dn m_Whole_divide.2.1 159 (.lcmp) 1 160 := ⟨by decide +kernel, rfl⟩
theorem d_Whole_divide_160 : db m_Whole_divide.2.1 160 (.ifCond .ge) 184 163 := ⟨24, by decide +kernel, by decide, rfl⟩
theorem d_Whole_divide_163 : dn m_Whole_divide.2.1 163 (.lload 10) 2 165 := ⟨by decide +kernel, rfl⟩
theorem d_Whole_divide_165 : dn m_Whole_divide.2.1 165 (.lconst 1) 1 166 := ⟨by decide +kernel, rfl⟩
theorem d_Whole_divide_166 : dn m_Whole_divide.2.1 166 (.lsub) 1 167 := ⟨by decide +kernel, rfl⟩
theorem d_Whole_divide_167 : dn m_Whole_divide.2.1 167 (.lstore 10) 2 169 := ⟨by decide +kernel, rfl⟩
theorem d_Whole_divide_169 : dn m_Whole_divide.2.1 169 (.lload 12) 2 171 := ⟨by decide +kernel, rfl⟩
theorem d_Whole_divide_171 : dn m_Whole_divide.2.1 171 (.aload_n 0) 1 172 := ⟨by decide +kernel, rfl⟩
theorem d_Whole_divide_172 : dn m_Whole_divide.2.1 172 (.aload_n 3) 1 173 := ⟨by decide +kernel, rfl⟩
theorem d_Whole_divide_173 : dn m_Whole_divide.2.1 173 (.iload 7) 2 175 := ⟨by decide +kernel, rfl⟩
theorem d_Whole_divide_175 : dn m_Whole_divide.2.1 175 (.invokevirtual 64) 3 178 := ⟨by decide +kernel, rfl⟩
theorem d_Whole_divide_178 : dn m_Whole_divide.2.1 178 (.ladd) 1 179 := ⟨by decide +kernel, rfl⟩
theorem d_Whole_divide_179 : dn m_Whole_divide.2.1 179 (.lstore 12) 2 181 := ⟨by decide +kernel, rfl⟩
theorem d_Whole_divide_181 : db m_Whole_divide.2.1 181 (.goto) 156 184 := ⟨(-25), by decide +kernel, by decide, rfl⟩
theorem d_Whole_divide_184 : dn m_Whole_divide.2.1 184 (.aload_n 0) 1 185 := ⟨by decide +kernel, rfl⟩
theorem d_Whole_divide_185 : dn m_Whole_divide.2.1 185 (.getfield 9) 3 188 := ⟨by decide +kernel, rfl⟩
theorem d_Whole_divide_188 : dn m_Whole_divide.2.1 188 (.iload 7) 2 190 := ⟨by decide +kernel, rfl⟩
theorem d_Whole_divide_190 : dn m_Whole_divide.2.1 190 (.iload 5) 2 192 := ⟨by decide +kernel, rfl⟩
theorem d_Whole_divide_192 : dn m_Whole_divide.2.1 192 (.iadd) 1 193 := ⟨by decide +kernel, rfl⟩
theorem d_Whole_divide_193 : dn m_Whole_divide.2.1 193 (.lload 12) 2 195 := ⟨by decide +kernel, rfl⟩
theorem d_Whole_divide_195 : dn m_Whole_divide.2.1 195 (.l2i) 1 196 := ⟨by decide +kernel, rfl⟩
theorem d_Whole_divide_196 : dn m_Whole_divide.2.1 196 (.iastore) 1 197 := ⟨by decide +kernel, rfl⟩
theorem d_Whole_divide_197 : dn m_Whole_divide.2.1 197 (.aload_n 2) 1 198 := ⟨by decide +kernel, rfl⟩
theorem d_Whole_divide_198 : dn m_Whole_divide.2.1 198 (.getfield 9) 3 201 := ⟨by decide +kernel, rfl⟩
theorem d_Whole_divide_201 : dn m_Whole_divide.2.1 201 (.iload 7) 2 203 := ⟨by decide +kernel, rfl⟩
theorem d_Whole_divide_203 : dn m_Whole_divide.2.1 203 (.lload 10) 2 205 := ⟨by decide +kernel, rfl⟩
theorem d_Whole_divide_205 : dn m_Whole_divide.2.1 205 (.l2i) 1 206 := ⟨by decide +kernel, rfl⟩
theorem d_Whole_divide_206 : dn m_Whole_divide.2.1 206 (.iastore) 1 207 := ⟨by decide +kernel, rfl⟩
theorem d_Whole_divide_207 : dn m_Whole_divide.2.1 207 (.iinc 7 (-1)) 3 210 := ⟨by decide +kernel, rfl⟩
theorem d_Whole_divide_210 : db m_Whole_divide.2.1 210 (.goto) 88 213 := ⟨(-122), by decide +kernel, by decide, rfl⟩
theorem d_Whole_divide_213 : dn m_Whole_divide.2.1 213 (.aload_n 0) 1 214 := ⟨by decide +kernel, rfl⟩
theorem d_Whole_divide_214 : dn m_Whole_divide.2.1 214 (.iload 5) 2 216 := ⟨by decide +kernel, rfl⟩
theorem d_Whole_divide_216 : dn m_Whole_divide.2.1 216 (.putfield 15) 3 219 := ⟨by decide +kernel, rfl⟩
theorem d_Whole_divide_219 : dn m_Whole_divide.2.1 219 (.aload_n 0) 1 220 := ⟨by decide +kernel, rfl⟩
theorem d_Whole_divide_220 : dn m_Whole_divide.2.1 220 (.invokevirtual 39) 3 223 := ⟨by decide +kernel, rfl⟩
theorem d_Whole_divide_223 : dn m_Whole_divide.2.1 223 (.aload_n 2) 1 224 := ⟨by decide +kernel, rfl⟩
theorem d_Whole_divide_224 : dn m_Whole_divide.2.1 224 (.invokevirtual 39) 3 227 := ⟨by decide +kernel, rfl⟩
theorem d_Whole_divide_227 : dn m_Whole_divide.2.1 227 (.aload_n 0) 1 228 := ⟨by decide +kernel, rfl⟩
theorem d_Whole_divide_228 : dn m_Whole_divide.2.1 228 (.iload 4) 2 230 := ⟨by decide +kernel, rfl⟩
theorem d_Whole_divide_230 : dn m_Whole_divide.2.1 230 (.invokevirtual 68) 3 233 := ⟨by decide +kernel, rfl⟩
theorem d_Whole_divide_233 : dn m_Whole_divide.2.1 233 (.istore 7) 2 235 := ⟨by decide +kernel, rfl⟩
theorem d_Whole_divide_235 : dn m_Whole_divide.2.1 235 (.return_) 1 236 := ⟨by decide +kernel, rfl⟩
theorem sp_Whole_divide {l : Launch} {K : KC} {M : AH} {q r u t cap cr cu ct v w i : Nat} (hq : wv K M q cap v) (hr : wv K M r cr w) (hu : wx K M u cu) (ht : wx K M t ct)
    (n1 : r ≠ q) (n2 : u ≠ q) (n3 : t ≠ q) (n4 : u ≠ r) (n5 : t ≠ r) (n6 : t ≠ u) (hw : 0 < w) (hv : (v : Int) < pw i) (i1 : i + 2 ≤ cap) (i2 : i + 2 ≤ cu) (i3 : i + 2 ≤ ct) (c1 : cap ≤ 1000) (c2 : cr ≤ 1000) (c3 : cu ≤ 1000) (c4 : ct ≤ 1000) :
    Sp l K m_Whole_divide 2 0 0 [.ref q, .ref r, .ref u, .ref t] M (fun x M' => x = none ∧ wv K M' q cap (v % w) ∧ wv K M' u cu (v / w) ∧ wx K M' t ct ∧ fr3 M M' q u t) := by
  refine Sp.ofG R_Whole rfl (by decide) [some (.ref q), some (.ref r), some (.ref u), some (.ref t), none, none, none, none, none, none, none, none, none, none] rfl (Nat.le_of_ble_eq_true rfl) ?_
  intro X hl hK hN hR hC hQ
  subst hl hK
  -- quotient.size = 0
  obtain ⟨nu, fu, hU0⟩ := id hu
  refine g_aload_n hC rfl d_Whole_divide_0 ?_
  refine g_iconst hC d_Whole_divide_1 ?_
  refine g_put hC fb_Whole_15 hU0.1 rfl rfl (Nat.le_of_ble_eq_true rfl) d_Whole_divide_2 ?_
  have f1 : frW M (ups M u (oO 0 [.ref (u + 1), iv (0 : Nat)])) u := (frW.rf).o
  have hU1 := hU0.sz (n' := 0)
  replace hq := hq.oth hu f1 (Ne.symm n2)
  replace hr := hr.oth hu f1 (Ne.symm n4)
  replace ht := ht.oth hu f1 n6
  have F1 : fr3 M (ups M u (oO 0 [.ref (u + 1), iv (0 : Nat)])) q u t := (fr3.rf).u f1
  have hu1 : wx X.K (ups M u (oO 0 [.ref (u + 1), iv (0 : Nat)])) u cu := ⟨0, fu, hU1⟩
  clear hU0 f1
  replace hU0 : isW X.K (ups M u (oO 0 [.ref (u + 1), iv (0 : Nat)])) u cu 0 fu := hU1
  show G X 0 0 (ups M u (oO 0 [.ref (u + 1), iv (0 : Nat)])) 5 _ _
  clear hu hU1
  generalize ups M u (oO 0 [.ref (u + 1), iv (0 : Nat)]) = M1 at *
  obtain ⟨nq, fq, hQ0, hnq, rq⟩ := id hq
  obtain ⟨nr, fr, hR0, hnr, rr⟩ := id hr
  refine g_aload_n hC rfl d_Whole_divide_5 ?_
  refine g_aload_n hC rfl d_Whole_divide_6 ?_
  refine g_callV1 hC (sp_Whole_against hq hr c1 c2) oc_Whole_against ov_Whole_against ml_Whole_42 hQ0.1 rfl hR (Nat.le_of_ble_eq_true rfl) (Nat.le_of_ble_eq_true rfl) (Nat.le_of_ble_eq_true rfl) (Nat.le_of_ble_eq_true rfl) (Nat.le_of_ble_eq_true rfl) d_Whole_divide_7 (fun r Mx hp => ?_)
  obtain ⟨rfl, rfl⟩ := hp
  refine g_sv ?_
  have hcz := cz_in v w
  refine g_if_ge hC (by unfold I32; omega) d_Whole_divide_10 (fun c => ?_) (fun c => ?_)
  rotate_left
  · have hlt : v < w := by
      rcases Nat.lt_trichotomy v w with h | h | h
      · exact h
      · rw [cz_eq (by omega)] at c; omega
      · rw [cz_gt (by omega)] at c; omega
    refine g_vret hC hQ (by decide) (by decide) d_Whole_divide_13 ⟨rfl, by rw [Nat.mod_eq_of_lt hlt]; exact hq, ⟨0, fu, hU0, by omega, fun k hk => by omega, tpn_z rfl, by rw [Nat.div_eq_of_lt hlt]; rfl⟩, ht, F1⟩
  have hle : w ≤ v := by
    rcases Nat.lt_trichotomy v w with h | h | h
    · rw [cz_lt (by omega)] at c; omega
    · omega
    · omega
  clear c hcz
  -- the scale
  obtain ⟨kr, rfl⟩ : ∃ k, nr = k + 1 := ⟨nr - 1, by have := rep_0 rr; omega⟩
  have hfr := rr.1 kr (by omega)
  have hfr0 := rr.2.1 kr rfl
  have ekr : ((kr + 1 : Nat) : Int) - 1 = (kr : Int) := by omega
  obtain ⟨s, hs⟩ : ∃ s : Nat, (1000000000 : Int) / (fr kr + 1) = (s : Int) := ⟨((1000000000 : Int) / (fr kr + 1)).toNat, by have := Int.ediv_nonneg (show (0 : Int) ≤ 1000000000 by omega) (show 0 ≤ fr kr + 1 by omega); omega⟩
  have hs1 : 1 ≤ s := by
    have : (1 : Int) ≤ 1000000000 / (fr kr + 1) := (Int.le_ediv_iff_mul_le (by omega)).mpr (by omega)
    omega
  have hs2 : s ≤ 1000000000 := by
    have : (1000000000 : Int) / (fr kr + 1) ≤ 1000000000 := Int.ediv_le_self _ (by omega)
    omega
  refine g_ldc (z := 1000000000) hC cn_Whole_38 (by decide) d_Whole_divide_14 ?_
  refine g_aload_n hC rfl d_Whole_divide_16 ?_
  refine g_get hC fb_Whole_9 hR0.1 rfl d_Whole_divide_17 ?_
  refine g_aload_n hC rfl d_Whole_divide_20 ?_
  refine g_get hC fb_Whole_15 hR0.1 rfl d_Whole_divide_21 ?_
  refine g_iconst hC d_Whole_divide_24 ?_
  refine g_isub hC d_Whole_divide_25 ?_
  rw [ekr]
  refine g_iald hC hR0.2 (by omega) (by omega) (by omega) d_Whole_divide_26 ?_
  refine g_iconst hC d_Whole_divide_27 ?_
  refine g_iadd hC d_Whole_divide_28 ?_
  refine g_idivN hC (by unfold I32; omega) (by unfold I32; omega) (by omega) (by omega) d_Whole_divide_29 ?_
  rw [hs]
  first | refine g_ist4 hC d_Whole_divide_30 rfl (hN 4 rfl) ?_ | (refine g_fg3 ?_; refine g_ist4 hC d_Whole_divide_30 rfl (hN 4 rfl) ?_)
  refine g_aload_n hC rfl d_Whole_divide_32 ?_
  refine g_aload_n hC rfl d_Whole_divide_33 ?_
  have hwi : (w : Int) < pw i := by omega
  have hb1 : ((v * s : Nat) : Int) < pw (i + 1) := mul_pw hv hs2
  have hb2 : ((w * s : Nat) : Int) < pw (i + 1) := mul_pw hwi hs2
  obtain ⟨nt0, ft0, hT0⟩ := id ht
  refine g_callV1 hC (sp_Whole_copy ht hr (Int.lt_of_lt_of_le hwi (pow_le (by omega))) (Ne.symm n5) c4 c2) oc_Whole_copy ov_Whole_copy ml_Whole_46 hT0.1 rfl hR (Nat.le_of_ble_eq_true rfl) (Nat.le_of_ble_eq_true rfl) (Nat.le_of_ble_eq_true rfl) (Nat.le_of_ble_eq_true rfl) (Nat.le_of_ble_eq_true rfl) d_Whole_divide_34 (fun r M2 hp => ?_)
  obtain ⟨rfl, hT2, fT⟩ := hp
  refine g_s0 ?_
  replace hq := hq.oth ht fT (Ne.symm n3)
  replace hu1 := hu1.oth ht fT (Ne.symm n6)
  replace F1 := F1.t fT
  clear hr hR0 hQ0 hU0 hT0 fT ht
  obtain ⟨nt1, ft1, hT1, -⟩ := id hT2
  refine g_aload_n hC rfl d_Whole_divide_37 ?_
  refine g_iload hC rfl d_Whole_divide_38 ?_
  refine g_callV1 hC (sp_Whole_times hT2 hs2 (Int.lt_of_lt_of_le hb2 (pow_le (by omega))) c4) oc_Whole_times ov_Whole_times ml_Whole_50 hT1.1 rfl hR (Nat.le_of_ble_eq_true rfl) (Nat.le_of_ble_eq_true rfl) (Nat.le_of_ble_eq_true rfl) (Nat.le_of_ble_eq_true rfl) (Nat.le_of_ble_eq_true rfl) d_Whole_divide_40 (fun r M3 hp => ?_)
  obtain ⟨rfl, hT3, fT⟩ := hp
  refine g_s0 ?_
  replace hq := hq.oth hT2.tox fT (Ne.symm n3)
  replace hu1 := hu1.oth hT2.tox fT (Ne.symm n6)
  replace F1 := F1.t fT
  clear hT1 hT2 fT
  obtain ⟨nq1, fq1, hQ1, -⟩ := id hq
  refine g_aload_n hC rfl d_Whole_divide_43 ?_
  refine g_iload hC rfl d_Whole_divide_44 ?_
  refine g_callV1 hC (sp_Whole_times hq hs2 (Int.lt_of_lt_of_le hb1 (pow_le (by omega))) c1) oc_Whole_times ov_Whole_times ml_Whole_50 hQ1.1 rfl hR (Nat.le_of_ble_eq_true rfl) (Nat.le_of_ble_eq_true rfl) (Nat.le_of_ble_eq_true rfl) (Nat.le_of_ble_eq_true rfl) (Nat.le_of_ble_eq_true rfl) d_Whole_divide_46 (fun r M4 hp => ?_)
  obtain ⟨rfl, hq4, fQ⟩ := hp
  refine g_s0 ?_
  replace hT3 := hT3.oth hq.tox fQ n3
  replace hu1 := hu1.oth hq.tox fQ n2
  replace F1 := F1.q fQ
  clear hQ1 hq fQ
  obtain ⟨N0, f0, hQ4, hN0, rQ⟩ := hq4
  obtain ⟨n, g, hT4, hn, rT⟩ := hT3
  obtain ⟨nu4, h0, hU4⟩ := hu1
  have hN0i : N0 ≤ i + 1 := rep_le rQ hb1
  have hni : n ≤ i + 1 := rep_le rT hb2
  have hD0 : 0 < w * s := Nat.mul_pos hw hs1
  have hnN : n ≤ N0 := rep_sz_le rQ rT (Nat.mul_le_mul_right s hle)
  obtain ⟨nk, rfl⟩ : ∃ k, n = k + 1 := ⟨n - 1, by have := rep_0 rT; omega⟩
  have hgt := rT.1 nk (by omega)
  have hgt0 := rT.2.1 nk rfl
  -- limb[size] = 0
  refine g_aload_n hC rfl d_Whole_divide_49 ?_
  refine g_get hC fb_Whole_9 hQ4.1 rfl d_Whole_divide_50 ?_
  refine g_aload_n hC rfl d_Whole_divide_53 ?_
  refine g_get hC fb_Whole_15 hQ4.1 rfl d_Whole_divide_54 ?_
  refine g_iconst hC d_Whole_divide_57 ?_
  refine g_iast hC hQ4.2 (by omega) (by omega) (by omega) d_Whole_divide_58 ?_
  have fQ := (frW.rf (M := M4) (q := q)).a (e := oI X.K cap (up f0 N0 0))
  replace F1 := F1.q fQ
  have hT5 := hT4.oth hQ4 fQ n3
  have hU5 := hU4.oth hQ4 fQ n2
  have hQ5 := hQ4.st (f' := up f0 N0 0)
  clear fQ hT4 hU4 hQ4
  generalize ups M4 (q + 1) (oI X.K cap (up f0 N0 0)) = M5 at *
  refine g_aload_n hC rfl d_Whole_divide_59 ?_
  refine g_get hC fb_Whole_15 hT5.1 rfl d_Whole_divide_60 ?_
  first | refine g_ist5 hC d_Whole_divide_63 rfl (hN 5 rfl) ?_ | (refine g_fg4 ?_; refine g_ist5 hC d_Whole_divide_63 rfl (hN 5 rfl) ?_)
  refine g_aload_n hC rfl d_Whole_divide_65 ?_
  refine g_get hC fb_Whole_15 hQ5.1 rfl d_Whole_divide_66 ?_
  refine g_iload hC rfl d_Whole_divide_69 ?_
  refine g_isub hC d_Whole_divide_71 ?_
  refine g_iconst hC d_Whole_divide_72 ?_
  refine g_iadd hC d_Whole_divide_73 ?_
  obtain ⟨many, hmany⟩ : ∃ k : Nat, k = N0 - (nk + 1) + 1 := ⟨_, rfl⟩
  rw [show (N0 : Int) - ((nk + 1 : Nat) : Int) + 1 = (many : Int) by omega]
  first | refine g_ist6 hC d_Whole_divide_74 rfl (hN 6 rfl) ?_ | (refine g_fg5 ?_; refine g_ist6 hC d_Whole_divide_74 rfl (hN 6 rfl) ?_)
  refine g_aload_n hC rfl d_Whole_divide_76 ?_
  refine g_iload hC rfl d_Whole_divide_77 ?_
  refine g_put hC fb_Whole_15 hU5.1 rfl rfl (Nat.le_of_ble_eq_true rfl) d_Whole_divide_79 ?_
  have fU := (frW.rf (M := M5) (q := u)).o (e := oO 0 [.ref (u + 1), iv (many : Nat)])
  replace F1 := F1.u fU
  have hT6 := hT5.oth hU5 fU n6
  have hQ6 := hQ5.oth hU5 fU (Ne.symm n2)
  have hU6 := hU5.sz (n' := many)
  clear fU hT5 hU5 hQ5
  show G X 0 0 (ups M5 u (oO 0 [.ref (u + 1), iv (many : Nat)])) 82 _ _
  generalize ups M5 u (oO 0 [.ref (u + 1), iv (many : Nat)]) = M6 at *
  refine g_iload hC rfl d_Whole_divide_82 ?_
  refine g_iconst hC d_Whole_divide_84 ?_
  refine g_isub hC d_Whole_divide_85 ?_
  first | refine g_ist7 hC d_Whole_divide_86 rfl (hN 7 rfl) ?_ | (refine g_fg6 ?_; refine g_ist7 hC d_Whole_divide_86 rfl (hN 7 rfl) ?_)
  -- the end of the division
  have fin : ∀ (f' h' : Int → Int) (M' : AH), isW X.K M' q cap N0 f' → isW X.K M' u cu many h' → wx X.K M' t ct → dg f' (nk + 1) → dg h' many → ((v * s : Nat) : Int) = vl f' (nk + 1) + ((w * s : Nat) : Int) * vl h' many → vl f' (nk + 1) < ((w * s : Nat) : Int) → fr3 M M' q u t → G X 0 0 M' 213 [some (.ref q), some (.ref r), some (.ref u), some (.ref t), some (iv s), some (iv ((nk + 1 : Nat) : Int)), some (iv many), some (iv ((0 : Nat) - 1)), none, none, none, none, none, none] [] := by
    intro f' h' M' hQ7 hU7 hT7 df dh hval hlt F7
    have e1 := vl_nonneg df
    have e2 := vl_nonneg dh
    have hdm : vl f' (nk + 1) = (((v % w) * s : Nat) : Int) ∧ vl h' many = ((v / w : Nat) : Int) := by
      have e3 : ((v * s : Nat) : Int) / ((w * s : Nat) : Int) = vl h' many ∧ ((v * s : Nat) : Int) % ((w * s : Nat) : Int) = vl f' (nk + 1) := by
        rw [Int.ediv_emod_unique (by omega)]
        exact ⟨by omega, e1, hlt⟩
      rw [← Int.natCast_ediv, ← Int.natCast_emod, Nat.mul_div_mul_right _ _ hs1, Nat.mul_mod_mul_right] at e3
      exact ⟨e3.2.symm, e3.1.symm⟩
    refine g_aload_n hC rfl d_Whole_divide_213 ?_
    refine g_iload hC rfl d_Whole_divide_214 ?_
    refine g_put hC fb_Whole_15 hQ7.1 rfl rfl (Nat.le_of_ble_eq_true rfl) d_Whole_divide_216 ?_
    have fQ := (frW.rf (M := M') (q := q)).o (e := oO 0 [.ref (q + 1), iv ((nk + 1 : Nat) : Int)])
    replace F7 := F7.q fQ
    have hU8 := hU7.oth hQ7 fQ n2
    have hT8 := hT7.oth ⟨_, _, hQ7⟩ fQ n3
    have hQ8 := hQ7.sz (n' := nk + 1)
    clear fQ hU7 hT7 hQ7
    show G X 0 0 (ups M' q (oO 0 [.ref (q + 1), iv ((nk + 1 : Nat) : Int)])) 219 _ _
    generalize ups M' q (oO 0 [.ref (q + 1), iv ((nk + 1 : Nat) : Int)]) = M8 at *
    refine g_aload_n hC rfl d_Whole_divide_219 ?_
    refine g_callV0 hC (sp_Whole_trim hQ8 (by omega) c1 df) oc_Whole_trim ov_Whole_trim ml_Whole_39 hQ8.1 rfl hR (Nat.le_of_ble_eq_true rfl) (Nat.le_of_ble_eq_true rfl) (Nat.le_of_ble_eq_true rfl) (Nat.le_of_ble_eq_true rfl) (Nat.le_of_ble_eq_true rfl) d_Whole_divide_220 (fun r M9 hp => ?_)
    obtain ⟨rfl, k1, a1, hQ9, a2, a3, fQ⟩ := hp
    refine g_s0 ?_
    replace F7 := F7.q fQ
    have hU9 := hU8.oth hQ8 fQ n2
    have hT9 := hT8.oth ⟨_, _, hQ8⟩ fQ n3
    clear fQ hU8 hT8 hQ8
    refine g_aload_n hC rfl d_Whole_divide_223 ?_
    refine g_callV0 hC (sp_Whole_trim hU9 (by omega) c3 dh) oc_Whole_trim ov_Whole_trim ml_Whole_39 hU9.1 rfl hR (Nat.le_of_ble_eq_true rfl) (Nat.le_of_ble_eq_true rfl) (Nat.le_of_ble_eq_true rfl) (Nat.le_of_ble_eq_true rfl) (Nat.le_of_ble_eq_true rfl) d_Whole_divide_224 (fun r MA hp => ?_)
    obtain ⟨rfl, k2, b1, hUA, b2, b3, fU⟩ := hp
    refine g_s0 ?_
    replace F7 := F7.u fU
    have hTA := hT9.oth ⟨_, _, hU9⟩ fU n6
    have hQA := hQ9.oth hU9 fU (Ne.symm n2)
    clear fU hU9 hT9 hQ9
    have hvA : wv X.K MA q cap (v % w * s) := ⟨k1, f', hQA, by omega, dg_le df a1, a2, by rw [a3]; exact hdm.1⟩
    have huA : wv X.K MA u cu (v / w) := ⟨k2, h', hUA, by omega, dg_le dh b1, b2, by rw [b3]; exact hdm.2⟩
    refine g_aload_n hC rfl d_Whole_divide_227 ?_
    refine g_iload hC rfl d_Whole_divide_228 ?_
    refine g_callV1 hC (sp_Whole_cut hvA hs1 hs2 c1) oc_Whole_cut ov_Whole_cut ml_Whole_68 hQA.1 rfl hR (Nat.le_of_ble_eq_true rfl) (Nat.le_of_ble_eq_true rfl) (Nat.le_of_ble_eq_true rfl) (Nat.le_of_ble_eq_true rfl) (Nat.le_of_ble_eq_true rfl) d_Whole_divide_230 (fun r MB hp => ?_)
    obtain ⟨rfl, hvB, fQ⟩ := hp
    refine g_sv ?_
    rw [Nat.mul_div_cancel _ hs1] at hvB
    first | refine g_ist7 hC d_Whole_divide_233 rfl (hN 7 rfl) ?_ | (refine g_fg6 ?_; refine g_ist7 hC d_Whole_divide_233 rfl (hN 7 rfl) ?_)
    refine g_vret hC hQ (by decide) (by decide) d_Whole_divide_235 ⟨rfl, hvB, huA.oth hvA.tox fQ n2, hTA.oth hvA.tox fQ n3, F7.q fQ⟩
  obtain ⟨ff, hff⟩ : ∃ ff, ff = up f0 N0 0 := ⟨_, rfl⟩
  rw [← hff] at hQ6
  have dff : dg ff (N0 + 1) := by rw [hff]; exact dg_up rQ.1 (by omega) (by omega)
  have vff : vl ff (N0 + 1) = ((v * s : Nat) : Int) := by rw [hff, vl_ups, rQ.2.2]; omega
  have ffN : ff N0 = 0 := by rw [hff, up_s]
  clear hff
  have hDn := rep_lt rT
  have hDg : g nk * pw nk ≤ ((w * s : Nat) : Int) := by
    rw [← rT.2.2, vl_s]
    have := vl_nonneg (dg_le rT.1 (Nat.le_succ nk))
    omega
  have loop : ∀ (J : Nat) (f' h' : Int → Int) (M' : AH), J ≤ many → isW X.K M' q cap N0 f' → isW X.K M' u cu many h' → isW X.K M' t ct (nk + 1) g → dg (sh f' J) (nk + 1) → (∀ x : Int, x < J → f' x = ff x) → (∀ x : Nat, J ≤ x → x < many → 0 ≤ h' x ∧ h' x < 1000000000) → vl (sh ff J) (N0 + 1 - J) = vl (sh f' J) (nk + 1) + ((w * s : Nat) : Int) * vl (sh h' J) (many - J) → vl (sh f' J) (nk + 1) < ((w * s : Nat) : Int) → fr3 M M' q u t → G X 0 0 M' 88 [some (.ref q), some (.ref r), some (.ref u), some (.ref t), some (iv s), some (iv ((nk + 1 : Nat) : Int)), some (iv many), some (iv ((J : Nat) - 1)), none, none, none, none, none, none] [] := by
    intro J
    induction J with
    | zero =>
      intro f' h' M' hJ hQ7 hU7 hT7 df he dh hZ hlt F7
      have es : ∀ (a : Int → Int) (k : Nat), vl (sh a 0) k = vl a k := fun a k => vl_congr (fun x hx => by show a _ = _; congr 1; omega)
      have ed : ∀ x : Nat, sh f' 0 (x : Int) = f' x := fun x => by show f' _ = _; congr 1; omega
      rw [es, es, es, Nat.sub_zero, Nat.sub_zero, vff] at hZ
      rw [es] at hlt
      refine g_iload hC rfl d_Whole_divide_88 ?_
      refine g_if_lt hC (by unfold I32; omega) d_Whole_divide_90 (fun c => ?_) (fun c => ?_)
      · exact fin f' h' M' hQ7 hU7 ⟨_, _, hT7⟩ (fun x hx => by rw [← ed]; exact df x hx) (fun x hx => dh x (by omega) hx) hZ hlt F7
      · omega
    | succ j ih =>
      intro f' h' M' hJ hQ7 hU7 hT7 df he dh hZ hlt F7
      have ej : ((j + 1 : Nat) : Int) - 1 = (j : Int) := by omega
      rw [ej]
      have hfj := he j (by omega)
      have dfj := dff j (by omega)
      have dw : dg (sh f' j) (nk + 1 + 1) := dg_cons (by rw [hfj]; exact dfj) df
      obtain ⟨U, hU⟩ : ∃ U, U = vl (sh f' j) (nk + 1 + 1) := ⟨_, rfl⟩
      have hUc : U = ff j + 1000000000 * vl (sh f' (j + 1)) (nk + 1) := by rw [hU, vl_cons, hfj]
      have hU0 : 0 ≤ U := by rw [hU]; exact vl_nonneg dw
      have hUs : U = vl (sh f' j) (nk + 1) + f' ((j : Int) + ((nk + 1 : Nat) : Int)) * pw (nk + 1) := by rw [hU, vl_s]; rfl
      have hUlt : U < 1000000000 * ((w * s : Nat) : Int) := by omega
      have d1 := dw (nk + 1) (by omega)
      have d2 := dw nk (by omega)
      unfold sh at d1 d2
      have ei : (j : Int) + ((nk + 1 : Nat) : Int) - 1 = (j : Int) + nk := by omega
      have ek : ((nk + 1 : Nat) : Int) - 1 = (nk : Int) := by omega
      have hpn := pw_pos (nk + 1)
      refine g_iload hC rfl d_Whole_divide_88 ?_
      refine g_if_lt hC (by unfold I32; omega) d_Whole_divide_90 (fun c => ?_) (fun c => ?_)
      · omega
      refine g_aload_n hC rfl d_Whole_divide_93 ?_
      refine g_get hC fb_Whole_9 hQ7.1 rfl d_Whole_divide_94 ?_
      refine g_iload hC rfl d_Whole_divide_97 ?_
      refine g_iload hC rfl d_Whole_divide_99 ?_
      refine g_iadd hC d_Whole_divide_101 ?_
      refine g_iald hC hQ7.2 (by omega) (by omega) (by omega) d_Whole_divide_102 ?_
      refine g_i2l hC (by unfold I32; omega) d_Whole_divide_103 ?_
      refine g_ldc2 (z := 1000000000) hC cn_Whole_19 (by decide) d_Whole_divide_104 ?_
      refine g_lmul hC d_Whole_divide_107 ?_
      refine g_aload_n hC rfl d_Whole_divide_108 ?_
      refine g_get hC fb_Whole_9 hQ7.1 rfl d_Whole_divide_109 ?_
      refine g_iload hC rfl d_Whole_divide_112 ?_
      refine g_iload hC rfl d_Whole_divide_114 ?_
      refine g_iadd hC d_Whole_divide_116 ?_
      refine g_iconst hC d_Whole_divide_117 ?_
      refine g_isub hC d_Whole_divide_118 ?_
      rw [ei]
      refine g_iald hC hQ7.2 (by omega) (by omega) (by omega) d_Whole_divide_119 ?_
      refine g_i2l hC (by unfold I32; omega) d_Whole_divide_120 ?_
      refine g_ladd hC d_Whole_divide_121 ?_
      obtain ⟨top, htop⟩ : ∃ x, x = f' ((j : Int) + ((nk + 1 : Nat) : Int)) * 1000000000 + f' ((j : Int) + nk) := ⟨_, rfl⟩
      rw [← htop]
      have ht1 : 0 ≤ top := by omega
      have ht2 : top < 1000000000000000000 := by omega
      first | refine g_lst8 hC d_Whole_divide_122 rfl (hN 9 rfl) ?_ | (refine g_fg7 ?_; refine g_lst8 hC d_Whole_divide_122 rfl (hN 9 rfl) ?_)
      refine g_ldc2 (z := 999999999) hC cn_Whole_54 (by decide) d_Whole_divide_124 ?_
      refine g_lload hC rfl d_Whole_divide_127 ?_
      refine g_aload_n hC rfl d_Whole_divide_129 ?_
      refine g_get hC fb_Whole_9 hT7.1 rfl d_Whole_divide_130 ?_
      refine g_iload hC rfl d_Whole_divide_133 ?_
      refine g_iconst hC d_Whole_divide_135 ?_
      refine g_isub hC d_Whole_divide_136 ?_
      rw [ek]
      refine g_iald hC hT7.2 (by omega) (by omega) (by omega) d_Whole_divide_137 ?_
      refine g_i2l hC (by unfold I32; omega) d_Whole_divide_138 ?_
      refine g_ldivN hC (by unfold I64; omega) (by unfold I64; omega) (by omega) (by omega) d_Whole_divide_139 ?_
      have hq0 : 0 ≤ top / g nk := Int.ediv_nonneg ht1 hgt.1
      have hq1 : top / g nk ≤ top := Int.ediv_le_self _ ht1
      refine g_callS2 hC (sp_minJ (by unfold I64; omega) (by unfold I64; omega)) oc_Math_minJ os_Math_minJ ml_Whole_56 hR (Nat.le_of_ble_eq_true rfl) (Nat.le_of_ble_eq_true rfl) (Nat.le_of_ble_eq_true rfl) (Nat.le_of_ble_eq_true rfl) (Nat.le_of_ble_eq_true rfl) d_Whole_divide_140 (fun r Mx hp => ?_)
      obtain ⟨rfl, rfl⟩ := hp
      refine g_sv ?_
      obtain ⟨G0, hG0⟩ : ∃ k : Nat, (k : Int) = min 999999999 (top / g nk) := ⟨(min 999999999 (top / g nk)).toNat, by omega⟩
      rw [← hG0]
      have hGb : (G0 : Int) < 1000000000 := by omega
      have hhat : U < ((G0 : Int) + 1) * ((w * s : Nat) : Int) := by
        have h1 : U = top * pw nk + vl (sh f' j) nk := by
          rw [hUs, vl_s, htop, Int.add_mul, pw_s, Int.mul_assoc]
          show _ + f' ((j : Int) + nk) * _ + _ = _
          omega
        have h2 := q_hat h1 (vl_lt (dg_le dw (by omega))) (pw_pos nk) (by omega) hDg ht1
        rcases Int.le_total 999999999 (top / g nk) with h | h
        · rw [show (G0 : Int) + 1 = 1000000000 by omega]; exact hUlt
        · rw [show (G0 : Int) = top / g nk by omega]; exact h2
      first | refine g_lst10 hC d_Whole_divide_143 rfl (hN 11 rfl) ?_ | (refine g_fg9 ?_; refine g_lst10 hC d_Whole_divide_143 rfl (hN 11 rfl) ?_)
      refine g_aload_n hC rfl d_Whole_divide_145 ?_
      refine g_aload_n hC rfl d_Whole_divide_146 ?_
      refine g_lload hC rfl d_Whole_divide_147 ?_
      refine g_iload hC rfl d_Whole_divide_149 ?_
      refine g_callV3 hC (sp_Whole_take3 hQ7 hT7 n3 rT dw (by omega) hn (by omega) (by omega) c1 c4) oc_Whole_take3 ov_Whole_take3 ml_Whole_60 hQ7.1 rfl hR (Nat.le_of_ble_eq_true rfl) (Nat.le_of_ble_eq_true rfl) (Nat.le_of_ble_eq_true rfl) (Nat.le_of_ble_eq_true rfl) (Nat.le_of_ble_eq_true rfl) d_Whole_divide_151 (fun r M8 hp => ?_)
      obtain ⟨f2, cy, rfl, k1, k2, hQ8, k3, k4, k5, fQ⟩ := hp
      refine g_sv ?_
      have hU8 := hU7.oth hQ7 fQ n2
      have hT8 := hT7.oth hQ7 fQ n3
      have F8 := F7.q fQ
      first | refine g_lst12 hC d_Whole_divide_154 rfl (hN 13 rfl) ?_ | (refine g_fg11 ?_; refine g_lst12 hC d_Whole_divide_154 rfl (hN 13 rfl) ?_)
      -- behind the corrections
      have done : ∀ (Gn : Nat) (f3 : Int → Int) (M9 : AH) (Lk : Int), (Gn : Int) < 1000000000 → isW X.K M9 q cap N0 f3 → isW X.K M9 u cu many h' → isW X.K M9 t ct (nk + 1) g → (∀ x : Int, x < j ∨ (j : Int) + ((nk + 1 : Nat) : Int) ≤ x → f3 x = f' x) → dg (sh f3 j) (nk + 1) → vl (sh f3 j) (nk + 1) + Lk * pw (nk + 1) = U - Gn * ((w * s : Nat) : Int) → U < ((Gn : Int) + 1) * ((w * s : Nat) : Int) → 0 ≤ Lk → fr3 M M9 q u t → G X 0 0 M9 184 [some (.ref q), some (.ref r), some (.ref u), some (.ref t), some (iv s), some (iv ((nk + 1 : Nat) : Int)), some (iv many), some (iv j), some (jv top), none, some (jv Gn), none, some (jv Lk), none] [] := by
        intro Gn f3 M9 Lk hGn hQ9 hU9 hT9 ho hd3 hv3 hh3 hLk F9
        rw [Int.add_mul] at hh3
        have hL0 : Lk = 0 := by
          rcases Int.lt_or_le Lk 1 with h | h
          · omega
          · have h5 : 1 * pw (nk + 1) ≤ Lk * pw (nk + 1) := Int.mul_le_mul_of_nonneg_right h (Int.le_of_lt hpn)
            have h6 := vl_nonneg hd3
            omega
        subst hL0
        refine g_aload_n hC rfl d_Whole_divide_184 ?_
        refine g_get hC fb_Whole_9 hQ9.1 rfl d_Whole_divide_185 ?_
        refine g_iload hC rfl d_Whole_divide_188 ?_
        refine g_iload hC rfl d_Whole_divide_190 ?_
        refine g_iadd hC d_Whole_divide_192 ?_
        refine g_lload hC rfl d_Whole_divide_193 ?_
        refine g_l2i hC d_Whole_divide_195 ?_
        refine g_iast hC hQ9.2 (by omega) (by omega) (by omega) d_Whole_divide_196 ?_
        have fQ := (frW.rf (M := M9) (q := q)).a (e := oI X.K cap (up f3 ((j : Int) + ((nk + 1 : Nat) : Int)) 0))
        replace F9 := F9.q fQ
        replace hU9 := hU9.oth hQ9 fQ n2
        replace hT9 := hT9.oth hQ9 fQ n3
        replace hQ9 := hQ9.st (f' := up f3 ((j : Int) + ((nk + 1 : Nat) : Int)) 0)
        generalize ups M9 (q + 1) (oI X.K cap (up f3 ((j : Int) + ((nk + 1 : Nat) : Int)) 0)) = MA at *
        refine g_aload_n hC rfl d_Whole_divide_197 ?_
        refine g_get hC fb_Whole_9 hU9.1 rfl d_Whole_divide_198 ?_
        refine g_iload hC rfl d_Whole_divide_201 ?_
        refine g_lload hC rfl d_Whole_divide_203 ?_
        refine g_l2i hC d_Whole_divide_205 ?_
        refine g_iast hC hU9.2 (by omega) (by omega) (by omega) d_Whole_divide_206 ?_
        have fU := (frW.rf (M := MA) (q := u)).a (e := oI X.K cu (up h' j Gn))
        replace F9 := F9.u fU
        replace hT9 := hT9.oth hU9 fU n6
        replace hQ9 := hQ9.oth hU9 fU (Ne.symm n2)
        replace hU9 := hU9.st (f' := up h' j Gn)
        generalize ups MA (u + 1) (oI X.K cu (up h' j Gn)) = MB at *
        refine g_inc7 hC d_Whole_divide_207 rfl (hN 7 rfl) ?_
        refine g_goto hC d_Whole_divide_210 ?_
        rw [show (j : Int) + -1 = ((j : Nat) : Int) - 1 by omega]
        refine g_fg8 (g_fg10 (g_fg12 ?_))
        have hsh : ∀ x : Nat, x < nk + 1 → sh (up f3 ((j : Int) + ((nk + 1 : Nat) : Int)) 0) j (x : Int) = sh f3 j (x : Int) := fun x hx => by show up f3 _ 0 _ = f3 _; exact up_n (by omega)
        have hvw : vl (sh (up f3 ((j : Int) + ((nk + 1 : Nat) : Int)) 0) j) (nk + 1) = vl (sh f3 j) (nk + 1) := vl_congr hsh
        refine ih _ _ _ (by omega) hQ9 hU9 hT9 (dg_congr hd3 hsh) (fun x hx => ?_) (fun x h5 h6 => ?_) ?_ ?_ F9
        · rw [up_n (by omega), ho x (by omega)]
          exact he x (by omega)
        · by_cases e : x = j
          · subst e; rw [up_s]; omega
          · rw [up_n (by omega)]; exact dh x (by omega) h6
        · rw [hvw]
          obtain ⟨a1, ha1⟩ : ∃ a1, N0 + 1 - j = a1 + 1 := ⟨N0 - j, by omega⟩
          obtain ⟨b1, hb1⟩ : ∃ b1, many - j = b1 + 1 := ⟨many - j - 1, by omega⟩
          rw [ha1, hb1, vl_cons ff, vl_cons (up h' j Gn), up_s]
          have e3 : vl (sh (up h' j Gn) (j + 1)) b1 = vl (sh h' (j + 1)) b1 := vl_congr (fun k hk => by show up h' j _ _ = h' _; exact up_n (by omega))
          rw [show N0 + 1 - (j + 1) = a1 by omega, show many - (j + 1) = b1 by omega] at hZ
          rw [e3, hZ, Int.mul_add, Int.mul_add, ← Int.mul_assoc, ← Int.mul_assoc, Int.mul_comm ((w * s : Nat) : Int) 1000000000, Int.mul_comm ((w * s : Nat) : Int) Gn]
          omega
        · rw [hvw]
          omega
      have inner : ∀ (Gn : Nat) (f3 : Int → Int) (M9 : AH) (Lk : Int), (Gn : Int) < 1000000000 → isW X.K M9 q cap N0 f3 → isW X.K M9 u cu many h' → isW X.K M9 t ct (nk + 1) g → (∀ x : Int, x < j ∨ (j : Int) + ((nk + 1 : Nat) : Int) ≤ x → f3 x = f' x) → dg (sh f3 j) (nk + 1) → vl (sh f3 j) (nk + 1) + Lk * pw (nk + 1) = U - Gn * ((w * s : Nat) : Int) → U < ((Gn : Int) + 1) * ((w * s : Nat) : Int) → -1000000000 ≤ Lk → Lk ≤ 1000000000 → fr3 M M9 q u t → G X 0 0 M9 156 [some (.ref q), some (.ref r), some (.ref u), some (.ref t), some (iv s), some (iv ((nk + 1 : Nat) : Int)), some (iv many), some (iv j), some (jv top), none, some (jv Gn), none, some (jv Lk), none] [] := by
        intro Gn
        induction Gn with
        | zero =>
          intro f3 M9 Lk hGn hQ9 hU9 hT9 ho hd3 hv3 hh3 hL1 hL2 F9
          refine g_lload hC rfl d_Whole_divide_156 ?_
          refine g_lconst (z := 0) hC (by decide) d_Whole_divide_158 ?_
          refine g_lcmp hC (by unfold I64; omega) (by unfold I64; omega) d_Whole_divide_159 ?_
          refine g_lif_ge hC d_Whole_divide_160 (fun c => ?_) (fun c => ?_)
          · exact done 0 f3 M9 Lk hGn hQ9 hU9 hT9 ho hd3 hv3 hh3 c F9
          · exfalso
            have h5 : Lk * pw (nk + 1) ≤ (-1) * pw (nk + 1) := Int.mul_le_mul_of_nonneg_right (by omega) (Int.le_of_lt hpn)
            have h6 := vl_lt hd3
            simp at hv3
            omega
        | succ Gn ihg =>
          intro f3 M9 Lk hGn hQ9 hU9 hT9 ho hd3 hv3 hh3 hL1 hL2 F9
          refine g_lload hC rfl d_Whole_divide_156 ?_
          refine g_lconst (z := 0) hC (by decide) d_Whole_divide_158 ?_
          refine g_lcmp hC (by unfold I64; omega) (by unfold I64; omega) d_Whole_divide_159 ?_
          refine g_lif_ge hC d_Whole_divide_160 (fun c => ?_) (fun c => ?_)
          · exact done (Gn + 1) f3 M9 Lk hGn hQ9 hU9 hT9 ho hd3 hv3 hh3 c F9
          · have h5 : Lk * pw (nk + 1) ≤ (-1) * pw (nk + 1) := Int.mul_le_mul_of_nonneg_right (by omega) (Int.le_of_lt hpn)
            have h6 := vl_lt hd3
            refine g_lload hC rfl d_Whole_divide_163 ?_
            refine g_lconst (z := 1) hC (by decide) d_Whole_divide_165 ?_
            refine g_lsub hC d_Whole_divide_166 ?_
            rw [show ((Gn + 1 : Nat) : Int) - 1 = (Gn : Int) by omega]
            first | refine g_lst10 hC d_Whole_divide_167 rfl (hN 11 rfl) ?_ | (refine g_fg9 ?_; refine g_lst10 hC d_Whole_divide_167 rfl (hN 11 rfl) ?_)
            refine g_lload hC rfl d_Whole_divide_169 ?_
            refine g_aload_n hC rfl d_Whole_divide_171 ?_
            refine g_aload_n hC rfl d_Whole_divide_172 ?_
            refine g_iload hC rfl d_Whole_divide_173 ?_
            refine g_callV2 hC (sp_Whole_giveBack hQ9 hT9 n3 rT hd3 (by omega) hn c1 c4) oc_Whole_giveBack ov_Whole_giveBack ml_Whole_64 hQ9.1 rfl hR (Nat.le_of_ble_eq_true rfl) (Nat.le_of_ble_eq_true rfl) (Nat.le_of_ble_eq_true rfl) (Nat.le_of_ble_eq_true rfl) (Nat.le_of_ble_eq_true rfl) d_Whole_divide_175 (fun r MA hp => ?_)
            obtain ⟨f4, c4', rfl, g1, hQA, g2, g3, g4, fQ⟩ := hp
            refine g_sv ?_
            refine g_ladd hC d_Whole_divide_178 ?_
            first | refine g_lst12 hC d_Whole_divide_179 rfl (hN 13 rfl) ?_ | (refine g_fg11 ?_; refine g_lst12 hC d_Whole_divide_179 rfl (hN 13 rfl) ?_)
            refine g_goto hC d_Whole_divide_181 ?_
            refine ihg f4 MA (Lk + c4') (by omega) hQA (hU9.oth hQ9 fQ n2) (hT9.oth hQ9 fQ n3) (fun x hx => by rw [g2 x hx]; exact ho x hx) g3 ?_ ?_ (by omega) (by omega) (F9.q fQ)
            · rw [Int.add_mul]
              rw [show ((Gn + 1 : Nat) : Int) = (Gn : Int) + 1 by omega, Int.add_mul] at hv3
              omega
            · rw [show ((Gn + 1 : Nat) : Int) = (Gn : Int) + 1 by omega] at hv3
              omega
      refine inner G0 f2 M8 _ hGb hQ8 hU8 hT8 k3 k4 ?_ hhat (by omega) (by omega) F8
      rw [Int.add_mul]
      omega
  refine loop many ff h0 M6 (Nat.le_refl _) hQ6 hU6 hT6 (fun x hx => ?_) (fun x _ => rfl) (fun x h5 h6 => by omega) ?_ ?_ F1
  · have := dff (many + x) (by omega)
    show 0 ≤ ff _ ∧ ff _ < _
    rw [show (many : Int) + (x : Int) = ((many + x : Nat) : Int) by omega]
    exact this
  · rw [show N0 + 1 - many = nk + 1 by omega, Nat.sub_self, vl_0]
    omega
  · rw [vl_s]
    show vl (sh ff many) nk + ff ((many : Int) + nk) * pw nk < _
    rw [show (many : Int) + (nk : Int) = (N0 : Int) by omega, ffN]
    have h5 : vl (sh ff many) nk < pw nk := vl_lt (fun x hx => by
      have := dff (many + x) (by omega)
      show 0 ≤ ff _ ∧ ff _ < _
      rw [show (many : Int) + (x : Int) = ((many + x : Nat) : Int) by omega]
      exact this)
    have h6 : 1 * pw nk ≤ g nk * pw nk := Int.mul_le_mul_of_nonneg_right (by omega) (Int.le_of_lt (pw_pos nk))
    omega
