/-! Comp: share -/
def gW (wl : List Int) (j : Nat) : Int := wl.getD j 0
def sW (wl : List Int) : Nat → Int
  | 0 => 0
  | n + 1 => sW wl n + gW wl n
def wpt (W : Int) (wl : List Int) (j : Nat) : Int := W * gW wl j / sW wl wl.length
def wrs (W : Int) (wl : List Int) (j : Nat) : Int := W * gW wl j % sW wl wl.length
def sP (W : Int) (wl : List Int) : Nat → Int
  | 0 => 0
  | n + 1 => sP W wl n + wpt W wl n
def bef (W : Int) (wl : List Int) (k : Nat) : Nat → Int
  | 0 => 0
  | n + 1 => bef W wl k n + (if wrs W wl k < wrs W wl n ∨ wrs W wl n = wrs W wl k ∧ n < k then 1 else 0)
def shr (W : Int) (wl : List Int) (k : Nat) : Int := wpt W wl k + (if bef W wl k wl.length < W - sP W wl wl.length then 1 else 0)
theorem gW_b {wl : List Int} (h : ∀ w ∈ wl, 1 ≤ w ∧ w ≤ 1000000000) {j : Nat} (hj : j < wl.length) : 1 ≤ gW wl j ∧ gW wl j ≤ 1000000000 := by
  unfold gW
  rw [List.getD_eq_getElem?_getD, List.getElem?_eq_getElem hj]
  exact h _ (List.getElem_mem hj)
theorem sW_b {wl : List Int} (h : ∀ w ∈ wl, 1 ≤ w ∧ w ≤ 1000000000) : ∀ n, n ≤ wl.length → (n : Int) ≤ sW wl n ∧ sW wl n ≤ 1000000000 * n
  | 0, _ => ⟨by show (0 : Int) ≤ 0; omega, by show (0 : Int) ≤ _; omega⟩
  | n + 1, hn => by
    have h1 := sW_b h n (by omega)
    have h2 := gW_b h (show n < wl.length by omega)
    show ((n + 1 : Nat) : Int) ≤ sW wl n + gW wl n ∧ sW wl n + gW wl n ≤ _
    omega
theorem sW_ge {wl : List Int} (h : ∀ w ∈ wl, 1 ≤ w ∧ w ≤ 1000000000) {j : Nat} : ∀ n, n ≤ wl.length → j < n → gW wl j ≤ sW wl n
  | 0, _, hj => absurd hj (Nat.not_lt_zero _)
  | n + 1, hn, hj => by
    have h1 := sW_b h n (by omega)
    have h2 := gW_b h (show n < wl.length by omega)
    show gW wl j ≤ sW wl n + gW wl n
    by_cases e : j = n
    · subst e; omega
    · have := sW_ge h n (by omega) (by omega : j < n)
      omega
theorem wpt_b {W : Int} {wl : List Int} (h : ∀ w ∈ wl, 1 ≤ w ∧ w ≤ 1000000000) (hW : 0 ≤ W) {j : Nat} (hj : j < wl.length) : 0 ≤ wpt W wl j ∧ wpt W wl j ≤ W := by
  have h1 := sW_b h wl.length (Nat.le_refl _)
  have h2 := gW_b h hj
  have h3 := sW_ge h wl.length (Nat.le_refl _) hj
  have hS : 0 < sW wl wl.length := by omega
  unfold wpt
  constructor
  · exact Int.ediv_nonneg (Int.mul_nonneg hW (by omega)) (by omega)
  · have h4 : W * gW wl j ≤ W * sW wl wl.length := Int.mul_le_mul_of_nonneg_left h3 hW
    have h5 := Int.ediv_le_ediv hS h4
    rw [Int.mul_ediv_cancel _ (by omega)] at h5
    exact h5
theorem wrs_b {W : Int} {wl : List Int} (h : ∀ w ∈ wl, 1 ≤ w ∧ w ≤ 1000000000) (h0 : 0 < wl.length) (h12 : wl.length ≤ 12) (j : Nat) : 0 ≤ wrs W wl j ∧ wrs W wl j < 12000000001 := by
  have h1 := sW_b h wl.length (Nat.le_refl _)
  unfold wrs
  have := Int.emod_nonneg (W * gW wl j) (show sW wl wl.length ≠ 0 by omega)
  have := Int.emod_lt_of_pos (W * gW wl j) (show 0 < sW wl wl.length by omega)
  omega
theorem sP_b {W : Int} {wl : List Int} (h : ∀ w ∈ wl, 1 ≤ w ∧ w ≤ 1000000000) (hW : 0 ≤ W) : ∀ n, n ≤ wl.length → 0 ≤ sP W wl n ∧ sP W wl n ≤ W * n
  | 0, _ => ⟨by show (0 : Int) ≤ 0; omega, by show (0 : Int) ≤ _; simp⟩
  | n + 1, hn => by
    have h1 := sP_b h hW n (by omega)
    have h2 := wpt_b h hW (show n < wl.length by omega)
    have e : W * ((n + 1 : Nat) : Int) = W * n + W := by rw [Int.natCast_add, Int.mul_add]; simp
    show 0 ≤ sP W wl n + wpt W wl n ∧ sP W wl n + wpt W wl n ≤ _
    omega
theorem bef_b {W : Int} {wl : List Int} {k : Nat} : ∀ n, 0 ≤ bef W wl k n ∧ bef W wl k n ≤ n
  | 0 => ⟨by show (0 : Int) ≤ 0; omega, by show (0 : Int) ≤ _; omega⟩
  | n + 1 => by
    have := bef_b (W := W) (wl := wl) (k := k) n
    show 0 ≤ bef W wl k n + _ ∧ bef W wl k n + _ ≤ _
    split <;> omega
def okS2 (W : Int) : Bool := decide (0 ≤ W ∧ W ≤ 1000000000000)
theorem d_Comp_share_0 : dn m_Comp_share.2.1 0 (.iload_n 3) 1 1 := ⟨by decide +kernel, rfl⟩
theorem d_Comp_share_1 : dn m_Comp_share.2.1 1 (.aload_n 0) 1 2 := ⟨by decide +kernel, rfl⟩
theorem d_Comp_share_2 : dn m_Comp_share.2.1 2 (.getfield 192) 3 5 := ⟨by decide +kernel, rfl⟩
theorem d_Comp_share_5 : dn m_Comp_share.2.1 5 (.invokestatic 43) 3 8 := ⟨by decide +kernel, rfl⟩
theorem d_Comp_share_8 : dn m_Comp_share.2.1 8 (.lload_n 1) 1 9 := ⟨by decide +kernel, rfl⟩
theorem d_Comp_share_9 : dn m_Comp_share.2.1 9 (.lconst 0) 1 10 := ⟨by decide +kernel, rfl⟩
theorem d_Comp_share_10 : dn m_Comp_share.2.1 10 (.lcmp) 1 11 := ⟨by decide +kernel, rfl⟩
theorem d_Comp_share_11 : db m_Comp_share.2.1 11 (.ifCond .lt) 26 14 := ⟨15, by decide +kernel, by decide, rfl⟩
theorem d_Comp_share_14 : dn m_Comp_share.2.1 14 (.lload_n 1) 1 15 := ⟨by decide +kernel, rfl⟩
theorem d_Comp_share_15 : dn m_Comp_share.2.1 15 (.ldc2_w 195) 3 18 := ⟨by decide +kernel, rfl⟩
theorem d_Comp_share_18 : dn m_Comp_share.2.1 18 (.lcmp) 1 19 := ⟨by decide +kernel, rfl⟩
theorem d_Comp_share_19 : db m_Comp_share.2.1 19 (.ifCond .gt) 26 22 := ⟨7, by decide +kernel, by decide, rfl⟩
theorem d_Comp_share_22 : dn m_Comp_share.2.1 22 (.iconst 1) 1 23 := ⟨by decide +kernel, rfl⟩
theorem d_Comp_share_23 : db m_Comp_share.2.1 23 (.goto) 27 26 := ⟨4, by decide +kernel, by decide, rfl⟩
theorem d_Comp_share_26 : dn m_Comp_share.2.1 26 (.iconst 0) 1 27 := ⟨by decide +kernel, rfl⟩
theorem d_Comp_share_27 : dn m_Comp_share.2.1 27 (.invokestatic 89) 3 30 := ⟨by decide +kernel, rfl⟩
theorem d_Comp_share_30 : dn m_Comp_share.2.1 30 (.lconst 0) 1 31 := ⟨by decide +kernel, rfl⟩
theorem d_Comp_share_31 : dn m_Comp_share.2.1 31 (.lstore 4) 2 33 := ⟨by decide +kernel, rfl⟩
theorem d_Comp_share_33 : dn m_Comp_share.2.1 33 (.iconst 0) 1 34 := ⟨by decide +kernel, rfl⟩
theorem d_Comp_share_34 : dn m_Comp_share.2.1 34 (.istore 6) 2 36 := ⟨by decide +kernel, rfl⟩
theorem d_Comp_share_36 : dn m_Comp_share.2.1 36 (.iload 6) 2 38 := ⟨by decide +kernel, rfl⟩
theorem d_Comp_share_38 : dn m_Comp_share.2.1 38 (.aload_n 0) 1 39 := ⟨by decide +kernel, rfl⟩
theorem d_Comp_share_39 : dn m_Comp_share.2.1 39 (.getfield 192) 3 42 := ⟨by decide +kernel, rfl⟩
theorem d_Comp_share_42 : db m_Comp_share.2.1 42 (.if_icmp .ge) 64 45 := ⟨22, by decide +kernel, by decide, rfl⟩
theorem d_Comp_share_45 : dn m_Comp_share.2.1 45 (.lload 4) 2 47 := ⟨by decide +kernel, rfl⟩
theorem d_Comp_share_47 : dn m_Comp_share.2.1 47 (.aload_n 0) 1 48 := ⟨by decide +kernel, rfl⟩
theorem d_Comp_share_48 : dn m_Comp_share.2.1 48 (.getfield 22) 3 51 := ⟨by decide +kernel, rfl⟩
theorem d_Comp_share_51 : dn m_Comp_share.2.1 51 (.iload 6) 2 53 := ⟨by decide +kernel, rfl⟩
theorem d_Comp_share_53 : dn m_Comp_share.2.1 53 (.iaload) 1 54 := ⟨by decide +kernel, rfl⟩
theorem d_Comp_share_54 : dn m_Comp_share.2.1 54 (.i2l) 1 55 := ⟨by decide +kernel, rfl⟩
theorem d_Comp_share_55 : dn m_Comp_share.2.1 55 (.ladd) 1 56 := ⟨by decide +kernel, rfl⟩
theorem d_Comp_share_56 : dn m_Comp_share.2.1 56 (.lstore 4) 2 58 := ⟨by decide +kernel, rfl⟩
theorem d_Comp_share_58 : dn m_Comp_share.2.1 58 (.iinc 6 1) 3 61 := ⟨by decide +kernel, rfl⟩
theorem d_Comp_share_61 : db m_Comp_share.2.1 61 (.goto) 36 64 := ⟨(-25), by decide +kernel, by decide, rfl⟩
theorem d_Comp_share_64 : dn m_Comp_share.2.1 64 (.lload_n 1) 1 65 := ⟨by decide +kernel, rfl⟩
theorem d_Comp_share_65 : dn m_Comp_share.2.1 65 (.lstore 6) 2 67 := ⟨by decide +kernel, rfl⟩
theorem d_Comp_share_67 : dn m_Comp_share.2.1 67 (.iconst 0) 1 68 := ⟨by decide +kernel, rfl⟩
theorem d_Comp_share_68 : dn m_Comp_share.2.1 68 (.istore 8) 2 70 := ⟨by decide +kernel, rfl⟩
theorem d_Comp_share_70 : dn m_Comp_share.2.1 70 (.iload 8) 2 72 := ⟨by decide +kernel, rfl⟩
theorem d_Comp_share_72 : dn m_Comp_share.2.1 72 (.aload_n 0) 1 73 := ⟨by decide +kernel, rfl⟩
theorem d_Comp_share_73 : dn m_Comp_share.2.1 73 (.getfield 192) 3 76 := ⟨by decide +kernel, rfl⟩
theorem d_Comp_share_76 : db m_Comp_share.2.1 76 (.if_icmp .ge) 103 79 := ⟨27, by decide +kernel, by decide, rfl⟩
theorem d_Comp_share_79 : dn m_Comp_share.2.1 79 (.lload 6) 2 81 := ⟨by decide +kernel, rfl⟩
theorem d_Comp_share_81 : dn m_Comp_share.2.1 81 (.lload_n 1) 1 82 := ⟨by decide +kernel, rfl⟩
theorem d_Comp_share_82 : dn m_Comp_share.2.1 82 (.aload_n 0) 1 83 := ⟨by decide +kernel, rfl⟩
theorem d_Comp_share_83 : dn m_Comp_share.2.1 83 (.getfield 22) 3 86 := ⟨by decide +kernel, rfl⟩
theorem d_Comp_share_86 : dn m_Comp_share.2.1 86 (.iload 8) 2 88 := ⟨by decide +kernel, rfl⟩
theorem d_Comp_share_88 : dn m_Comp_share.2.1 88 (.iaload) 1 89 := ⟨by decide +kernel, rfl⟩
theorem d_Comp_share_89 : dn m_Comp_share.2.1 89 (.lload 4) 2 91 := ⟨by decide +kernel, rfl⟩
theorem d_Comp_share_91 : dn m_Comp_share.2.1 91 (.invokestatic 197) 3 94 := ⟨by decide +kernel, rfl⟩
theorem d_Comp_share_94 : dn m_Comp_share.2.1 94 (.lsub) 1 95 := ⟨by decide +kernel, rfl⟩
theorem d_Comp_share_95 : dn m_Comp_share.2.1 95 (.lstore 6) 2 97 := ⟨by decide +kernel, rfl⟩
theorem d_Comp_share_97 : dn m_Comp_share.2.1 97 (.iinc 8 1) 3 100 := ⟨by decide +kernel, rfl⟩
theorem d_Comp_share_100 : db m_Comp_share.2.1 100 (.goto) 70 103 := ⟨(-30), by decide +kernel, by decide, rfl⟩
theorem d_Comp_share_103 : dn m_Comp_share.2.1 103 (.lload_n 1) 1 104 := ⟨by decide +kernel, rfl⟩
theorem d_Comp_share_104 : dn m_Comp_share.2.1 104 (.aload_n 0) 1 105 := ⟨by decide +kernel, rfl⟩
theorem d_Comp_share_105 : dn m_Comp_share.2.1 105 (.getfield 22) 3 108 := ⟨by decide +kernel, rfl⟩
theorem d_Comp_share_108 : dn m_Comp_share.2.1 108 (.iload_n 3) 1 109 := ⟨by decide +kernel, rfl⟩
theorem d_Comp_share_109 : dn m_Comp_share.2.1 109 (.iaload) 1 110 := ⟨by decide +kernel, rfl⟩
theorem d_Comp_share_110 : dn m_Comp_share.2.1 110 (.lload 4) 2 112 := ⟨by decide +kernel, rfl⟩
theorem d_Comp_share_112 : dn m_Comp_share.2.1 112 (.invokestatic 197) 3 115 := ⟨by decide +kernel, rfl⟩
theorem d_Comp_share_115 : dn m_Comp_share.2.1 115 (.lstore 8) 2 117 := ⟨by decide +kernel, rfl⟩
theorem d_Comp_share_117 : dn m_Comp_share.2.1 117 (.lload_n 1) 1 118 := ⟨by decide +kernel, rfl⟩
theorem d_Comp_share_118 : dn m_Comp_share.2.1 118 (.aload_n 0) 1 119 := ⟨by decide +kernel, rfl⟩
theorem d_Comp_share_119 : dn m_Comp_share.2.1 119 (.getfield 22) 3 122 := ⟨by decide +kernel, rfl⟩
theorem d_Comp_share_122 : dn m_Comp_share.2.1 122 (.iload_n 3) 1 123 := ⟨by decide +kernel, rfl⟩
theorem d_Comp_share_123 : dn m_Comp_share.2.1 123 (.iaload) 1 124 := ⟨by decide +kernel, rfl⟩
theorem d_Comp_share_124 : dn m_Comp_share.2.1 124 (.lload 4) 2 126 := ⟨by decide +kernel, rfl⟩
theorem d_Comp_share_126 : dn m_Comp_share.2.1 126 (.invokestatic 201) 3 129 := ⟨by decide +kernel, rfl⟩
theorem d_Comp_share_129 : dn m_Comp_share.2.1 129 (.lstore 10) 2 131 := ⟨by decide +kernel, rfl⟩
theorem d_Comp_share_131 : dn m_Comp_share.2.1 131 (.iconst 0) 1 132 := ⟨by decide +kernel, rfl⟩
theorem d_Comp_share_132 : dn m_Comp_share.2.1 132 (.istore 12) 2 134 := ⟨by decide +kernel, rfl⟩
theorem d_Comp_share_134 : dn m_Comp_share.2.1 134 (.iconst 0) 1 135 := ⟨by decide +kernel, rfl⟩
theorem d_Comp_share_135 : dn m_Comp_share.2.1 135 (.istore 13) 2 137 := ⟨by decide +kernel, rfl⟩
theorem d_Comp_share_137 : dn m_Comp_share.2.1 137 (.iload 13) 2 139 := ⟨by decide +kernel, rfl⟩
theorem d_Comp_share_139 : dn m_Comp_share.2.1 139 (.aload_n 0) 1 140 := ⟨by decide +kernel, rfl⟩
theorem d_Comp_share_140 : dn m_Comp_share.2.1 140 (.getfield 192) 3 143 := ⟨by decide +kernel, rfl⟩
theorem d_Comp_share_143 : db m_Comp_share.2.1 143 (.if_icmp .ge) 199 146 := ⟨56, by decide +kernel, by decide, rfl⟩
theorem d_Comp_share_146 : dn m_Comp_share.2.1 146 (.lload_n 1) 1 147 := ⟨by decide +kernel, rfl⟩
theorem d_Comp_share_147 : dn m_Comp_share.2.1 147 (.aload_n 0) 1 148 := ⟨by decide +kernel, rfl⟩
theorem d_Comp_share_148 : dn m_Comp_share.2.1 148 (.getfield 22) 3 151 := ⟨by decide +kernel, rfl⟩
theorem d_Comp_share_151 : dn m_Comp_share.2.1 151 (.iload 13) 2 153 := ⟨by decide +kernel, rfl⟩
theorem d_Comp_share_153 : dn m_Comp_share.2.1 153 (.iaload) 1 154 := ⟨by decide +kernel, rfl⟩
theorem d_Comp_share_154 : dn m_Comp_share.2.1 154 (.lload 4) 2 156 := ⟨by decide +kernel, rfl⟩
theorem d_Comp_share_156 : dn m_Comp_share.2.1 156 (.invokestatic 201) 3 159 := ⟨by decide +kernel, rfl⟩
theorem d_Comp_share_159 : dn m_Comp_share.2.1 159 (.lstore 14) 2 161 := ⟨by decide +kernel, rfl⟩
theorem d_Comp_share_161 : dn m_Comp_share.2.1 161 (.iload 12) 2 163 := ⟨by decide +kernel, rfl⟩
theorem d_Comp_share_163 : dn m_Comp_share.2.1 163 (.lload 14) 2 165 := ⟨by decide +kernel, rfl⟩
theorem d_Comp_share_165 : dn m_Comp_share.2.1 165 (.lload 10) 2 167 := ⟨by decide +kernel, rfl⟩
theorem d_Comp_share_167 : dn m_Comp_share.2.1 167 (.lcmp) 1 168 := ⟨by decide +kernel, rfl⟩
theorem d_Comp_share_168 : db m_Comp_share.2.1 168 (.ifCond .gt) 185 171 := ⟨17, by decide +kernel, by decide, rfl⟩
theorem d_Comp_share_171 : dn m_Comp_share.2.1 171 (.lload 14) 2 173 := ⟨by decide +kernel, rfl⟩
theorem d_Comp_share_173 : dn m_Comp_share.2.1 173 (.lload 10) 2 175 := ⟨by decide +kernel, rfl⟩
theorem d_Comp_share_175 : dn m_Comp_share.2.1 175 (.lcmp) 1 176 := ⟨by decide +kernel, rfl⟩
theorem d_Comp_share_176 : db m_Comp_share.2.1 176 (.ifCond .ne) 189 179 := ⟨13, by decide +kernel, by decide, rfl⟩
theorem d_Comp_share_179 : dn m_Comp_share.2.1 179 (.iload 13) 2 181 := ⟨by decide +kernel, rfl⟩
theorem d_Comp_share_181 : dn m_Comp_share.2.1 181 (.iload_n 3) 1 182 := ⟨by decide +kernel, rfl⟩
theorem d_Comp_share_182 : db m_Comp_share.2.1 182 (.if_icmp .ge) 189 185 := ⟨7, by decide +kernel, by decide, rfl⟩
theorem d_Comp_share_185 : dn m_Comp_share.2.1 185 (.iconst 1) 1 186 := ⟨by decide +kernel, rfl⟩
theorem d_Comp_share_186 : db m_Comp_share.2.1 186 (.goto) 190 189 := ⟨4, by decide +kernel, by decide, rfl⟩
theorem d_Comp_share_189 : dn m_Comp_share.2.1 189 (.iconst 0) 1 190 := ⟨by decide +kernel, rfl⟩
theorem d_Comp_share_190 : dn m_Comp_share.2.1 190 (.iadd) 1 191 := ⟨by decide +kernel, rfl⟩
theorem d_Comp_share_191 : dn m_Comp_share.2.1 191 (.istore 12) 2 193 := ⟨by decide +kernel, rfl⟩
theorem d_Comp_share_193 : dn m_Comp_share.2.1 193 (.iinc 13 1) 3 196 := ⟨by decide +kernel, rfl⟩
theorem d_Comp_share_196 : db m_Comp_share.2.1 196 (.goto) 137 199 := ⟨(-59), by decide +kernel, by decide, rfl⟩
theorem d_Comp_share_199 : dn m_Comp_share.2.1 199 (.iload 12) 2 201 := ⟨by decide +kernel, rfl⟩
theorem d_Comp_share_201 : dn m_Comp_share.2.1 201 (.i2l) 1 202 := ⟨by decide +kernel, rfl⟩
theorem d_Comp_share_202 : dn m_Comp_share.2.1 202 (.lload 6) 2 204 := ⟨by decide +kernel, rfl⟩
theorem d_Comp_share_204 : dn m_Comp_share.2.1 204 (.lcmp) 1 205 := ⟨by decide +kernel, rfl⟩
theorem d_Comp_share_205 : db m_Comp_share.2.1 205 (.ifCond .ge) 215 208 := ⟨10, by decide +kernel, by decide, rfl⟩
theorem d_Comp_share_208 : dn m_Comp_share.2.1 208 (.lload 8) 2 210 := ⟨by decide +kernel, rfl⟩
theorem d_Comp_share_210 : dn m_Comp_share.2.1 210 (.lconst 1) 1 211 := ⟨by decide +kernel, rfl⟩
theorem d_Comp_share_211 : dn m_Comp_share.2.1 211 (.ladd) 1 212 := ⟨by decide +kernel, rfl⟩
theorem d_Comp_share_212 : db m_Comp_share.2.1 212 (.goto) 217 215 := ⟨5, by decide +kernel, by decide, rfl⟩
theorem d_Comp_share_215 : dn m_Comp_share.2.1 215 (.lload 8) 2 217 := ⟨by decide +kernel, rfl⟩
theorem d_Comp_share_217 : dn m_Comp_share.2.1 217 (.lreturn) 1 218 := ⟨by decide +kernel, rfl⟩
section Cshare
variable {l : Launch} {K : KC} {M : AH} {c : Nat} {xs : List (Rat × Int)} {ws : List (List (Nat × Nat))} {wl : List Int}
theorem g_share_ok {X : CT} {W k : Int} {LL : List (Option Value)} (hC : Cx X R_Comp m_Comp_share.2.1 m_Comp_share.2.2.2 "share" false) (hr : I64 W) (J : G X 0 0 M 27 (some (.ref c) :: some (jv W) :: none :: some (iv k) :: LL) [iv (bz (okS2 W))]) : G X 0 0 M 8 (some (.ref c) :: some (jv W) :: none :: some (iv k) :: LL) [] := by
  have F : okS2 W = false → G X 0 0 M 26 (some (.ref c) :: some (jv W) :: none :: some (iv k) :: LL) [] := by
    intro q
    rw [q] at J
    refine g_iconst hC d_Comp_share_26 ?_
    exact J
  refine g_lload_n hC rfl d_Comp_share_8 ?_
  refine g_lconst (z := 0) hC (by decide) d_Comp_share_9 ?_
  refine g_lcmp hC hr j0 d_Comp_share_10 ?_
  refine g_lif_lt hC d_Comp_share_11 (fun c1 => ?_) (fun c1 => ?_)
  · exact F (decide_eq_false (by omega))
  · refine g_lload_n hC rfl d_Comp_share_14 ?_
    refine g_ldc2 (z := 1000000000000) hC cn_Comp_195 (by decide) d_Comp_share_15 ?_
    refine g_lcmp hC hr (by unfold I64; omega) d_Comp_share_18 ?_
    refine g_lif_gt hC d_Comp_share_19 (fun c2 => ?_) (fun c2 => ?_)
    · exact F (decide_eq_false (by omega))
    · refine g_iconst hC d_Comp_share_22 ?_
      refine g_goto hC d_Comp_share_23 ?_
      rw [show okS2 W = true from decide_eq_true (by omega)] at J
      exact J
theorem sp_Comp_share {W : Int} {k : Nat} (hcx : CX K M c xs ws wl) (hms : MS xs ws wl) (hk : k < wl.length) (hok : okS2 W = true) :
    Sp l K m_Comp_share 8 6 508 [.ref c, jv W, iv k] M (fun r M' => r = some (jv (shr W wl k)) ∧ M' = M) := by
  refine Sp.ofG R_Comp rfl (by decide) [some (.ref c), some (jv W), none, some (iv k), none, none, none, none, none, none, none, none, none, none, none, none] rfl (Nat.le_of_ble_eq_true rfl) ?_
  intro X hl hK hN hR hC hQ
  subst hl hK
  obtain ⟨vs, ss, rs, h⟩ := hcx
  obtain ⟨wf, hwf, hwe⟩ := h.1.2
  have hwl := hms.2.2.1
  have hwb := hms.2.2.2
  have hW := of_decide_eq_true hok
  have hwg : ∀ j : Nat, j < wl.length → wf j = gW wl j := fun j hj => by
    unfold gW
    rw [List.getD_eq_getElem?_getD, hwe j hj]; rfl
  have hSb := sW_b hwb wl.length (Nat.le_refl _)
  refine g_iload_n hC rfl d_Comp_share_0 ?_
  refine g_aload_n hC rfl d_Comp_share_1 ?_
  refine g_get hC fb_Comp_192 h.o rfl d_Comp_share_2 ?_
  refine g_callS2 hC (sp_Comp_there (by omega) (by omega) (by unfold I32; omega)) oc_Comp_there os_Comp_there ml_Comp_43 hR (Nat.le_of_ble_eq_true rfl) (Nat.le_of_ble_eq_true rfl) (Nat.le_of_ble_eq_true rfl) (Nat.le_of_ble_eq_true rfl) (Nat.le_of_ble_eq_true rfl) d_Comp_share_5 (fun r M hp => ?_)
  obtain ⟨rfl, rfl⟩ := hp
  refine g_s0 ?_
  refine g_share_ok hC (by unfold I64; omega) ?_
  rw [hok]
  refine g_callS1 hC sp_Comp_need oc_Comp_need os_Comp_need ml_Comp_89 hR (Nat.le_of_ble_eq_true rfl) (Nat.le_of_ble_eq_true rfl) (Nat.le_of_ble_eq_true rfl) (Nat.le_of_ble_eq_true rfl) (Nat.le_of_ble_eq_true rfl) d_Comp_share_27 (fun r M hp => ?_)
  obtain ⟨rfl, rfl⟩ := hp
  refine g_s0 ?_
  -- the end
  have E : G X 0 0 M 199 [some (.ref c), some (jv W), none, some (iv k), some (jv (sW wl wl.length)), none, some (jv (W - sP W wl wl.length)), none, some (jv (wpt W wl k)), none, some (jv (wrs W wl k)), none, some (iv (bef W wl k wl.length)), none, none, none] [] := by
    have b1 := bef_b (W := W) (wl := wl) (k := k) wl.length
    have b2 := sP_b hwb hW.1 wl.length (Nat.le_refl _)
    have b3 : W * (wl.length : Int) ≤ W * 12 := Int.mul_le_mul_of_nonneg_left (by omega) hW.1
    refine g_iload hC rfl d_Comp_share_199 ?_
    refine g_i2l hC (by unfold I32; omega) d_Comp_share_201 ?_
    refine g_lload hC rfl d_Comp_share_202 ?_
    refine g_lcmp hC (by unfold I64; omega) (by unfold I64; omega) d_Comp_share_204 ?_
    refine g_lif_ge hC d_Comp_share_205 (fun c1 => ?_) (fun c1 => ?_)
    · refine g_lload hC rfl d_Comp_share_215 ?_
      refine g_lret hC hQ (by decide) (by decide) d_Comp_share_217 ⟨by unfold shr; rw [if_neg (by omega), Int.add_zero], rfl⟩
    · refine g_lload hC rfl d_Comp_share_208 ?_
      refine g_lconst (z := 1) hC (by decide) d_Comp_share_210 ?_
      refine g_ladd hC d_Comp_share_211 ?_
      refine g_goto hC d_Comp_share_212 ?_
      refine g_lret hC hQ (by decide) (by decide) d_Comp_share_217 ⟨by unfold shr; rw [if_pos (by omega)], rfl⟩
  -- the third loop
  have L3 : ∀ (d j : Nat) (o1 o2 : Option Value), wl.length - j = d → j ≤ wl.length → G X 0 0 M 137 [some (.ref c), some (jv W), none, some (iv k), some (jv (sW wl wl.length)), none, some (jv (W - sP W wl wl.length)), none, some (jv (wpt W wl k)), none, some (jv (wrs W wl k)), none, some (iv (bef W wl k j)), some (iv j), none, none] [] := by
    intro d
    induction d with
    | zero =>
      intro j o1 o2 hd hj
      obtain rfl : j = wl.length := by omega
      refine g_iload hC rfl d_Comp_share_137 ?_
      refine g_aload_n hC rfl d_Comp_share_139 ?_
      refine g_get hC fb_Comp_192 h.o rfl d_Comp_share_140 ?_
      refine g_icmp_ge hC (by unfold I32; omega) (by unfold I32; omega) d_Comp_share_143 (fun c0 => ?_) (fun c0 => ?_)
      · refine g_fg13 ?_
        exact E
      · omega
    | succ d ih =>
      intro j o1 o2 hd hj
      have hjl : j < wl.length := by omega
      have g1 := gW_b hwb hjl
      have r1 := wrs_b (W := W) hwb (by omega) hwl j
      have r2 := wrs_b (W := W) hwb (by omega) hwl k
      have bb := bef_b (W := W) (wl := wl) (k := k) j
      refine g_iload hC rfl d_Comp_share_137 ?_
      refine g_aload_n hC rfl d_Comp_share_139 ?_
      refine g_get hC fb_Comp_192 h.o rfl d_Comp_share_140 ?_
      refine g_icmp_ge hC (by unfold I32; omega) (by unfold I32; omega) d_Comp_share_143 (fun c0 => ?_) (fun c0 => ?_)
      · omega
      · refine g_lload_n hC rfl d_Comp_share_146 ?_
        refine g_aload_n hC rfl d_Comp_share_147 ?_
        refine g_get hC fb_Comp_22 h.o rfl d_Comp_share_148 ?_
        refine g_iload hC rfl d_Comp_share_151 ?_
        refine g_iald hC hwf (by omega) (by omega) (by omega) d_Comp_share_153 ?_
        refine g_lload hC rfl d_Comp_share_154 ?_
        rw [hwg j hjl]
        refine g_callS3 hC (sp_Comp_rest hW.1 hW.2 (by omega) g1.2 (by omega) (by omega)) oc_Comp_rest os_Comp_rest ml_Comp_201 hR (Nat.le_of_ble_eq_true rfl) (Nat.le_of_ble_eq_true rfl) (Nat.le_of_ble_eq_true rfl) (Nat.le_of_ble_eq_true rfl) (Nat.le_of_ble_eq_true rfl) d_Comp_share_156 (fun r M hp => ?_)
        obtain ⟨rfl, rfl⟩ := hp
        refine g_sv ?_
        first | refine g_lst14 hC d_Comp_share_159 rfl (hN 15 rfl) ?_ | (refine g_fg13 ?_; refine g_lst14 hC d_Comp_share_159 rfl (hN 15 rfl) ?_)
        have N : ∀ z : Int, z = (if wrs W wl k < wrs W wl j ∨ wrs W wl j = wrs W wl k ∧ j < k then 1 else 0) → G X 0 0 M 190 [some (.ref c), some (jv W), none, some (iv k), some (jv (sW wl wl.length)), none, some (jv (W - sP W wl wl.length)), none, some (jv (wpt W wl k)), none, some (jv (wrs W wl k)), none, some (iv (bef W wl k j)), some (iv j), some (jv (W * gW wl j % sW wl wl.length)), none] [iv z, iv (bef W wl k j)] := by
          intro z hz
          refine g_iadd hC d_Comp_share_190 ?_
          first | refine g_ist12 hC d_Comp_share_191 rfl (hN 12 rfl) ?_ | (refine g_fg11 ?_; refine g_ist12 hC d_Comp_share_191 rfl (hN 12 rfl) ?_)
          refine g_inc13 hC d_Comp_share_193 rfl (hN 13 rfl) ?_
          refine g_goto hC d_Comp_share_196 ?_
          have e : bef W wl k j + z = bef W wl k (j + 1) := by rw [hz]; rfl
          rw [e]
          refine g_fg14 ?_
          exact ih (j + 1) none none (by omega) (by omega)
        show G X 0 0 M 161 [some (.ref c), some (jv W), none, some (iv k), some (jv (sW wl wl.length)), none, some (jv (W - sP W wl wl.length)), none, some (jv (wpt W wl k)), none, some (jv (wrs W wl k)), none, some (iv (bef W wl k j)), some (iv j), some (jv (wrs W wl j)), none] []
        have N' : ∀ z : Int, z = (if wrs W wl k < wrs W wl j ∨ wrs W wl j = wrs W wl k ∧ j < k then 1 else 0) → G X 0 0 M 190 [some (.ref c), some (jv W), none, some (iv k), some (jv (sW wl wl.length)), none, some (jv (W - sP W wl wl.length)), none, some (jv (wpt W wl k)), none, some (jv (wrs W wl k)), none, some (iv (bef W wl k j)), some (iv j), some (jv (wrs W wl j)), none] [iv z, iv (bef W wl k j)] := N
        refine g_iload hC rfl d_Comp_share_161 ?_
        refine g_lload hC rfl d_Comp_share_163 ?_
        refine g_lload hC rfl d_Comp_share_165 ?_
        refine g_lcmp hC (by unfold I64; omega) (by unfold I64; omega) d_Comp_share_167 ?_
        refine g_lif_gt hC d_Comp_share_168 (fun c1 => ?_) (fun c1 => ?_)
        · refine g_iconst hC d_Comp_share_185 ?_
          refine g_goto hC d_Comp_share_186 ?_
          exact N' 1 (by rw [if_pos (Or.inl (by omega))])
        · refine g_lload hC rfl d_Comp_share_171 ?_
          refine g_lload hC rfl d_Comp_share_173 ?_
          refine g_lcmp hC (by unfold I64; omega) (by unfold I64; omega) d_Comp_share_175 ?_
          refine g_lif_ne hC d_Comp_share_176 (fun c2 => ?_) (fun c2 => ?_)
          · refine g_iconst hC d_Comp_share_189 ?_
            exact N' 0 (by rw [if_neg (by omega)])
          · refine g_iload hC rfl d_Comp_share_179 ?_
            refine g_iload_n hC rfl d_Comp_share_181 ?_
            refine g_icmp_ge hC (by unfold I32; omega) (by unfold I32; omega) d_Comp_share_182 (fun c3 => ?_) (fun c3 => ?_)
            · refine g_iconst hC d_Comp_share_189 ?_
              exact N' 0 (by rw [if_neg (by omega)])
            · refine g_iconst hC d_Comp_share_185 ?_
              refine g_goto hC d_Comp_share_186 ?_
              exact N' 1 (by rw [if_pos (Or.inr ⟨c2, by omega⟩)])
  -- the second loop
  have L2 : ∀ (d j : Nat), wl.length - j = d → j ≤ wl.length → G X 0 0 M 70 [some (.ref c), some (jv W), none, some (iv k), some (jv (sW wl wl.length)), none, some (jv (W - sP W wl j)), none, some (iv j), none, none, none, none, none, none, none] [] := by
    intro d
    induction d with
    | zero =>
      intro j hd hj
      obtain rfl : j = wl.length := by omega
      have g1 := gW_b hwb hk
      refine g_iload hC rfl d_Comp_share_70 ?_
      refine g_aload_n hC rfl d_Comp_share_72 ?_
      refine g_get hC fb_Comp_192 h.o rfl d_Comp_share_73 ?_
      refine g_icmp_ge hC (by unfold I32; omega) (by unfold I32; omega) d_Comp_share_76 (fun c0 => ?_) (fun c0 => ?_)
      · refine g_lload_n hC rfl d_Comp_share_103 ?_
        refine g_aload_n hC rfl d_Comp_share_104 ?_
        refine g_get hC fb_Comp_22 h.o rfl d_Comp_share_105 ?_
        refine g_iload_n hC rfl d_Comp_share_108 ?_
        refine g_iald hC hwf (by omega) (by omega) (by omega) d_Comp_share_109 ?_
        refine g_lload hC rfl d_Comp_share_110 ?_
        rw [hwg k hk]
        refine g_callS3 hC (sp_Comp_part hW.1 hW.2 (by omega) g1.2 (by omega) (by omega)) oc_Comp_part os_Comp_part ml_Comp_197 hR (Nat.le_of_ble_eq_true rfl) (Nat.le_of_ble_eq_true rfl) (Nat.le_of_ble_eq_true rfl) (Nat.le_of_ble_eq_true rfl) (Nat.le_of_ble_eq_true rfl) d_Comp_share_112 (fun r M hp => ?_)
        obtain ⟨rfl, rfl⟩ := hp
        refine g_sv ?_
        first | refine g_lst8 hC d_Comp_share_115 rfl (hN 9 rfl) ?_ | (refine g_fg7 ?_; refine g_lst8 hC d_Comp_share_115 rfl (hN 9 rfl) ?_)
        refine g_lload_n hC rfl d_Comp_share_117 ?_
        refine g_aload_n hC rfl d_Comp_share_118 ?_
        refine g_get hC fb_Comp_22 h.o rfl d_Comp_share_119 ?_
        refine g_iload_n hC rfl d_Comp_share_122 ?_
        refine g_iald hC hwf (by omega) (by omega) (by omega) d_Comp_share_123 ?_
        refine g_lload hC rfl d_Comp_share_124 ?_
        rw [hwg k hk]
        refine g_callS3 hC (sp_Comp_rest hW.1 hW.2 (by omega) g1.2 (by omega) (by omega)) oc_Comp_rest os_Comp_rest ml_Comp_201 hR (Nat.le_of_ble_eq_true rfl) (Nat.le_of_ble_eq_true rfl) (Nat.le_of_ble_eq_true rfl) (Nat.le_of_ble_eq_true rfl) (Nat.le_of_ble_eq_true rfl) d_Comp_share_126 (fun r M hp => ?_)
        obtain ⟨rfl, rfl⟩ := hp
        refine g_sv ?_
        first | refine g_lst10 hC d_Comp_share_129 rfl (hN 11 rfl) ?_ | (refine g_fg9 ?_; refine g_lst10 hC d_Comp_share_129 rfl (hN 11 rfl) ?_)
        refine g_iconst hC d_Comp_share_131 ?_
        first | refine g_ist12 hC d_Comp_share_132 rfl (hN 12 rfl) ?_ | (refine g_fg11 ?_; refine g_ist12 hC d_Comp_share_132 rfl (hN 12 rfl) ?_)
        refine g_iconst hC d_Comp_share_134 ?_
        first | refine g_ist13 hC d_Comp_share_135 rfl (hN 13 rfl) ?_ | (refine g_fg12 ?_; refine g_ist13 hC d_Comp_share_135 rfl (hN 13 rfl) ?_)
        exact L3 wl.length 0 none none (by omega) (by omega)
      · omega
    | succ d ih =>
      intro j hd hj
      have hjl : j < wl.length := by omega
      have g1 := gW_b hwb hjl
      refine g_iload hC rfl d_Comp_share_70 ?_
      refine g_aload_n hC rfl d_Comp_share_72 ?_
      refine g_get hC fb_Comp_192 h.o rfl d_Comp_share_73 ?_
      refine g_icmp_ge hC (by unfold I32; omega) (by unfold I32; omega) d_Comp_share_76 (fun c0 => ?_) (fun c0 => ?_)
      · omega
      · refine g_lload hC rfl d_Comp_share_79 ?_
        refine g_lload_n hC rfl d_Comp_share_81 ?_
        refine g_aload_n hC rfl d_Comp_share_82 ?_
        refine g_get hC fb_Comp_22 h.o rfl d_Comp_share_83 ?_
        refine g_iload hC rfl d_Comp_share_86 ?_
        refine g_iald hC hwf (by omega) (by omega) (by omega) d_Comp_share_88 ?_
        refine g_lload hC rfl d_Comp_share_89 ?_
        rw [hwg j hjl]
        refine g_callS3 hC (sp_Comp_part hW.1 hW.2 (by omega) g1.2 (by omega) (by omega)) oc_Comp_part os_Comp_part ml_Comp_197 hR (Nat.le_of_ble_eq_true rfl) (Nat.le_of_ble_eq_true rfl) (Nat.le_of_ble_eq_true rfl) (Nat.le_of_ble_eq_true rfl) (Nat.le_of_ble_eq_true rfl) d_Comp_share_91 (fun r M hp => ?_)
        obtain ⟨rfl, rfl⟩ := hp
        refine g_sv ?_
        refine g_lsub hC d_Comp_share_94 ?_
        first | refine g_lst6 hC d_Comp_share_95 rfl (hN 7 rfl) ?_ | (refine g_fg5 ?_; refine g_lst6 hC d_Comp_share_95 rfl (hN 7 rfl) ?_)
        refine g_inc8 hC d_Comp_share_97 rfl (hN 8 rfl) ?_
        refine g_goto hC d_Comp_share_100 ?_
        have e : W - sP W wl j - W * gW wl j / sW wl wl.length = W - sP W wl (j + 1) := by
          show _ = W - (sP W wl j + wpt W wl j)
          unfold wpt
          omega
        rw [e]
        exact ih (j + 1) (by omega) (by omega)
  -- the first loop
  have L1 : ∀ (d j : Nat), wl.length - j = d → j ≤ wl.length → G X 0 0 M 36 [some (.ref c), some (jv W), none, some (iv k), some (jv (sW wl j)), none, some (iv j), none, none, none, none, none, none, none, none, none] [] := by
    intro d
    induction d with
    | zero =>
      intro j hd hj
      obtain rfl : j = wl.length := by omega
      refine g_iload hC rfl d_Comp_share_36 ?_
      refine g_aload_n hC rfl d_Comp_share_38 ?_
      refine g_get hC fb_Comp_192 h.o rfl d_Comp_share_39 ?_
      refine g_icmp_ge hC (by unfold I32; omega) (by unfold I32; omega) d_Comp_share_42 (fun c0 => ?_) (fun c0 => ?_)
      · refine g_lload_n hC rfl d_Comp_share_64 ?_
        first | refine g_lst6 hC d_Comp_share_65 rfl (hN 7 rfl) ?_ | (refine g_fg5 ?_; refine g_lst6 hC d_Comp_share_65 rfl (hN 7 rfl) ?_)
        refine g_iconst hC d_Comp_share_67 ?_
        first | refine g_ist8 hC d_Comp_share_68 rfl (hN 8 rfl) ?_ | (refine g_fg7 ?_; refine g_ist8 hC d_Comp_share_68 rfl (hN 8 rfl) ?_)
        have := L2 wl.length 0 (by omega) (by omega)
        rw [show W - sP W wl 0 = W by show W - 0 = W; omega] at this
        exact this
      · omega
    | succ d ih =>
      intro j hd hj
      have hjl : j < wl.length := by omega
      have g1 := gW_b hwb hjl
      refine g_iload hC rfl d_Comp_share_36 ?_
      refine g_aload_n hC rfl d_Comp_share_38 ?_
      refine g_get hC fb_Comp_192 h.o rfl d_Comp_share_39 ?_
      refine g_icmp_ge hC (by unfold I32; omega) (by unfold I32; omega) d_Comp_share_42 (fun c0 => ?_) (fun c0 => ?_)
      · omega
      · refine g_lload hC rfl d_Comp_share_45 ?_
        refine g_aload_n hC rfl d_Comp_share_47 ?_
        refine g_get hC fb_Comp_22 h.o rfl d_Comp_share_48 ?_
        refine g_iload hC rfl d_Comp_share_51 ?_
        refine g_iald hC hwf (by omega) (by omega) (by omega) d_Comp_share_53 ?_
        rw [hwg j hjl]
        refine g_i2l hC (by unfold I32; omega) d_Comp_share_54 ?_
        refine g_ladd hC d_Comp_share_55 ?_
        first | refine g_lst4 hC d_Comp_share_56 rfl (hN 5 rfl) ?_ | (refine g_fg3 ?_; refine g_lst4 hC d_Comp_share_56 rfl (hN 5 rfl) ?_)
        refine g_inc6 hC d_Comp_share_58 rfl (hN 6 rfl) ?_
        refine g_goto hC d_Comp_share_61 ?_
        exact ih (j + 1) (by omega) (by omega)
  refine g_lconst (z := 0) hC (by decide) d_Comp_share_30 ?_
  first | refine g_lst4 hC d_Comp_share_31 rfl (hN 5 rfl) ?_ | (refine g_fg3 ?_; refine g_lst4 hC d_Comp_share_31 rfl (hN 5 rfl) ?_)
  refine g_iconst hC d_Comp_share_33 ?_
  first | refine g_ist6 hC d_Comp_share_34 rfl (hN 6 rfl) ?_ | (refine g_fg5 ?_; refine g_ist6 hC d_Comp_share_34 rfl (hN 6 rfl) ?_)
  exact L1 wl.length 0 (by omega) (by omega)
theorem st_Comp_share {W k : Int} (htr : l.stackTraces = false) (hcx : CX K M c xs ws wl) (hms : MS xs ws wl) (hk : I32 k) (ho : k < 0 ∨ (wl.length : Int) ≤ k) : St l K m_Comp_share 8 6 508 [.ref c, jv W, iv k] M R_IoE := by
  refine St.ofG R_Comp rfl (by decide) [some (.ref c), some (jv W), none, some (iv k), none, none, none, none, none, none, none, none, none, none, none, none] rfl (Nat.le_of_ble_eq_true rfl) ?_
  intro X hl hK hN hR hC hQ
  subst hl hK
  obtain ⟨vs, ss, rs, h⟩ := hcx
  have hwl := hms.2.2.1
  refine g_iload_n hC rfl d_Comp_share_0 ?_
  refine g_aload_n hC rfl d_Comp_share_1 ?_
  refine g_get hC fb_Comp_192 h.o rfl d_Comp_share_2 ?_
  exact g_callST hC hQ rfl (st_Comp_there htr hk (n := (wl.length : Int)) (by unfold I32; omega) ho) oc_Comp_there os_Comp_there ml_Comp_43 rfl (st := []) rfl hR (by decide) (by decide) (by decide) (by decide) (by decide) d_Comp_share_5
theorem st_Comp_share2 {W : Int} {k : Nat} (htr : l.stackTraces = false) (hcx : CX K M c xs ws wl) (hms : MS xs ws wl) (hW : I64 W) (hk : k < wl.length) (hok : okS2 W = false) : St l K m_Comp_share 8 6 508 [.ref c, jv W, iv k] M R_IaE := by
  refine St.ofG R_Comp rfl (by decide) [some (.ref c), some (jv W), none, some (iv k), none, none, none, none, none, none, none, none, none, none, none, none] rfl (Nat.le_of_ble_eq_true rfl) ?_
  intro X hl hK hN hR hC hQ
  subst hl hK
  obtain ⟨vs, ss, rs, h⟩ := hcx
  have hwl := hms.2.2.1
  refine g_iload_n hC rfl d_Comp_share_0 ?_
  refine g_aload_n hC rfl d_Comp_share_1 ?_
  refine g_get hC fb_Comp_192 h.o rfl d_Comp_share_2 ?_
  refine g_callS2 hC (sp_Comp_there (by omega) (by omega) (by unfold I32; omega)) oc_Comp_there os_Comp_there ml_Comp_43 hR (Nat.le_of_ble_eq_true rfl) (Nat.le_of_ble_eq_true rfl) (Nat.le_of_ble_eq_true rfl) (Nat.le_of_ble_eq_true rfl) (Nat.le_of_ble_eq_true rfl) d_Comp_share_5 (fun r M hp => ?_)
  obtain ⟨rfl, rfl⟩ := hp
  refine g_s0 ?_
  refine g_share_ok hC hW ?_
  rw [hok]
  exact g_callST hC hQ rfl (st_Comp_need htr) oc_Comp_need os_Comp_need ml_Comp_89 rfl (st := []) rfl hR (by decide) (by decide) (by decide) (by decide) (by decide) d_Comp_share_27
end Cshare
