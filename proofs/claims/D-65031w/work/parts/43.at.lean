/-! Comp: at -/
theorem czr_lt {x y : Rat} : czr x y < 0 ↔ x < y := by
  unfold czr
  by_cases h : x < y
  · rw [if_pos h]; exact ⟨fun _ => h, fun _ => by omega⟩
  · rw [if_neg h]
    constructor
    · intro q; split at q <;> omega
    · intro q; exact absurd q h
theorem czr_z {x y : Rat} : czr x y = 0 ↔ x = y := by
  unfold czr
  by_cases h : x < y
  · rw [if_pos h]
    exact ⟨fun q => absurd q (by decide), fun q => absurd (q ▸ h) (Rat.lt_irrefl)⟩
  · rw [if_neg h]
    by_cases e : x = y
    · rw [if_pos e]; exact ⟨fun _ => e, fun _ => rfl⟩
    · rw [if_neg e]; exact ⟨fun q => absurd q (by decide), fun q => absurd q e⟩
theorem czr_gt {x y : Rat} (h1 : ¬ czr x y < 0) (h2 : czr x y ≠ 0) : y < x := by
  rw [czr_lt] at h1
  rw [Ne, czr_z] at h2
  exact Rat.lt_of_le_of_ne (Rat.not_lt.mp h1) (fun q => h2 q.symm)
def Pl (xs : List (Rat × Int)) (cs : List (Nat × Nat)) (t : Nat) : Rat := (vx xs (cg cs t).1).1
def Ht (xs : List (Rat × Int)) (cs : List (Nat × Nat)) (t : Nat) : Rat := (vx xs (cg cs t).2).1
def atF (xs : List (Rat × Int)) (cs : List (Nat × Nat)) (i : Nat) : Int := if 0 < cs.length ∧ (vx xs i).2 ≠ (vx xs (cg cs 0).1).2 then -2 else if cs.length = 0 ∨ czr (vx xs i).1 (Pl xs cs 0) < 0 ∨ 0 < czr (vx xs i).1 (Pl xs cs (cs.length - 1)) then -5 else if xs.length = 200 then -3 else 0
def atV (xs : List (Rat × Int)) (cs : List (Nat × Nat)) (i k : Nat) : Rat × Int := if czr (Pl xs cs k) (vx xs i).1 = 0 then vx xs (cg cs k).2 else (((vx xs i).1 - Pl xs cs (k - 1)) * ((Ht xs cs k - Ht xs cs (k - 1)) / (Pl xs cs k - Pl xs cs (k - 1))) + Ht xs cs (k - 1), (vx xs (cg cs (k - 1)).2).2)
section CAt
variable {l : Launch} {K : KC} {M : AH} {c : Nat} {xs : List (Rat × Int)} {ws : List (List (Nat × Nat))} {wl : List Int} {vs ss rs : List Nat}
theorem d_Comp_at_0 : dn m_Comp_at.2.1 0 (.aload_n 0) 1 1 := ⟨by decide +kernel, rfl⟩
theorem d_Comp_at_1 : dn m_Comp_at.2.1 1 (.iload_n 1) 1 2 := ⟨by decide +kernel, rfl⟩
theorem d_Comp_at_2 : dn m_Comp_at.2.1 2 (.invokevirtual 170) 3 5 := ⟨by decide +kernel, rfl⟩
theorem d_Comp_at_5 : dn m_Comp_at.2.1 5 (.astore_n 3) 1 6 := ⟨by decide +kernel, rfl⟩
theorem d_Comp_at_6 : dn m_Comp_at.2.1 6 (.aload_n 0) 1 7 := ⟨by decide +kernel, rfl⟩
theorem d_Comp_at_7 : dn m_Comp_at.2.1 7 (.iload_n 2) 1 8 := ⟨by decide +kernel, rfl⟩
theorem d_Comp_at_8 : dn m_Comp_at.2.1 8 (.invokevirtual 100) 3 11 := ⟨by decide +kernel, rfl⟩
theorem d_Comp_at_11 : dn m_Comp_at.2.1 11 (.astore 4) 2 13 := ⟨by decide +kernel, rfl⟩
theorem d_Comp_at_13 : dn m_Comp_at.2.1 13 (.aload_n 3) 1 14 := ⟨by decide +kernel, rfl⟩
theorem d_Comp_at_14 : dn m_Comp_at.2.1 14 (.invokevirtual 174) 3 17 := ⟨by decide +kernel, rfl⟩
theorem d_Comp_at_17 : dn m_Comp_at.2.1 17 (.istore 5) 2 19 := ⟨by decide +kernel, rfl⟩
theorem d_Comp_at_19 : dn m_Comp_at.2.1 19 (.iload 5) 2 21 := ⟨by decide +kernel, rfl⟩
theorem d_Comp_at_21 : db m_Comp_at.2.1 21 (.ifCond .le) 49 24 := ⟨28, by decide +kernel, by decide, rfl⟩
theorem d_Comp_at_24 : dn m_Comp_at.2.1 24 (.aload 4) 2 26 := ⟨by decide +kernel, rfl⟩
theorem d_Comp_at_26 : dn m_Comp_at.2.1 26 (.getfield 104) 3 29 := ⟨by decide +kernel, rfl⟩
theorem d_Comp_at_29 : dn m_Comp_at.2.1 29 (.aload_n 3) 1 30 := ⟨by decide +kernel, rfl⟩
theorem d_Comp_at_30 : dn m_Comp_at.2.1 30 (.getfield 175) 3 33 := ⟨by decide +kernel, rfl⟩
theorem d_Comp_at_33 : dn m_Comp_at.2.1 33 (.iconst 0) 1 34 := ⟨by decide +kernel, rfl⟩
theorem d_Comp_at_34 : dn m_Comp_at.2.1 34 (.invokevirtual 47) 3 37 := ⟨by decide +kernel, rfl⟩
theorem d_Comp_at_37 : dn m_Comp_at.2.1 37 (.checkcast 51) 3 40 := ⟨by decide +kernel, rfl⟩
theorem d_Comp_at_40 : dn m_Comp_at.2.1 40 (.getfield 104) 3 43 := ⟨by decide +kernel, rfl⟩
theorem d_Comp_at_43 : db m_Comp_at.2.1 43 (.if_icmp .eq) 49 46 := ⟨6, by decide +kernel, by decide, rfl⟩
theorem d_Comp_at_46 : dn m_Comp_at.2.1 46 (.bipush (-2)) 2 48 := ⟨by decide +kernel, rfl⟩
theorem d_Comp_at_48 : dn m_Comp_at.2.1 48 (.ireturn) 1 49 := ⟨by decide +kernel, rfl⟩
theorem d_Comp_at_49 : dn m_Comp_at.2.1 49 (.iload 5) 2 51 := ⟨by decide +kernel, rfl⟩
theorem d_Comp_at_51 : db m_Comp_at.2.1 51 (.ifCond .eq) 93 54 := ⟨42, by decide +kernel, by decide, rfl⟩
theorem d_Comp_at_54 : dn m_Comp_at.2.1 54 (.aload_n 0) 1 55 := ⟨by decide +kernel, rfl⟩
theorem d_Comp_at_55 : dn m_Comp_at.2.1 55 (.getfield 29) 3 58 := ⟨by decide +kernel, rfl⟩
theorem d_Comp_at_58 : dn m_Comp_at.2.1 58 (.aload 4) 2 60 := ⟨by decide +kernel, rfl⟩
theorem d_Comp_at_60 : dn m_Comp_at.2.1 60 (.aload_n 3) 1 61 := ⟨by decide +kernel, rfl⟩
theorem d_Comp_at_61 : dn m_Comp_at.2.1 61 (.getfield 175) 3 64 := ⟨by decide +kernel, rfl⟩
theorem d_Comp_at_64 : dn m_Comp_at.2.1 64 (.iconst 0) 1 65 := ⟨by decide +kernel, rfl⟩
theorem d_Comp_at_65 : dn m_Comp_at.2.1 65 (.invokevirtual 47) 3 68 := ⟨by decide +kernel, rfl⟩
theorem d_Comp_at_68 : dn m_Comp_at.2.1 68 (.checkcast 51) 3 71 := ⟨by decide +kernel, rfl⟩
theorem d_Comp_at_71 : dn m_Comp_at.2.1 71 (.invokevirtual 124) 3 74 := ⟨by decide +kernel, rfl⟩
theorem d_Comp_at_74 : db m_Comp_at.2.1 74 (.ifCond .lt) 93 77 := ⟨19, by decide +kernel, by decide, rfl⟩
theorem d_Comp_at_77 : dn m_Comp_at.2.1 77 (.aload_n 0) 1 78 := ⟨by decide +kernel, rfl⟩
theorem d_Comp_at_78 : dn m_Comp_at.2.1 78 (.getfield 29) 3 81 := ⟨by decide +kernel, rfl⟩
theorem d_Comp_at_81 : dn m_Comp_at.2.1 81 (.aload 4) 2 83 := ⟨by decide +kernel, rfl⟩
theorem d_Comp_at_83 : dn m_Comp_at.2.1 83 (.aload_n 3) 1 84 := ⟨by decide +kernel, rfl⟩
theorem d_Comp_at_84 : dn m_Comp_at.2.1 84 (.invokevirtual 181) 3 87 := ⟨by decide +kernel, rfl⟩
theorem d_Comp_at_87 : dn m_Comp_at.2.1 87 (.invokevirtual 124) 3 90 := ⟨by decide +kernel, rfl⟩
theorem d_Comp_at_90 : db m_Comp_at.2.1 90 (.ifCond .le) 96 93 := ⟨6, by decide +kernel, by decide, rfl⟩
theorem d_Comp_at_93 : dn m_Comp_at.2.1 93 (.bipush (-5)) 2 95 := ⟨by decide +kernel, rfl⟩
theorem d_Comp_at_95 : dn m_Comp_at.2.1 95 (.ireturn) 1 96 := ⟨by decide +kernel, rfl⟩
theorem d_Comp_at_96 : dn m_Comp_at.2.1 96 (.aload_n 0) 1 97 := ⟨by decide +kernel, rfl⟩
theorem d_Comp_at_97 : dn m_Comp_at.2.1 97 (.getfield 10) 3 100 := ⟨by decide +kernel, rfl⟩
theorem d_Comp_at_100 : dn m_Comp_at.2.1 100 (.invokevirtual 39) 3 103 := ⟨by decide +kernel, rfl⟩
theorem d_Comp_at_103 : dn m_Comp_at.2.1 103 (.sipush 200) 3 106 := ⟨by decide +kernel, rfl⟩
theorem d_Comp_at_106 : db m_Comp_at.2.1 106 (.if_icmp .ne) 112 109 := ⟨6, by decide +kernel, by decide, rfl⟩
theorem d_Comp_at_109 : dn m_Comp_at.2.1 109 (.bipush (-3)) 2 111 := ⟨by decide +kernel, rfl⟩
theorem d_Comp_at_111 : dn m_Comp_at.2.1 111 (.ireturn) 1 112 := ⟨by decide +kernel, rfl⟩
theorem d_Comp_at_112 : dn m_Comp_at.2.1 112 (.iconst 0) 1 113 := ⟨by decide +kernel, rfl⟩
theorem d_Comp_at_113 : dn m_Comp_at.2.1 113 (.istore 6) 2 115 := ⟨by decide +kernel, rfl⟩
theorem d_Comp_at_115 : dn m_Comp_at.2.1 115 (.aload_n 0) 1 116 := ⟨by decide +kernel, rfl⟩
theorem d_Comp_at_116 : dn m_Comp_at.2.1 116 (.getfield 29) 3 119 := ⟨by decide +kernel, rfl⟩
theorem d_Comp_at_119 : dn m_Comp_at.2.1 119 (.aload_n 3) 1 120 := ⟨by decide +kernel, rfl⟩
theorem d_Comp_at_120 : dn m_Comp_at.2.1 120 (.getfield 175) 3 123 := ⟨by decide +kernel, rfl⟩
theorem d_Comp_at_123 : dn m_Comp_at.2.1 123 (.iload 6) 2 125 := ⟨by decide +kernel, rfl⟩
theorem d_Comp_at_125 : dn m_Comp_at.2.1 125 (.invokevirtual 47) 3 128 := ⟨by decide +kernel, rfl⟩
theorem d_Comp_at_128 : dn m_Comp_at.2.1 128 (.checkcast 51) 3 131 := ⟨by decide +kernel, rfl⟩
theorem d_Comp_at_131 : dn m_Comp_at.2.1 131 (.aload 4) 2 133 := ⟨by decide +kernel, rfl⟩
theorem d_Comp_at_133 : dn m_Comp_at.2.1 133 (.invokevirtual 124) 3 136 := ⟨by decide +kernel, rfl⟩
theorem d_Comp_at_136 : db m_Comp_at.2.1 136 (.ifCond .ge) 145 139 := ⟨9, by decide +kernel, by decide, rfl⟩
theorem d_Comp_at_139 : dn m_Comp_at.2.1 139 (.iinc 6 1) 3 142 := ⟨by decide +kernel, rfl⟩
theorem d_Comp_at_142 : db m_Comp_at.2.1 142 (.goto) 115 145 := ⟨(-27), by decide +kernel, by decide, rfl⟩
theorem d_Comp_at_145 : dn m_Comp_at.2.1 145 (.aload_n 0) 1 146 := ⟨by decide +kernel, rfl⟩
theorem d_Comp_at_146 : dn m_Comp_at.2.1 146 (.getfield 29) 3 149 := ⟨by decide +kernel, rfl⟩
theorem d_Comp_at_149 : dn m_Comp_at.2.1 149 (.aload_n 3) 1 150 := ⟨by decide +kernel, rfl⟩
theorem d_Comp_at_150 : dn m_Comp_at.2.1 150 (.getfield 175) 3 153 := ⟨by decide +kernel, rfl⟩
theorem d_Comp_at_153 : dn m_Comp_at.2.1 153 (.iload 6) 2 155 := ⟨by decide +kernel, rfl⟩
theorem d_Comp_at_155 : dn m_Comp_at.2.1 155 (.invokevirtual 47) 3 158 := ⟨by decide +kernel, rfl⟩
theorem d_Comp_at_158 : dn m_Comp_at.2.1 158 (.checkcast 51) 3 161 := ⟨by decide +kernel, rfl⟩
theorem d_Comp_at_161 : dn m_Comp_at.2.1 161 (.aload 4) 2 163 := ⟨by decide +kernel, rfl⟩
theorem d_Comp_at_163 : dn m_Comp_at.2.1 163 (.invokevirtual 124) 3 166 := ⟨by decide +kernel, rfl⟩
theorem d_Comp_at_166 : db m_Comp_at.2.1 166 (.ifCond .ne) 194 169 := ⟨28, by decide +kernel, by decide, rfl⟩
theorem d_Comp_at_169 : dn m_Comp_at.2.1 169 (.aload_n 0) 1 170 := ⟨by decide +kernel, rfl⟩
theorem d_Comp_at_170 : dn m_Comp_at.2.1 170 (.getfield 29) 3 173 := ⟨by decide +kernel, rfl⟩
theorem d_Comp_at_173 : dn m_Comp_at.2.1 173 (.getfield 63) 3 176 := ⟨by decide +kernel, rfl⟩
theorem d_Comp_at_176 : dn m_Comp_at.2.1 176 (.aload_n 3) 1 177 := ⟨by decide +kernel, rfl⟩
theorem d_Comp_at_177 : dn m_Comp_at.2.1 177 (.getfield 178) 3 180 := ⟨by decide +kernel, rfl⟩
theorem d_Comp_at_180 : dn m_Comp_at.2.1 180 (.iload 6) 2 182 := ⟨by decide +kernel, rfl⟩
theorem d_Comp_at_182 : dn m_Comp_at.2.1 182 (.invokevirtual 47) 3 185 := ⟨by decide +kernel, rfl⟩
theorem d_Comp_at_185 : dn m_Comp_at.2.1 185 (.checkcast 51) 3 188 := ⟨by decide +kernel, rfl⟩
theorem d_Comp_at_188 : dn m_Comp_at.2.1 188 (.invokevirtual 74) 3 191 := ⟨by decide +kernel, rfl⟩
theorem d_Comp_at_191 : db m_Comp_at.2.1 191 (.goto) 255 194 := ⟨64, by decide +kernel, by decide, rfl⟩
theorem d_Comp_at_194 : dn m_Comp_at.2.1 194 (.aload_n 0) 1 195 := ⟨by decide +kernel, rfl⟩
theorem d_Comp_at_195 : dn m_Comp_at.2.1 195 (.getfield 29) 3 198 := ⟨by decide +kernel, rfl⟩
theorem d_Comp_at_198 : dn m_Comp_at.2.1 198 (.aload_n 3) 1 199 := ⟨by decide +kernel, rfl⟩
theorem d_Comp_at_199 : dn m_Comp_at.2.1 199 (.getfield 175) 3 202 := ⟨by decide +kernel, rfl⟩
theorem d_Comp_at_202 : dn m_Comp_at.2.1 202 (.iload 6) 2 204 := ⟨by decide +kernel, rfl⟩
theorem d_Comp_at_204 : dn m_Comp_at.2.1 204 (.iconst 1) 1 205 := ⟨by decide +kernel, rfl⟩
theorem d_Comp_at_205 : dn m_Comp_at.2.1 205 (.isub) 1 206 := ⟨by decide +kernel, rfl⟩
theorem d_Comp_at_206 : dn m_Comp_at.2.1 206 (.invokevirtual 47) 3 209 := ⟨by decide +kernel, rfl⟩
theorem d_Comp_at_209 : dn m_Comp_at.2.1 209 (.checkcast 51) 3 212 := ⟨by decide +kernel, rfl⟩
theorem d_Comp_at_212 : dn m_Comp_at.2.1 212 (.aload_n 3) 1 213 := ⟨by decide +kernel, rfl⟩
theorem d_Comp_at_213 : dn m_Comp_at.2.1 213 (.getfield 178) 3 216 := ⟨by decide +kernel, rfl⟩
theorem d_Comp_at_216 : dn m_Comp_at.2.1 216 (.iload 6) 2 218 := ⟨by decide +kernel, rfl⟩
theorem d_Comp_at_218 : dn m_Comp_at.2.1 218 (.iconst 1) 1 219 := ⟨by decide +kernel, rfl⟩
theorem d_Comp_at_219 : dn m_Comp_at.2.1 219 (.isub) 1 220 := ⟨by decide +kernel, rfl⟩
theorem d_Comp_at_220 : dn m_Comp_at.2.1 220 (.invokevirtual 47) 3 223 := ⟨by decide +kernel, rfl⟩
theorem d_Comp_at_223 : dn m_Comp_at.2.1 223 (.checkcast 51) 3 226 := ⟨by decide +kernel, rfl⟩
theorem d_Comp_at_226 : dn m_Comp_at.2.1 226 (.aload_n 3) 1 227 := ⟨by decide +kernel, rfl⟩
theorem d_Comp_at_227 : dn m_Comp_at.2.1 227 (.getfield 175) 3 230 := ⟨by decide +kernel, rfl⟩
theorem d_Comp_at_230 : dn m_Comp_at.2.1 230 (.iload 6) 2 232 := ⟨by decide +kernel, rfl⟩
theorem d_Comp_at_232 : dn m_Comp_at.2.1 232 (.invokevirtual 47) 3 235 := ⟨by decide +kernel, rfl⟩
theorem d_Comp_at_235 : dn m_Comp_at.2.1 235 (.checkcast 51) 3 238 := ⟨by decide +kernel, rfl⟩
theorem d_Comp_at_238 : dn m_Comp_at.2.1 238 (.aload_n 3) 1 239 := ⟨by decide +kernel, rfl⟩
theorem d_Comp_at_239 : dn m_Comp_at.2.1 239 (.getfield 178) 3 242 := ⟨by decide +kernel, rfl⟩
theorem d_Comp_at_242 : dn m_Comp_at.2.1 242 (.iload 6) 2 244 := ⟨by decide +kernel, rfl⟩
theorem d_Comp_at_244 : dn m_Comp_at.2.1 244 (.invokevirtual 47) 3 247 := ⟨by decide +kernel, rfl⟩
theorem d_Comp_at_247 : dn m_Comp_at.2.1 247 (.checkcast 51) 3 250 := ⟨by decide +kernel, rfl⟩
theorem d_Comp_at_250 : dn m_Comp_at.2.1 250 (.aload 4) 2 252 := ⟨by decide +kernel, rfl⟩
theorem d_Comp_at_252 : dn m_Comp_at.2.1 252 (.invokevirtual 184) 3 255 := ⟨by decide +kernel, rfl⟩
theorem d_Comp_at_255 : dn m_Comp_at.2.1 255 (.aload_n 0) 1 256 := ⟨by decide +kernel, rfl⟩
theorem d_Comp_at_256 : dn m_Comp_at.2.1 256 (.invokevirtual 97) 3 259 := ⟨by decide +kernel, rfl⟩
theorem d_Comp_at_259 : dn m_Comp_at.2.1 259 (.ireturn) 1 260 := ⟨by decide +kernel, rfl⟩
theorem sp_Comp_at {rw i kk : Nat} {cs : List (Nat × Nat)} (hcx : CX K M c xs ws wl) (hms : MS xs ws wl) (hk : ws[rw]? = some cs) (hi : i < xs.length) (hkk : atF xs cs i = 0 → kk < cs.length ∧ (∀ t, t < kk → czr (Pl xs cs t) (vx xs i).1 < 0) ∧ ¬ czr (Pl xs cs kk) (vx xs i).1 < 0) :
    Sp l K m_Comp_at 8 6 708 [.ref c, iv rw, iv i] M (fun r M' => r = some (iv (if atF xs cs i = 0 then kpR xs (atV xs cs i kk).1 else atF xs cs i)) ∧ CX K M' c (if atF xs cs i = 0 then kpS xs (atV xs cs i kk).1 (atV xs cs i kk).2 else xs) ws wl) := by
  refine Sp.ofG R_Comp rfl (by decide) [some (.ref c), some (iv rw), some (iv i), none, none, none, none] rfl (Nat.le_of_ble_eq_true rfl) ?_
  intro X hl hK hN hR hC hQ
  subst hl hK
  obtain ⟨vs, ss, rs, h⟩ := hcx
  obtain ⟨r, hr, hro, hrc⟩ := h.rg hk
  obtain ⟨hv1, o1, hc1⟩ := h.vg hi
  obtain ⟨bx, ux1, ux2⟩ := hms.vb hi
  have hcl := (hms.2.1.2 cs (List.mem_of_getElem? hk)).1
  obtain ⟨f1, hf1⟩ := o1.rc
  -- one corner's place and height, over any heap with the component
  have pl : ∀ (M' : AH), CI X.K M' c vs ss rs xs ws wl → ∀ t, t < cs.length → (∃ e cap, cap ≤ 300 ∧ isL X.K M' (r + 1) e cap (cs.map fun ij => vs.getD ij.1 0)) ∧ (∃ e cap, cap ≤ 300 ∧ isL X.K M' (r + 2) e cap (cs.map fun ij => vs.getD ij.2 0)) ∧ M'.1 r = some (oO 3 [.ref (r + 1), .ref (r + 2)]) ∧ opx X.K M' (vs.getD (cg cs t).1 0) 100 (Pl xs cs t) (vx xs (cg cs t).1).2 ∧ opx X.K M' (vs.getD (cg cs t).2 0) 100 (Ht xs cs t) (vx xs (cg cs t).2).2 ∧ c + 24 ≤ vs.getD (cg cs t).1 0 ∧ c + 24 ≤ vs.getD (cg cs t).2 0 ∧ bdq (Pl xs cs t) 100 100 ∧ bdq (Ht xs cs t) 100 100 := by
    intro M' h' t ht
    obtain ⟨r0, hr0, ⟨g1, ⟨e1, cap1, t1, t2, t3⟩, ⟨e2, cap2, t4, t5, t6⟩⟩, _⟩ := h'.rg hk
    cases hr.symm.trans hr0
    have hl0 := hms.cs hk ht
    obtain ⟨_, po, pc⟩ := h'.vg hl0.1
    obtain ⟨_, ho, hc⟩ := h'.vg hl0.2
    exact ⟨⟨e1, cap1, t1, t3⟩, ⟨e2, cap2, t4, t6⟩, g1, po, ho, pc, hc, (hms.vb hl0.1).1, (hms.vb hl0.2).1⟩
  refine g_aload_n hC rfl d_Comp_at_0 ?_
  refine g_iload_n hC rfl d_Comp_at_1 ?_
  refine g_callV1 hC (sp_Comp_rowOf h hr hro.1) oc_Comp_rowOf ov_Comp_rowOf ml_Comp_170 h.o rfl hR (Nat.le_of_ble_eq_true rfl) (Nat.le_of_ble_eq_true rfl) (Nat.le_of_ble_eq_true rfl) (Nat.le_of_ble_eq_true rfl) (Nat.le_of_ble_eq_true rfl) d_Comp_at_2 (fun r M hp => ?_)
  obtain ⟨rfl, rfl⟩ := hp
  refine g_sv ?_
  first | refine g_ast3 hC d_Comp_at_5 rfl (hN 3 rfl) ?_ | (refine g_fg2 ?_; refine g_ast3 hC d_Comp_at_5 rfl (hN 3 rfl) ?_)
  refine g_aload_n hC rfl d_Comp_at_6 ?_
  refine g_iload_n hC rfl d_Comp_at_7 ?_
  refine g_callV1 hC (sp_Comp_of h hv1 hf1) oc_Comp_of ov_Comp_of ml_Comp_100 h.o rfl hR (Nat.le_of_ble_eq_true rfl) (Nat.le_of_ble_eq_true rfl) (Nat.le_of_ble_eq_true rfl) (Nat.le_of_ble_eq_true rfl) (Nat.le_of_ble_eq_true rfl) d_Comp_at_8 (fun r M hp => ?_)
  obtain ⟨rfl, rfl⟩ := hp
  refine g_sv ?_
  first | refine g_ast4 hC d_Comp_at_11 rfl (hN 4 rfl) ?_ | (refine g_fg3 ?_; refine g_ast4 hC d_Comp_at_11 rfl (hN 4 rfl) ?_)
  refine g_aload_n hC rfl d_Comp_at_13 ?_
  refine g_callV0 hC (sp_Row_size hro) oc_Row_size ov_Row_size ml_Comp_174 hro.1 rfl hR (Nat.le_of_ble_eq_true rfl) (Nat.le_of_ble_eq_true rfl) (Nat.le_of_ble_eq_true rfl) (Nat.le_of_ble_eq_true rfl) (Nat.le_of_ble_eq_true rfl) d_Comp_at_14 (fun r M hp => ?_)
  obtain ⟨rfl, rfl⟩ := hp
  refine g_sv ?_
  first | refine g_ist5 hC d_Comp_at_17 rfl (hN 5 rfl) ?_ | (refine g_fg4 ?_; refine g_ist5 hC d_Comp_at_17 rfl (hN 5 rfl) ?_)
  -- keep
  have kp : ∀ (M' : AH) (o6 : Option Value) (v : Rat × Int), atF xs cs i = 0 → v = atV xs cs i kk → CI X.K M' c vs ss rs xs ws wl → mdx X.K M' (c + 5) v.1 v.2 → xs.length < 200 → G X 0 0 M' 255 [some (.ref c), some (iv rw), some (iv i), some (.ref r), some (.ref (vs.getD i 0)), some (iv cs.length), o6] [] := by
    intro M' o6 v ha hv h' m' hx2
    rw [if_pos ha, if_pos ha, ← hv] at hQ
    refine g_aload_n hC rfl d_Comp_at_255 ?_
    refine g_callV0 hC (sp_Comp_keep ⟨vs, ss, rs, h'⟩ hms hx2 m') oc_Comp_keep ov_Comp_keep ml_Comp_97 h'.o rfl hR (Nat.le_of_ble_eq_true rfl) (Nat.le_of_ble_eq_true rfl) (Nat.le_of_ble_eq_true rfl) (Nat.le_of_ble_eq_true rfl) (Nat.le_of_ble_eq_true rfl) d_Comp_at_256 (fun r M2 hp => ?_)
    obtain ⟨rfl, h2⟩ := hp
    refine g_sv ?_
    refine g_iret hC hQ (by decide) (by decide) d_Comp_at_259 ⟨rfl, h2⟩
  -- the corner is found
  have fnd : ∀ (M' : AH), atF xs cs i = 0 → 0 < cs.length → ¬ czr (vx xs i).1 (Pl xs cs 0) < 0 → xs.length < 200 → CI X.K M' c vs ss rs xs ws wl → G X 0 0 M' 145 [some (.ref c), some (iv rw), some (iv i), some (.ref r), some (.ref (vs.getD i 0)), some (iv cs.length), some (iv kk)] [] := by
    intro M' ha h0 hnl hx2 h'
    obtain ⟨k1, k2, k3⟩ := hkk ha
    obtain ⟨⟨e1, cap1, t1, t3⟩, ⟨e2, cap2, t4, t6⟩, g1, po, ho, pcb, hcb, pb, hb⟩ := pl M' h' kk k1
    obtain ⟨_, ox, _⟩ := h'.vg hi
    obtain ⟨fp, hfp⟩ := po.rc
    have hD := h'.d
    obtain ⟨mi, un, hDK⟩ := hD
    refine g_aload_n hC rfl d_Comp_at_145 ?_
    refine g_get hC fb_Comp_29 h'.o rfl d_Comp_at_146 ?_
    refine g_aload_n hC rfl d_Comp_at_149 ?_
    refine g_get hC fb_Comp_175 g1 rfl d_Comp_at_150 ?_
    refine g_iload hC rfl d_Comp_at_153 ?_
    refine g_callV1 hC (sp_AL_get (i := kk) t3 (by omega) (mp1 k1)) oc_AL_get ov_AL_get ml_Comp_47 t3.1.choose_spec rfl hR (Nat.le_of_ble_eq_true rfl) (Nat.le_of_ble_eq_true rfl) (Nat.le_of_ble_eq_true rfl) (Nat.le_of_ble_eq_true rfl) (Nat.le_of_ble_eq_true rfl) d_Comp_at_155 (fun r M' hp => ?_)
    obtain ⟨rfl, rfl⟩ := hp
    refine g_sv ?_
    refine g_castY hC ck_Frac cl_Comp_51 hfp d_Comp_at_158 ?_
    refine g_aload hC rfl d_Comp_at_161 ?_
    refine g_callV2 hC (sp_Desk_against hDK po ox (by omega) (by omega) (by decide) (by decide) pb bx (by decide) (by decide)) oc_Desk_against ov_Desk_against ml_Comp_124 hDK.o rfl hR (Nat.le_of_ble_eq_true rfl) (Nat.le_of_ble_eq_true rfl) (Nat.le_of_ble_eq_true rfl) (Nat.le_of_ble_eq_true rfl) (Nat.le_of_ble_eq_true rfl) d_Comp_at_163 (fun r M1 hp => ?_)
    obtain ⟨rfl, D1, f1⟩ := hp
    refine g_sv ?_
    have h1 := h'.md f1 ⟨_, _, D1⟩
    obtain ⟨⟨e3, cap3, u1, u3⟩, ⟨e4, cap4, u4, u6⟩, g2, po1, ho1, _, _, _, _⟩ := pl M1 h1 kk k1
    obtain ⟨fh, hfh⟩ := ho1.rc
    refine g_if_ne hC (czr_I _ _) d_Comp_at_166 (fun c1 => ?_) (fun c1 => ?_)
    · -- a line
      have hk0 : 0 < kk := by
        rcases Nat.eq_zero_or_pos kk with q | q
        · exfalso
          subst q
          exact hnl (czr_lt.mpr (czr_gt k3 c1))
        · exact q
      obtain ⟨_, _, _, po2, ho2, pc2, hc2, pb2, hb2⟩ := pl M1 h1 (kk - 1) (by omega)
      obtain ⟨_, ox1, _⟩ := h1.vg hi
      obtain ⟨f3, hf3⟩ := po2.rc
      obtain ⟨f4, hf4⟩ := ho2.rc
      obtain ⟨f5, hf5⟩ := po1.rc
      have hne : Pl xs cs kk - Pl xs cs (kk - 1) ≠ 0 := by
        intro q
        have q1 := czr_lt.mp (k2 (kk - 1) (by omega))
        have q2 := czr_gt k3 c1
        have q4 : Pl xs cs kk = Pl xs cs (kk - 1) := by
          have := congrArg (· + Pl xs cs (kk - 1)) q
          simp only [Rat.sub_add_cancel, Rat.zero_add] at this
          exact this
        rw [q4] at q2
        have e := Rat.le_antisymm (Rat.le_of_lt q1) (Rat.le_of_lt q2)
        rw [e] at q1
        exact Rat.lt_irrefl q1
      have hval : (((vx xs i).1 - Pl xs cs (kk - 1)) * ((Ht xs cs kk - Ht xs cs (kk - 1)) / (Pl xs cs kk - Pl xs cs (kk - 1))) + Ht xs cs (kk - 1), (vx xs (cg cs (kk - 1)).2).2) = atV xs cs i kk := by unfold atV; rw [if_neg c1]
      have D1x : dkx X.K M1 (c + 5) := ⟨_, _, D1⟩
      refine g_aload_n hC rfl d_Comp_at_194 ?_
      refine g_get hC fb_Comp_29 h1.o rfl d_Comp_at_195 ?_
      refine g_aload_n hC rfl d_Comp_at_198 ?_
      refine g_get hC fb_Comp_175 g2 rfl d_Comp_at_199 ?_
      refine g_iload hC rfl d_Comp_at_202 ?_
      refine g_iconst hC d_Comp_at_204 ?_
      refine g_isub hC d_Comp_at_205 ?_
      rw [show (kk : Int) - 1 = ((kk - 1 : Nat) : Int) by omega]
      refine g_callV1 hC (sp_AL_get (i := kk - 1) u3 (by omega) (mp1 (by omega))) oc_AL_get ov_AL_get ml_Comp_47 u3.1.choose_spec rfl hR (Nat.le_of_ble_eq_true rfl) (Nat.le_of_ble_eq_true rfl) (Nat.le_of_ble_eq_true rfl) (Nat.le_of_ble_eq_true rfl) (Nat.le_of_ble_eq_true rfl) d_Comp_at_206 (fun r M1 hp => ?_)
      obtain ⟨rfl, rfl⟩ := hp
      refine g_sv ?_
      refine g_castY hC ck_Frac cl_Comp_51 hf3 d_Comp_at_209 ?_
      refine g_aload_n hC rfl d_Comp_at_212 ?_
      refine g_get hC fb_Comp_178 g2 rfl d_Comp_at_213 ?_
      refine g_iload hC rfl d_Comp_at_216 ?_
      refine g_iconst hC d_Comp_at_218 ?_
      refine g_isub hC d_Comp_at_219 ?_
      rw [show (kk : Int) - 1 = ((kk - 1 : Nat) : Int) by omega]
      refine g_callV1 hC (sp_AL_get (i := kk - 1) u6 (by omega) (mp2 (by omega))) oc_AL_get ov_AL_get ml_Comp_47 u6.1.choose_spec rfl hR (Nat.le_of_ble_eq_true rfl) (Nat.le_of_ble_eq_true rfl) (Nat.le_of_ble_eq_true rfl) (Nat.le_of_ble_eq_true rfl) (Nat.le_of_ble_eq_true rfl) d_Comp_at_220 (fun r M1 hp => ?_)
      obtain ⟨rfl, rfl⟩ := hp
      refine g_sv ?_
      refine g_castY hC ck_Frac cl_Comp_51 hf4 d_Comp_at_223 ?_
      refine g_aload_n hC rfl d_Comp_at_226 ?_
      refine g_get hC fb_Comp_175 g2 rfl d_Comp_at_227 ?_
      refine g_iload hC rfl d_Comp_at_230 ?_
      refine g_callV1 hC (sp_AL_get (i := kk) u3 (by omega) (mp1 k1)) oc_AL_get ov_AL_get ml_Comp_47 u3.1.choose_spec rfl hR (Nat.le_of_ble_eq_true rfl) (Nat.le_of_ble_eq_true rfl) (Nat.le_of_ble_eq_true rfl) (Nat.le_of_ble_eq_true rfl) (Nat.le_of_ble_eq_true rfl) d_Comp_at_232 (fun r M1 hp => ?_)
      obtain ⟨rfl, rfl⟩ := hp
      refine g_sv ?_
      refine g_castY hC ck_Frac cl_Comp_51 hf5 d_Comp_at_235 ?_
      refine g_aload_n hC rfl d_Comp_at_238 ?_
      refine g_get hC fb_Comp_178 g2 rfl d_Comp_at_239 ?_
      refine g_iload hC rfl d_Comp_at_242 ?_
      refine g_callV1 hC (sp_AL_get (i := kk) u6 (by omega) (mp2 k1)) oc_AL_get ov_AL_get ml_Comp_47 u6.1.choose_spec rfl hR (Nat.le_of_ble_eq_true rfl) (Nat.le_of_ble_eq_true rfl) (Nat.le_of_ble_eq_true rfl) (Nat.le_of_ble_eq_true rfl) (Nat.le_of_ble_eq_true rfl) d_Comp_at_244 (fun r M1 hp => ?_)
      obtain ⟨rfl, rfl⟩ := hp
      refine g_sv ?_
      refine g_castY hC ck_Frac cl_Comp_51 hfh d_Comp_at_247 ?_
      refine g_aload hC rfl d_Comp_at_250 ?_
      refine g_callV5 hC (sp_Desk_line D1x (by exact h1.hx) po2 ho2 po1 ho1 ox1 (by unfold dd; omega) (by unfold dd; omega) (by unfold dd; omega) (by unfold dd; omega) (by unfold dd; omega) (by decide) (by decide) (by decide) (by decide) (by decide) pb2 hb2 pb hb bx hne) oc_Desk_line ov_Desk_line ml_Comp_184 D1x.o rfl hR (Nat.le_of_ble_eq_true rfl) (Nat.le_of_ble_eq_true rfl) (Nat.le_of_ble_eq_true rfl) (Nat.le_of_ble_eq_true rfl) (Nat.le_of_ble_eq_true rfl) d_Comp_at_252 (fun r M2 hp => ?_)
      obtain ⟨rfl, m2, x2, f2⟩ := hp
      refine g_s0 ?_
      exact kp M2 _ _ ha hval (h1.desk f2 m2.x x2) m2 hx2
    · -- the corner itself
      have hval : vx xs (cg cs kk).2 = atV xs cs i kk := by unfold atV; rw [if_pos c1]
      refine g_aload_n hC rfl d_Comp_at_169 ?_
      refine g_get hC fb_Comp_29 h1.o rfl d_Comp_at_170 ?_
      refine g_get hC fb_Comp_63 D1.o rfl d_Comp_at_173 ?_
      refine g_aload_n hC rfl d_Comp_at_176 ?_
      refine g_get hC fb_Comp_178 g2 rfl d_Comp_at_177 ?_
      refine g_iload hC rfl d_Comp_at_180 ?_
      refine g_callV1 hC (sp_AL_get (i := kk) u6 (by omega) (mp2 k1)) oc_AL_get ov_AL_get ml_Comp_47 u6.1.choose_spec rfl hR (Nat.le_of_ble_eq_true rfl) (Nat.le_of_ble_eq_true rfl) (Nat.le_of_ble_eq_true rfl) (Nat.le_of_ble_eq_true rfl) (Nat.le_of_ble_eq_true rfl) d_Comp_at_182 (fun r M1 hp => ?_)
      obtain ⟨rfl, rfl⟩ := hp
      refine g_sv ?_
      refine g_castY hC ck_Frac cl_Comp_51 hfh d_Comp_at_185 ?_
      refine g_callV1 hC (sp_copyQ D1.fxm ho1 (by omega) (b740 hb (by decide) (by decide)) (by decide) (by decide)) oc_Frac_copy ov_Frac_copy ml_Comp_74 D1.fxm.rc.choose_spec rfl hR (Nat.le_of_ble_eq_true rfl) (Nat.le_of_ble_eq_true rfl) (Nat.le_of_ble_eq_true rfl) (Nat.le_of_ble_eq_true rfl) (Nat.le_of_ble_eq_true rfl) d_Comp_at_188 (fun r M2 hp => ?_)
      obtain ⟨rfl, oc, fc⟩ := hp
      refine g_s0 ?_
      obtain ⟨h2, m2⟩ := h1.cp fc oc
      refine g_goto hC d_Comp_at_191 ?_
      exact kp M2 _ _ ha hval h2 m2 hx2
  -- the search
  have lp : ∀ (d t : Nat) (M' : AH), atF xs cs i = 0 → 0 < cs.length → ¬ czr (vx xs i).1 (Pl xs cs 0) < 0 → xs.length < 200 → kk - t = d → t ≤ kk → CI X.K M' c vs ss rs xs ws wl → G X 0 0 M' 115 [some (.ref c), some (iv rw), some (iv i), some (.ref r), some (.ref (vs.getD i 0)), some (iv cs.length), some (iv t)] [] := by
    intro d
    induction d with
    | zero =>
      intro t M' ha h0 hnl hx2 hd ht h'
      obtain rfl : t = kk := by omega
      obtain ⟨k1, k2, k3⟩ := hkk ha
      obtain ⟨⟨e1, cap1, t1, t3⟩, _, g1, po, ho, pcb, hcb, pb, hb⟩ := pl M' h' t k1
      obtain ⟨_, ox, _⟩ := h'.vg hi
      obtain ⟨fp, hfp⟩ := po.rc
      have hD := h'.d
      obtain ⟨mi, un, hDK⟩ := hD
      refine g_aload_n hC rfl d_Comp_at_115 ?_
      refine g_get hC fb_Comp_29 h'.o rfl d_Comp_at_116 ?_
      refine g_aload_n hC rfl d_Comp_at_119 ?_
      refine g_get hC fb_Comp_175 g1 rfl d_Comp_at_120 ?_
      refine g_iload hC rfl d_Comp_at_123 ?_
      refine g_callV1 hC (sp_AL_get (i := t) t3 (by omega) (mp1 k1)) oc_AL_get ov_AL_get ml_Comp_47 t3.1.choose_spec rfl hR (Nat.le_of_ble_eq_true rfl) (Nat.le_of_ble_eq_true rfl) (Nat.le_of_ble_eq_true rfl) (Nat.le_of_ble_eq_true rfl) (Nat.le_of_ble_eq_true rfl) d_Comp_at_125 (fun r M' hp => ?_)
      obtain ⟨rfl, rfl⟩ := hp
      refine g_sv ?_
      refine g_castY hC ck_Frac cl_Comp_51 hfp d_Comp_at_128 ?_
      refine g_aload hC rfl d_Comp_at_131 ?_
      refine g_callV2 hC (sp_Desk_against hDK po ox (by omega) (by omega) (by decide) (by decide) pb bx (by decide) (by decide)) oc_Desk_against ov_Desk_against ml_Comp_124 hDK.o rfl hR (Nat.le_of_ble_eq_true rfl) (Nat.le_of_ble_eq_true rfl) (Nat.le_of_ble_eq_true rfl) (Nat.le_of_ble_eq_true rfl) (Nat.le_of_ble_eq_true rfl) d_Comp_at_133 (fun r M1 hp => ?_)
      obtain ⟨rfl, D1, f1⟩ := hp
      refine g_sv ?_
      refine g_if_ge hC (czr_I _ _) d_Comp_at_136 (fun c1 => ?_) (fun c1 => ?_)
      · exact fnd M1 ha h0 hnl hx2 (h'.md f1 ⟨_, _, D1⟩)
      · omega
    | succ d ih =>
      intro t M' ha h0 hnl hx2 hd ht h'
      obtain ⟨k1, k2, k3⟩ := hkk ha
      have k4 := k2 t (by omega)
      obtain ⟨⟨e1, cap1, t1, t3⟩, _, g1, po, ho, pcb, hcb, pb, hb⟩ := pl M' h' t (by omega)
      obtain ⟨_, ox, _⟩ := h'.vg hi
      obtain ⟨fp, hfp⟩ := po.rc
      have hD := h'.d
      obtain ⟨mi, un, hDK⟩ := hD
      refine g_aload_n hC rfl d_Comp_at_115 ?_
      refine g_get hC fb_Comp_29 h'.o rfl d_Comp_at_116 ?_
      refine g_aload_n hC rfl d_Comp_at_119 ?_
      refine g_get hC fb_Comp_175 g1 rfl d_Comp_at_120 ?_
      refine g_iload hC rfl d_Comp_at_123 ?_
      refine g_callV1 hC (sp_AL_get (i := t) t3 (by omega) (mp1 (by omega))) oc_AL_get ov_AL_get ml_Comp_47 t3.1.choose_spec rfl hR (Nat.le_of_ble_eq_true rfl) (Nat.le_of_ble_eq_true rfl) (Nat.le_of_ble_eq_true rfl) (Nat.le_of_ble_eq_true rfl) (Nat.le_of_ble_eq_true rfl) d_Comp_at_125 (fun r M' hp => ?_)
      obtain ⟨rfl, rfl⟩ := hp
      refine g_sv ?_
      refine g_castY hC ck_Frac cl_Comp_51 hfp d_Comp_at_128 ?_
      refine g_aload hC rfl d_Comp_at_131 ?_
      refine g_callV2 hC (sp_Desk_against hDK po ox (by omega) (by omega) (by decide) (by decide) pb bx (by decide) (by decide)) oc_Desk_against ov_Desk_against ml_Comp_124 hDK.o rfl hR (Nat.le_of_ble_eq_true rfl) (Nat.le_of_ble_eq_true rfl) (Nat.le_of_ble_eq_true rfl) (Nat.le_of_ble_eq_true rfl) (Nat.le_of_ble_eq_true rfl) d_Comp_at_133 (fun r M1 hp => ?_)
      obtain ⟨rfl, D1, f1⟩ := hp
      refine g_sv ?_
      refine g_if_ge hC (czr_I _ _) d_Comp_at_136 (fun c1 => ?_) (fun c1 => ?_)
      · omega
      · refine g_inc6 hC d_Comp_at_139 rfl (hN 6 rfl) ?_
        refine g_goto hC d_Comp_at_142 ?_
        exact ih (t + 1) M1 ha h0 hnl hx2 (by omega) (by omega) (h'.md f1 ⟨_, _, D1⟩)
  -- not outside
  have out : ∀ (M' : AH) (o6 : Option Value), atF xs cs i = -5 → CI X.K M' c vs ss rs xs ws wl → G X 0 0 M' 93 [some (.ref c), some (iv rw), some (iv i), some (.ref r), some (.ref (vs.getD i 0)), some (iv cs.length), o6] [] := by
    intro M' o6 ha h'
    rw [ha, if_neg (by decide), if_neg (by decide)] at hQ
    refine g_bipush hC (by decide) d_Comp_at_93 ?_
    refine g_iret hC hQ (by decide) (by decide) d_Comp_at_95 ⟨rfl, vs, ss, rs, h'⟩
  have mid : ¬ (0 < cs.length ∧ (vx xs i).2 ≠ (vx xs (cg cs 0).1).2) → G X 0 0 M 49 [some (.ref c), some (iv rw), some (iv i), some (.ref r), some (.ref (vs.getD i 0)), some (iv cs.length), none] [] := by
    intro hun
    refine g_iload hC rfl d_Comp_at_49 ?_
    refine g_if_eq hC (by unfold I32; omega) d_Comp_at_51 (fun c1 => ?_) (fun c1 => ?_)
    · exact out M _ (by unfold atF; rw [if_neg hun, if_pos (Or.inl (by omega))]) h
    · have h0 : 0 < cs.length := by omega
      obtain ⟨⟨e1, cap1, t1, t3⟩, _, g1, po, ho, pcb, hcb, pb, hb⟩ := pl M h 0 h0
      obtain ⟨fp, hfp⟩ := po.rc
      have hD := h.d
      obtain ⟨mi, un, hDK⟩ := hD
      refine g_aload_n hC rfl d_Comp_at_54 ?_
      refine g_get hC fb_Comp_29 h.o rfl d_Comp_at_55 ?_
      refine g_aload hC rfl d_Comp_at_58 ?_
      refine g_aload_n hC rfl d_Comp_at_60 ?_
      refine g_get hC fb_Comp_175 g1 rfl d_Comp_at_61 ?_
      refine g_iconst hC d_Comp_at_64 ?_
      refine g_callV1 hC (sp_AL_get (i := 0) t3 (by omega) (mp1 h0)) oc_AL_get ov_AL_get ml_Comp_47 t3.1.choose_spec rfl hR (Nat.le_of_ble_eq_true rfl) (Nat.le_of_ble_eq_true rfl) (Nat.le_of_ble_eq_true rfl) (Nat.le_of_ble_eq_true rfl) (Nat.le_of_ble_eq_true rfl) d_Comp_at_65 (fun r M hp => ?_)
      obtain ⟨rfl, rfl⟩ := hp
      refine g_sv ?_
      refine g_castY hC ck_Frac cl_Comp_51 hfp d_Comp_at_68 ?_
      refine g_callV2 hC (sp_Desk_against hDK o1 po (by omega) (by omega) (by decide) (by decide) bx pb (by decide) (by decide)) oc_Desk_against ov_Desk_against ml_Comp_124 hDK.o rfl hR (Nat.le_of_ble_eq_true rfl) (Nat.le_of_ble_eq_true rfl) (Nat.le_of_ble_eq_true rfl) (Nat.le_of_ble_eq_true rfl) (Nat.le_of_ble_eq_true rfl) d_Comp_at_71 (fun r M1 hp => ?_)
      obtain ⟨rfl, D1, f1⟩ := hp
      refine g_sv ?_
      have h1 := h.md f1 ⟨_, _, D1⟩
      refine g_if_lt hC (czr_I _ _) d_Comp_at_74 (fun c2 => ?_) (fun c2 => ?_)
      · exact out M1 _ (by unfold atF; rw [if_neg hun, if_pos (Or.inr (Or.inl c2))]) h1
      · have hlt := hms.cs hk (t := cs.length - 1) (by omega)
        obtain ⟨_, _, g2, pl2, _, pcl, _, pbl, _⟩ := pl M1 h1 (cs.length - 1) (by omega)
        obtain ⟨r0, hr0, hro1, _⟩ := h1.rg hk
        cases hr.symm.trans hr0
        obtain ⟨_, ox1, _⟩ := h1.vg hi
        obtain ⟨fl, hfl⟩ := pl2.rc
        refine g_aload_n hC rfl d_Comp_at_77 ?_
        refine g_get hC fb_Comp_29 h1.o rfl d_Comp_at_78 ?_
        refine g_aload hC rfl d_Comp_at_81 ?_
        refine g_aload_n hC rfl d_Comp_at_83 ?_
        refine g_callV0 hC (sp_Row_lastPlace hro1 h0 (mp1 (by omega)) hfl) oc_Row_lastPlace ov_Row_lastPlace ml_Comp_181 g2 rfl hR (Nat.le_of_ble_eq_true rfl) (Nat.le_of_ble_eq_true rfl) (Nat.le_of_ble_eq_true rfl) (Nat.le_of_ble_eq_true rfl) (Nat.le_of_ble_eq_true rfl) d_Comp_at_84 (fun r M1 hp => ?_)
        obtain ⟨rfl, rfl⟩ := hp
        refine g_sv ?_
        refine g_callV2 hC (sp_Desk_against D1 ox1 pl2 (by omega) (by omega) (by decide) (by decide) bx pbl (by decide) (by decide)) oc_Desk_against ov_Desk_against ml_Comp_124 D1.o rfl hR (Nat.le_of_ble_eq_true rfl) (Nat.le_of_ble_eq_true rfl) (Nat.le_of_ble_eq_true rfl) (Nat.le_of_ble_eq_true rfl) (Nat.le_of_ble_eq_true rfl) d_Comp_at_87 (fun r M2 hp => ?_)
        obtain ⟨rfl, D2, f2⟩ := hp
        refine g_sv ?_
        have h2 := h1.md f2 ⟨_, _, D2⟩
        refine g_if_le hC (czr_I _ _) d_Comp_at_90 (fun c3 => ?_) (fun c3 => ?_)
        · have hno : ¬ (cs.length = 0 ∨ czr (vx xs i).1 (Pl xs cs 0) < 0 ∨ 0 < czr (vx xs i).1 (Pl xs cs (cs.length - 1))) := by
            intro q
            rcases q with q | q | q
            · omega
            · exact c2 q
            · exact absurd q (by have : czr (vx xs i).1 (Pl xs cs (cs.length - 1)) ≤ 0 := c3; omega)
          obtain ⟨ev, capv, v1, v2, v3⟩ := h2.v
          have hvl := h2.len
          have hx1 := hms.1.1
          refine g_aload_n hC rfl d_Comp_at_96 ?_
          refine g_get hC fb_Comp_10 h2.o rfl d_Comp_at_97 ?_
          refine g_callV0 hC (sp_AL_size v3) oc_AL_size ov_AL_size ml_Comp_39 v3.1.choose_spec rfl hR (Nat.le_of_ble_eq_true rfl) (Nat.le_of_ble_eq_true rfl) (Nat.le_of_ble_eq_true rfl) (Nat.le_of_ble_eq_true rfl) (Nat.le_of_ble_eq_true rfl) d_Comp_at_100 (fun r M2 hp => ?_)
          obtain ⟨rfl, rfl⟩ := hp
          refine g_sv ?_
          refine g_sipush hC (by decide) d_Comp_at_103 ?_
          refine g_icmp_ne hC (by unfold I32; omega) (by unfold I32; omega) d_Comp_at_106 (fun c4 => ?_) (fun c4 => ?_)
          · refine g_iconst hC d_Comp_at_112 ?_
            first | refine g_ist6 hC d_Comp_at_113 rfl (hN 6 rfl) ?_ | (refine g_fg5 ?_; refine g_ist6 hC d_Comp_at_113 rfl (hN 6 rfl) ?_)
            exact lp kk 0 M2 (by unfold atF; rw [if_neg hun, if_neg hno, if_neg (by omega)]) h0 c2 (by omega) (by omega) (by omega) h2
          · have ha : atF xs cs i = -3 := by unfold atF; rw [if_neg hun, if_neg hno, if_pos (by omega)]
            rw [ha, if_neg (by decide), if_neg (by decide)] at hQ
            refine g_bipush hC (by decide) d_Comp_at_109 ?_
            refine g_iret hC hQ (by decide) (by decide) d_Comp_at_111 ⟨rfl, vs, ss, rs, h2⟩
        · exact out M2 _ (by
            unfold atF
            rw [if_neg hun, if_pos (Or.inr (Or.inr (by have : ¬ czr (vx xs i).1 (Pl xs cs (cs.length - 1)) ≤ 0 := c3; omega)))]) h2
  refine g_iload hC rfl d_Comp_at_19 ?_
  refine g_if_le hC (by unfold I32; omega) d_Comp_at_21 (fun c1 => ?_) (fun c1 => ?_)
  · exact mid (fun q => by omega)
  · have h0 : 0 < cs.length := by omega
    obtain ⟨⟨e1, cap1, t1, t3⟩, _, g1, po, _⟩ := pl M h 0 h0
    have hl0 := hms.cs hk (t := 0) h0
    obtain ⟨_, up1, up2⟩ := hms.vb hl0.1
    obtain ⟨mi1, a1, b1, hF1, _⟩ := o1
    obtain ⟨mi3, a3, b3, hF3, _⟩ := po
    refine g_aload hC rfl d_Comp_at_24 ?_
    refine g_get hC fb_Comp_104 hF1.1 rfl d_Comp_at_26 ?_
    refine g_aload_n hC rfl d_Comp_at_29 ?_
    refine g_get hC fb_Comp_175 g1 rfl d_Comp_at_30 ?_
    refine g_iconst hC d_Comp_at_33 ?_
    refine g_callV1 hC (sp_AL_get (i := 0) t3 (by omega) (mp1 h0)) oc_AL_get ov_AL_get ml_Comp_47 t3.1.choose_spec rfl hR (Nat.le_of_ble_eq_true rfl) (Nat.le_of_ble_eq_true rfl) (Nat.le_of_ble_eq_true rfl) (Nat.le_of_ble_eq_true rfl) (Nat.le_of_ble_eq_true rfl) d_Comp_at_34 (fun r M hp => ?_)
    obtain ⟨rfl, rfl⟩ := hp
    refine g_sv ?_
    refine g_castY hC ck_Frac cl_Comp_51 hF3.1 d_Comp_at_37 ?_
    refine g_get hC fb_Comp_104 hF3.1 rfl d_Comp_at_40 ?_
    refine g_icmp_eq hC (by unfold I32; omega) (by unfold I32; omega) d_Comp_at_43 (fun c2 => ?_) (fun c2 => ?_)
    · exact mid (fun q => q.2 c2)
    · have ha : atF xs cs i = -2 := by unfold atF; rw [if_pos ⟨h0, c2⟩]
      rw [ha, if_neg (by decide), if_neg (by decide)] at hQ
      refine g_bipush hC (by decide) d_Comp_at_46 ?_
      refine g_iret hC hQ (by decide) (by decide) d_Comp_at_48 ⟨rfl, vs, ss, rs, h⟩
theorem st_Comp_at {a b : Int} (htr : l.stackTraces = false) (hcx : CX K M c xs ws wl) (ha : I32 a) (hb : I32 b) (hv : rat ws a = none ∨ vat xs b = none) : St l K m_Comp_at 8 6 708 [.ref c, iv a, iv b] M R_IoE := by
  refine St.ofG R_Comp rfl (by decide) [some (.ref c), some (iv a), some (iv b), none, none, none, none] rfl (Nat.le_of_ble_eq_true rfl) ?_
  intro X hl hK hN hR hC hQ
  subst hl hK
  obtain ⟨vs, ss, rs, h⟩ := hcx
  refine g_aload_n hC rfl d_Comp_at_0 ?_
  refine g_iload_n hC rfl d_Comp_at_1 ?_
  cases hx : rat ws a with
  | none => exact g_callVT hC hQ rfl (st_Comp_rowOf htr h ha (rat_none hx)) oc_Comp_rowOf ov_Comp_rowOf ml_Comp_170 h.o rfl rfl (st := []) rfl hR (by decide) (by decide) (by decide) (by decide) (by decide) d_Comp_at_2
  | some cs =>
    obtain ⟨k, rfl, hk⟩ := rat_some hx
    obtain ⟨r, hr, hro, hrc⟩ := h.rg hk
    refine g_callV1 hC (sp_Comp_rowOf h hr hro.1) oc_Comp_rowOf ov_Comp_rowOf ml_Comp_170 h.o rfl hR (Nat.le_of_ble_eq_true rfl) (Nat.le_of_ble_eq_true rfl) (Nat.le_of_ble_eq_true rfl) (Nat.le_of_ble_eq_true rfl) (Nat.le_of_ble_eq_true rfl) d_Comp_at_2 (fun r M hp => ?_)
    obtain ⟨rfl, rfl⟩ := hp
    refine g_sv ?_
    first | refine g_ast3 hC d_Comp_at_5 rfl (hN 3 rfl) ?_ | (refine g_fg2 ?_; refine g_ast3 hC d_Comp_at_5 rfl (hN 3 rfl) ?_)
    refine g_aload_n hC rfl d_Comp_at_6 ?_
    refine g_iload_n hC rfl d_Comp_at_7 ?_
    have hy : vat xs b = none := by
      rcases hv with q | q
      · rw [hx] at q; cases q
      · exact q
    exact g_callVT hC hQ rfl (st_Comp_of htr h hb (vat_none hy)) oc_Comp_of ov_Comp_of ml_Comp_100 h.o rfl rfl (st := []) rfl hR (by decide) (by decide) (by decide) (by decide) (by decide) d_Comp_at_8
end CAt
