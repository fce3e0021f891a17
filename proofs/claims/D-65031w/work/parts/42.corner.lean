/-! Comp: corner -/
def rat (ws : List (List (Nat × Nat))) (i : Int) : Option (List (Nat × Nat)) := if 0 ≤ i then ws[i.toNat]? else none
theorem rat_some {ws : List (List (Nat × Nat))} {i : Int} {x : List (Nat × Nat)} (h : rat ws i = some x) : ∃ k : Nat, i = k ∧ ws[k]? = some x := by
  unfold rat at h
  by_cases h0 : 0 ≤ i
  · rw [if_pos h0] at h; exact ⟨i.toNat, by omega, h⟩
  · rw [if_neg h0] at h; cases h
theorem rat_none {ws : List (List (Nat × Nat))} {i : Int} (h : rat ws i = none) : i < 0 ∨ (ws.length : Int) ≤ i := by
  unfold rat at h
  by_cases h0 : 0 ≤ i
  · rw [if_pos h0] at h
    have := List.getElem?_eq_none_iff.mp h
    omega
  · omega
def vx (xs : List (Rat × Int)) (i : Nat) : Rat × Int := xs.getD i (0, 0)
theorem vx_of {xs : List (Rat × Int)} {i : Nat} (h : i < xs.length) : xs[i]? = some (vx xs i) := by
  unfold vx
  rw [List.getD_eq_getElem?_getD, List.getElem?_eq_getElem h]; rfl
theorem vx_eq {xs : List (Rat × Int)} {i : Nat} {x : Rat × Int} (h : xs[i]? = some x) : vx xs i = x := by
  unfold vx
  rw [List.getD_eq_getElem?_getD, h]; rfl
def cg (cs : List (Nat × Nat)) (t : Nat) : Nat × Nat := cs.getD t (0, 0)
theorem cg_of {cs : List (Nat × Nat)} {t : Nat} (h : t < cs.length) : cs[t]? = some (cg cs t) := by
  unfold cg
  rw [List.getD_eq_getElem?_getD, List.getElem?_eq_getElem h]; rfl
def crR (xs : List (Rat × Int)) (cs : List (Nat × Nat)) (i j : Nat) : Int := if 0 < cs.length ∧ ((vx xs i).2 ≠ (vx xs (cg cs 0).1).2 ∨ (vx xs j).2 ≠ (vx xs (cg cs 0).2).2) then -2 else if cs.length = 16 then -3 else if 0 < cs.length ∧ czr (vx xs i).1 (vx xs (cg cs (cs.length - 1)).1).1 ≤ 0 then -5 else (cs.length : Int) + 1
section CCs
variable {l : Launch} {K : KC} {M : AH} {c : Nat} {xs : List (Rat × Int)} {ws : List (List (Nat × Nat))} {wl : List Int} {vs ss rs : List Nat}
theorem CI.vg (h : CI K M c vs ss rs xs ws wl) {i : Nat} (hi : i < xs.length) : vs[i]? = some (vs.getD i 0) ∧ opx K M (vs.getD i 0) 100 (vx xs i).1 (vx xs i).2 ∧ c + 24 ≤ vs.getD i 0 := by
  obtain ⟨p, hp, ho, hc⟩ := h.get (vx_of hi)
  have e : vs.getD i 0 = p := by rw [List.getD_eq_getElem?_getD, hp]; rfl
  rw [e]
  exact ⟨hp, ho, hc⟩
theorem MS.cs (hms : MS xs ws wl) {k t : Nat} {cs : List (Nat × Nat)} (hk : ws[k]? = some cs) (ht : t < cs.length) : (cg cs t).1 < xs.length ∧ (cg cs t).2 < xs.length := (hms.2.1.2 cs (List.mem_of_getElem? hk)).2 _ (List.mem_of_getElem? (cg_of ht))
theorem mp1 {cs : List (Nat × Nat)} {t : Nat} (ht : t < cs.length) : (cs.map fun ij => vs.getD ij.1 0)[t]? = some (vs.getD (cg cs t).1 0) := by rw [List.getElem?_map, cg_of ht]; rfl
theorem mp2 {cs : List (Nat × Nat)} {t : Nat} (ht : t < cs.length) : (cs.map fun ij => vs.getD ij.2 0)[t]? = some (vs.getD (cg cs t).2 0) := by rw [List.getElem?_map, cg_of ht]; rfl
theorem MS.vb (hms : MS xs ws wl) {i : Nat} (hi : i < xs.length) : bdq (vx xs i).1 100 100 ∧ -6 ≤ (vx xs i).2 ∧ (vx xs i).2 ≤ 6 := hms.val (vx_of hi)
theorem d_Comp_corner_0 : dn m_Comp_corner.2.1 0 (.aload_n 0) 1 1 := ⟨by decide +kernel, rfl⟩
theorem d_Comp_corner_1 : dn m_Comp_corner.2.1 1 (.iload_n 1) 1 2 := ⟨by decide +kernel, rfl⟩
theorem d_Comp_corner_2 : dn m_Comp_corner.2.1 2 (.invokevirtual 170) 3 5 := ⟨by decide +kernel, rfl⟩
theorem d_Comp_corner_5 : dn m_Comp_corner.2.1 5 (.astore 4) 2 7 := ⟨by decide +kernel, rfl⟩
theorem d_Comp_corner_7 : dn m_Comp_corner.2.1 7 (.aload_n 0) 1 8 := ⟨by decide +kernel, rfl⟩
theorem d_Comp_corner_8 : dn m_Comp_corner.2.1 8 (.iload_n 2) 1 9 := ⟨by decide +kernel, rfl⟩
theorem d_Comp_corner_9 : dn m_Comp_corner.2.1 9 (.invokevirtual 100) 3 12 := ⟨by decide +kernel, rfl⟩
theorem d_Comp_corner_12 : dn m_Comp_corner.2.1 12 (.astore 5) 2 14 := ⟨by decide +kernel, rfl⟩
theorem d_Comp_corner_14 : dn m_Comp_corner.2.1 14 (.aload_n 0) 1 15 := ⟨by decide +kernel, rfl⟩
theorem d_Comp_corner_15 : dn m_Comp_corner.2.1 15 (.iload_n 3) 1 16 := ⟨by decide +kernel, rfl⟩
theorem d_Comp_corner_16 : dn m_Comp_corner.2.1 16 (.invokevirtual 100) 3 19 := ⟨by decide +kernel, rfl⟩
theorem d_Comp_corner_19 : dn m_Comp_corner.2.1 19 (.astore 6) 2 21 := ⟨by decide +kernel, rfl⟩
theorem d_Comp_corner_21 : dn m_Comp_corner.2.1 21 (.aload 4) 2 23 := ⟨by decide +kernel, rfl⟩
theorem d_Comp_corner_23 : dn m_Comp_corner.2.1 23 (.invokevirtual 174) 3 26 := ⟨by decide +kernel, rfl⟩
theorem d_Comp_corner_26 : db m_Comp_corner.2.1 26 (.ifCond .ne) 33 29 := ⟨7, by decide +kernel, by decide, rfl⟩
theorem d_Comp_corner_29 : dn m_Comp_corner.2.1 29 (.iconst 1) 1 30 := ⟨by decide +kernel, rfl⟩
theorem d_Comp_corner_30 : db m_Comp_corner.2.1 30 (.goto) 34 33 := ⟨4, by decide +kernel, by decide, rfl⟩
theorem d_Comp_corner_33 : dn m_Comp_corner.2.1 33 (.iconst 0) 1 34 := ⟨by decide +kernel, rfl⟩
theorem d_Comp_corner_34 : dn m_Comp_corner.2.1 34 (.istore 7) 2 36 := ⟨by decide +kernel, rfl⟩
theorem d_Comp_corner_36 : dn m_Comp_corner.2.1 36 (.iload 7) 2 38 := ⟨by decide +kernel, rfl⟩
theorem d_Comp_corner_38 : db m_Comp_corner.2.1 38 (.ifCond .ne) 90 41 := ⟨52, by decide +kernel, by decide, rfl⟩
theorem d_Comp_corner_41 : dn m_Comp_corner.2.1 41 (.aload 5) 2 43 := ⟨by decide +kernel, rfl⟩
theorem d_Comp_corner_43 : dn m_Comp_corner.2.1 43 (.getfield 104) 3 46 := ⟨by decide +kernel, rfl⟩
theorem d_Comp_corner_46 : dn m_Comp_corner.2.1 46 (.aload 4) 2 48 := ⟨by decide +kernel, rfl⟩
theorem d_Comp_corner_48 : dn m_Comp_corner.2.1 48 (.getfield 175) 3 51 := ⟨by decide +kernel, rfl⟩
theorem d_Comp_corner_51 : dn m_Comp_corner.2.1 51 (.iconst 0) 1 52 := ⟨by decide +kernel, rfl⟩
theorem d_Comp_corner_52 : dn m_Comp_corner.2.1 52 (.invokevirtual 47) 3 55 := ⟨by decide +kernel, rfl⟩
theorem d_Comp_corner_55 : dn m_Comp_corner.2.1 55 (.checkcast 51) 3 58 := ⟨by decide +kernel, rfl⟩
theorem d_Comp_corner_58 : dn m_Comp_corner.2.1 58 (.getfield 104) 3 61 := ⟨by decide +kernel, rfl⟩
theorem d_Comp_corner_61 : db m_Comp_corner.2.1 61 (.if_icmp .ne) 87 64 := ⟨26, by decide +kernel, by decide, rfl⟩
theorem d_Comp_corner_64 : dn m_Comp_corner.2.1 64 (.aload 6) 2 66 := ⟨by decide +kernel, rfl⟩
theorem d_Comp_corner_66 : dn m_Comp_corner.2.1 66 (.getfield 104) 3 69 := ⟨by decide +kernel, rfl⟩
theorem d_Comp_corner_69 : dn m_Comp_corner.2.1 69 (.aload 4) 2 71 := ⟨by decide +kernel, rfl⟩
theorem d_Comp_corner_71 : dn m_Comp_corner.2.1 71 (.getfield 178) 3 74 := ⟨by decide +kernel, rfl⟩
theorem d_Comp_corner_74 : dn m_Comp_corner.2.1 74 (.iconst 0) 1 75 := ⟨by decide +kernel, rfl⟩
theorem d_Comp_corner_75 : dn m_Comp_corner.2.1 75 (.invokevirtual 47) 3 78 := ⟨by decide +kernel, rfl⟩
theorem d_Comp_corner_78 : dn m_Comp_corner.2.1 78 (.checkcast 51) 3 81 := ⟨by decide +kernel, rfl⟩
theorem d_Comp_corner_81 : dn m_Comp_corner.2.1 81 (.getfield 104) 3 84 := ⟨by decide +kernel, rfl⟩
theorem d_Comp_corner_84 : db m_Comp_corner.2.1 84 (.if_icmp .eq) 90 87 := ⟨6, by decide +kernel, by decide, rfl⟩
theorem d_Comp_corner_87 : dn m_Comp_corner.2.1 87 (.bipush (-2)) 2 89 := ⟨by decide +kernel, rfl⟩
theorem d_Comp_corner_89 : dn m_Comp_corner.2.1 89 (.ireturn) 1 90 := ⟨by decide +kernel, rfl⟩
theorem d_Comp_corner_90 : dn m_Comp_corner.2.1 90 (.aload 4) 2 92 := ⟨by decide +kernel, rfl⟩
theorem d_Comp_corner_92 : dn m_Comp_corner.2.1 92 (.invokevirtual 174) 3 95 := ⟨by decide +kernel, rfl⟩
theorem d_Comp_corner_95 : dn m_Comp_corner.2.1 95 (.bipush 16) 2 97 := ⟨by decide +kernel, rfl⟩
theorem d_Comp_corner_97 : db m_Comp_corner.2.1 97 (.if_icmp .ne) 103 100 := ⟨6, by decide +kernel, by decide, rfl⟩
theorem d_Comp_corner_100 : dn m_Comp_corner.2.1 100 (.bipush (-3)) 2 102 := ⟨by decide +kernel, rfl⟩
theorem d_Comp_corner_102 : dn m_Comp_corner.2.1 102 (.ireturn) 1 103 := ⟨by decide +kernel, rfl⟩
theorem d_Comp_corner_103 : dn m_Comp_corner.2.1 103 (.iload 7) 2 105 := ⟨by decide +kernel, rfl⟩
theorem d_Comp_corner_105 : db m_Comp_corner.2.1 105 (.ifCond .ne) 128 108 := ⟨23, by decide +kernel, by decide, rfl⟩
theorem d_Comp_corner_108 : dn m_Comp_corner.2.1 108 (.aload_n 0) 1 109 := ⟨by decide +kernel, rfl⟩
theorem d_Comp_corner_109 : dn m_Comp_corner.2.1 109 (.getfield 29) 3 112 := ⟨by decide +kernel, rfl⟩
theorem d_Comp_corner_112 : dn m_Comp_corner.2.1 112 (.aload 5) 2 114 := ⟨by decide +kernel, rfl⟩
theorem d_Comp_corner_114 : dn m_Comp_corner.2.1 114 (.aload 4) 2 116 := ⟨by decide +kernel, rfl⟩
theorem d_Comp_corner_116 : dn m_Comp_corner.2.1 116 (.invokevirtual 181) 3 119 := ⟨by decide +kernel, rfl⟩
theorem d_Comp_corner_119 : dn m_Comp_corner.2.1 119 (.invokevirtual 124) 3 122 := ⟨by decide +kernel, rfl⟩
theorem d_Comp_corner_122 : db m_Comp_corner.2.1 122 (.ifCond .gt) 128 125 := ⟨6, by decide +kernel, by decide, rfl⟩
theorem d_Comp_corner_125 : dn m_Comp_corner.2.1 125 (.bipush (-5)) 2 127 := ⟨by decide +kernel, rfl⟩
theorem d_Comp_corner_127 : dn m_Comp_corner.2.1 127 (.ireturn) 1 128 := ⟨by decide +kernel, rfl⟩
theorem d_Comp_corner_128 : dn m_Comp_corner.2.1 128 (.aload 4) 2 130 := ⟨by decide +kernel, rfl⟩
theorem d_Comp_corner_130 : dn m_Comp_corner.2.1 130 (.getfield 175) 3 133 := ⟨by decide +kernel, rfl⟩
theorem d_Comp_corner_133 : dn m_Comp_corner.2.1 133 (.aload 5) 2 135 := ⟨by decide +kernel, rfl⟩
theorem d_Comp_corner_135 : dn m_Comp_corner.2.1 135 (.invokevirtual 78) 3 138 := ⟨by decide +kernel, rfl⟩
theorem d_Comp_corner_138 : dn m_Comp_corner.2.1 138 (.pop) 1 139 := ⟨by decide +kernel, rfl⟩
theorem d_Comp_corner_139 : dn m_Comp_corner.2.1 139 (.aload 4) 2 141 := ⟨by decide +kernel, rfl⟩
theorem d_Comp_corner_141 : dn m_Comp_corner.2.1 141 (.getfield 178) 3 144 := ⟨by decide +kernel, rfl⟩
theorem d_Comp_corner_144 : dn m_Comp_corner.2.1 144 (.aload 6) 2 146 := ⟨by decide +kernel, rfl⟩
theorem d_Comp_corner_146 : dn m_Comp_corner.2.1 146 (.invokevirtual 78) 3 149 := ⟨by decide +kernel, rfl⟩
theorem d_Comp_corner_149 : dn m_Comp_corner.2.1 149 (.pop) 1 150 := ⟨by decide +kernel, rfl⟩
theorem d_Comp_corner_150 : dn m_Comp_corner.2.1 150 (.aload 4) 2 152 := ⟨by decide +kernel, rfl⟩
theorem d_Comp_corner_152 : dn m_Comp_corner.2.1 152 (.invokevirtual 174) 3 155 := ⟨by decide +kernel, rfl⟩
theorem d_Comp_corner_155 : dn m_Comp_corner.2.1 155 (.ireturn) 1 156 := ⟨by decide +kernel, rfl⟩
theorem sp_Comp_corner {k i j : Nat} {cs : List (Nat × Nat)} (hcx : CX K M c xs ws wl) (hms : MS xs ws wl) (hk : ws[k]? = some cs) (hi : i < xs.length) (hj : j < xs.length) :
    Sp l K m_Comp_corner 8 6 708 [.ref c, iv k, iv i, iv j] M (fun r M' => r = some (iv (crR xs cs i j)) ∧ CX K M' c xs (if 0 < crR xs cs i j then ws.set k (cs ++ [(i, j)]) else ws) wl) := by
  refine Sp.ofG R_Comp rfl (by decide) [some (.ref c), some (iv k), some (iv i), some (iv j), none, none, none, none] rfl (Nat.le_of_ble_eq_true rfl) ?_
  intro X hl hK hN hR hC hQ
  subst hl hK
  obtain ⟨vs, ss, rs, h⟩ := hcx
  obtain ⟨r, hr, hro, hrc⟩ := h.rg hk
  obtain ⟨hv1, o1, hc1⟩ := h.vg hi
  obtain ⟨hv2, o2, hc2⟩ := h.vg hj
  obtain ⟨bx, ux1, ux2⟩ := hms.vb hi
  obtain ⟨bY, uy1, uy2⟩ := hms.vb hj
  have hcl := (hms.2.1.2 cs (List.mem_of_getElem? hk)).1
  obtain ⟨f1, hf1⟩ := o1.rc
  obtain ⟨f2, hf2⟩ := o2.rc
  refine g_aload_n hC rfl d_Comp_corner_0 ?_
  refine g_iload_n hC rfl d_Comp_corner_1 ?_
  refine g_callV1 hC (sp_Comp_rowOf h hr hro.1) oc_Comp_rowOf ov_Comp_rowOf ml_Comp_170 h.o rfl hR (Nat.le_of_ble_eq_true rfl) (Nat.le_of_ble_eq_true rfl) (Nat.le_of_ble_eq_true rfl) (Nat.le_of_ble_eq_true rfl) (Nat.le_of_ble_eq_true rfl) d_Comp_corner_2 (fun r M hp => ?_)
  obtain ⟨rfl, rfl⟩ := hp
  refine g_sv ?_
  first | refine g_ast4 hC d_Comp_corner_5 rfl (hN 4 rfl) ?_ | (refine g_fg3 ?_; refine g_ast4 hC d_Comp_corner_5 rfl (hN 4 rfl) ?_)
  refine g_aload_n hC rfl d_Comp_corner_7 ?_
  refine g_iload_n hC rfl d_Comp_corner_8 ?_
  refine g_callV1 hC (sp_Comp_of h hv1 hf1) oc_Comp_of ov_Comp_of ml_Comp_100 h.o rfl hR (Nat.le_of_ble_eq_true rfl) (Nat.le_of_ble_eq_true rfl) (Nat.le_of_ble_eq_true rfl) (Nat.le_of_ble_eq_true rfl) (Nat.le_of_ble_eq_true rfl) d_Comp_corner_9 (fun r M hp => ?_)
  obtain ⟨rfl, rfl⟩ := hp
  refine g_sv ?_
  first | refine g_ast5 hC d_Comp_corner_12 rfl (hN 5 rfl) ?_ | (refine g_fg4 ?_; refine g_ast5 hC d_Comp_corner_12 rfl (hN 5 rfl) ?_)
  refine g_aload_n hC rfl d_Comp_corner_14 ?_
  refine g_iload_n hC rfl d_Comp_corner_15 ?_
  refine g_callV1 hC (sp_Comp_of h hv2 hf2) oc_Comp_of ov_Comp_of ml_Comp_100 h.o rfl hR (Nat.le_of_ble_eq_true rfl) (Nat.le_of_ble_eq_true rfl) (Nat.le_of_ble_eq_true rfl) (Nat.le_of_ble_eq_true rfl) (Nat.le_of_ble_eq_true rfl) d_Comp_corner_16 (fun r M hp => ?_)
  obtain ⟨rfl, rfl⟩ := hp
  refine g_sv ?_
  first | refine g_ast6 hC d_Comp_corner_19 rfl (hN 6 rfl) ?_ | (refine g_fg5 ?_; refine g_ast6 hC d_Comp_corner_19 rfl (hN 6 rfl) ?_)
  -- the end: both lists grow
  have fin : ∀ (M1 : AH) (o7 : Option Value), CI X.K M1 c vs ss rs xs ws wl → crR xs cs i j = (cs.length : Int) + 1 → cs.length < 16 → G X 0 0 M1 128 [some (.ref c), some (iv k), some (iv i), some (iv j), some (.ref r), some (.ref (vs.getD i 0)), some (.ref (vs.getD j 0)), o7] [] := by
    intro M1 o7 h1 hcr hc16
    rw [if_pos (show 0 < crR xs cs i j by omega), hcr] at hQ
    refine g_hlt (fun hlt1 => ?_)
    obtain ⟨r0, hr0, hro1, _⟩ := h1.rg hk
    cases hr.symm.trans hr0
    clear hr0
    obtain ⟨g1, ⟨e1, cap1, a1, a2, a3⟩, lh⟩ := hro1
    obtain ⟨_, p1, _⟩ := h1.vg hi
    obtain ⟨_, p2, _⟩ := h1.vg hj
    have hkE := hlt1 _ _ h1.2.2.2.2.2.2.2.2.1
    have hrm : r ∈ rs := List.mem_of_getElem? hr
    have lr1 : Ls c rs (r + 1) := Or.inr (Or.inr (Or.inr ⟨r, hrm, Or.inl rfl⟩))
    have lr2 : Ls c rs (r + 2) := Or.inr (Or.inr (Or.inr ⟨r, hrm, Or.inr rfl⟩))
    have elm : ∀ (f : Nat × Nat → Nat), (∀ ij ∈ cs, f ij < xs.length) → ∀ y ∈ (cs.map fun ij => vs.getD (f ij) 0), ∃ fs, M1.1 y = some (oO 1 fs) := by
      intro f hf y hy
      obtain ⟨ij, hij, rfl⟩ := List.mem_map.mp hy
      exact (h1.vg (hf ij hij)).2.1.rc
    have hin := (hms.2.1.2 cs (List.mem_of_getElem? hk)).2
    have el1 := elm (fun ij => ij.1) (fun ij hij => (hin ij hij).1)
    have el2 := elm (fun ij => ij.2) (fun ij hij => (hin ij hij).2)
    have hml : (cs.map fun ij => vs.getD ij.1 0).length = cs.length := List.length_map _
    have hml2 : (cs.map fun ij => vs.getD ij.2 0).length = cs.length := List.length_map _
    -- an object of class 1 is no list
    have nl : ∀ (y a : Nat) (fs fs' : List Value), M1.1 y = some (oO 1 fs) → M1.1 a = some (oO 6 fs') → y ≠ a := by
      intro y a fs fs' q1 q2 q
      subst q
      rw [q1] at q2
      simp at q2
    obtain ⟨mc1, b1⟩ := a3.1
    refine g_aload hC rfl d_Comp_corner_128 ?_
    refine g_get hC fb_Comp_175 g1 rfl d_Comp_corner_130 ?_
    refine g_aload hC rfl d_Comp_corner_133 ?_
    refine g_callV1 hC (sp_AL_add a3 (by rw [hml]; omega) a1 ck_Frac ca_Frac_Obj (fun y hy => ⟨nl y _ _ _ (el1 y hy).choose_spec b1, el1 y hy⟩) hkE p1.rc.choose_spec (nl _ _ _ _ p1.rc.choose_spec b1)) oc_AL_add ov_AL_add ml_Comp_78 b1 rfl hR (Nat.le_of_ble_eq_true rfl) (Nat.le_of_ble_eq_true rfl) (Nat.le_of_ble_eq_true rfl) (Nat.le_of_ble_eq_true rfl) (Nat.le_of_ble_eq_true rfl) d_Comp_corner_135 (fun r M2 hp => ?_)
    obtain ⟨rfl, e', c2, w1, w2, w3, w4⟩ := hp
    refine g_sv ?_
    refine g_hlt (fun hlt2 => ?_)
    have hkp := frA.kp a3 hlt1 w4
    have hls := fun b hb => h1.lsL (b := b) hb
    have hG1 := h1.2.2.2.2.2.2.2.1
    have oth := fun {b : Nat} {els : List Nat} (hb : lst X.K M1 c b els) (hbl : Ls c rs b) (hne : b ≠ r + 1) => hb.fr a3 hG1 lr1 hbl hne hlt1 w4
    have hcm : c + 24 ≤ M1.2 := by have := hlt1 _ _ g1; omega
    have lp1 : lst X.K M2 c (r + 1) ((cs ++ [(i, j)]).map fun ij => vs.getD ij.1 0) := ⟨e', c2, w1, by rcases w3 with ⟨q, _⟩ | ⟨q, _⟩ <;> omega, by rw [List.map_append]; exact w2⟩
    have lh2 := oth lh lr2 (by omega)
    have hG2 := hG1.upd hls a3 w2 lr1 (by rcases w3 with ⟨q, _⟩ | ⟨q, _⟩ <;> omega) hlt1 w4
    have hls2 : ∀ b, Ls c rs b → ∃ els, lst X.K M2 c b els := by
      intro b hb
      by_cases q : b = r + 1
      · subst q; exact ⟨_, lp1⟩
      · obtain ⟨els, hb2⟩ := hls b hb
        exact ⟨els, oth hb2 hb q⟩
    have hE2 : M2.1 (kE X.K) = some (oR X.K 0 (fun _ => none)) := (w4 _ hkE (fun q => by have := h1.2.2.2.2.2.2.2.2.2; omega) (fun q => by
      rcases Nat.eq_zero_or_pos cap1 with h0 | h0
      · exact h0
      · exact absurd q.symm (a3.2.2.2.2 h0))).trans h1.2.2.2.2.2.2.2.2.1
    have hkE2 := hlt2 _ _ hE2
    have g2 := hkp.o g1 (by decide)
    obtain ⟨e3, cap3, d1, d2, d3⟩ := lh2
    obtain ⟨mc3, b3⟩ := d3.1
    have nl2 : ∀ (y a : Nat) (fs fs' : List Value), M2.1 y = some (oO 1 fs) → M2.1 a = some (oO 6 fs') → y ≠ a := by
      intro y a fs fs' q1 q2 q
      subst q
      rw [q1] at q2
      simp at q2
    have el3 : ∀ y ∈ (cs.map fun ij => vs.getD ij.2 0), ∃ fs, M2.1 y = some (oO 1 fs) := fun y hy => ⟨_, hkp.o (el2 y hy).choose_spec (by decide)⟩
    have p2' := p2.kp hkp
    refine g_pop hC rfl d_Comp_corner_138 ?_
    refine g_aload hC rfl d_Comp_corner_139 ?_
    refine g_get hC fb_Comp_178 g2 rfl d_Comp_corner_141 ?_
    refine g_aload hC rfl d_Comp_corner_144 ?_
    refine g_callV1 hC (sp_AL_add d3 (by rw [hml2]; omega) d1 ck_Frac ca_Frac_Obj (fun y hy => ⟨nl2 y _ _ _ (el3 y hy).choose_spec b3, el3 y hy⟩) hkE2 p2'.rc.choose_spec (nl2 _ _ _ _ p2'.rc.choose_spec b3)) oc_AL_add ov_AL_add ml_Comp_78 b3 rfl hR (Nat.le_of_ble_eq_true rfl) (Nat.le_of_ble_eq_true rfl) (Nat.le_of_ble_eq_true rfl) (Nat.le_of_ble_eq_true rfl) (Nat.le_of_ble_eq_true rfl) d_Comp_corner_146 (fun r M3 hp => ?_)
    obtain ⟨rfl, e4, c4, x1, x2, x3, x4⟩ := hp
    refine g_sv ?_
    have hkp2 := frA.kp d3 hlt2 x4
    have oth2 := fun {b : Nat} {els : List Nat} (hb : lst X.K M2 c b els) (hbl : Ls c rs b) (hne : b ≠ r + 2) => hb.fr d3 hG2 lr2 hbl hne hlt2 x4
    have lp3 := oth2 lp1 lr1 (by omega)
    have lh3 : lst X.K M3 c (r + 2) ((cs ++ [(i, j)]).map fun ij => vs.getD ij.2 0) := ⟨e4, c4, x1, by have := hlt1 _ _ g1; rcases x3 with ⟨q, _⟩ | ⟨q, _⟩ <;> rcases w3 with ⟨_, q'⟩ | ⟨_, q'⟩ <;> omega, by rw [List.map_append]; exact x2⟩
    have hG3 := hG2.upd hls2 d3 x2 lr2 (by rcases x3 with ⟨q, _⟩ | ⟨q, _⟩ <;> omega) hlt2 x4
    have g3 := hkp2.o g2 (by decide)
    have hrok : rowok X.K M3 c vs r (cs ++ [(i, j)]) := ⟨g3, lp3, lh3⟩
    have h3 : CI X.K M3 c vs ss rs xs (ws.set k (cs ++ [(i, j)])) wl := by
      obtain ⟨⟨j1, wf, j2, j2'⟩, j3, ⟨j4, j5, j6⟩, ⟨j7, j8⟩, j9, ⟨j10, j11⟩, ⟨n1, n2, n3, n4, n5⟩, j13, j14, j15⟩ := h1
      have tw := fun {b : Nat} {els : List Nat} (hb : lst X.K M1 c b els) (hbl : Ls c rs b) (hne : b ≠ r + 1) (hne2 : b ≠ r + 2) => oth2 (oth hb hbl hne) hbl hne2
      refine ⟨⟨hkp2.o (hkp.o j1 (by decide)) (by decide), wf, hkp2.i (hkp.i j2), j2'⟩, ⟨(j3.1.kp hkp).kp hkp2, (j3.2.kp hkp).kp hkp2⟩, ⟨tw j4 (Or.inl rfl) (by omega) (by omega), tw j5 (Or.inr (Or.inl rfl)) (by omega) (by omega), tw j6 (Or.inr (Or.inr (Or.inl rfl))) (by omega) (by omega)⟩, ⟨j7, fun i p x hp hx => ((j8 i p x hp hx).kp hkp).kp hkp2⟩, fun p hp => ((j9 p hp).kp hkp).kp hkp2, ⟨by rw [List.length_set]; exact j10, fun k' r' cs' hr' hc' => ?_⟩, ⟨n1, n2, n3, n4, n5⟩, hG3, ?_, j15⟩
      · by_cases q : k' = k
        · subst q
          cases hr.symm.trans hr'
          have hkl : k' < ws.length := (List.getElem?_eq_some_iff.mp hk).1
          rw [List.getElem?_set_self hkl] at hc'
          cases hc'
          exact hrok
        · rw [List.getElem?_set_ne (Ne.symm q)] at hc'
          obtain ⟨r1, r2, r3⟩ := j11 k' r' cs' hr' hc'
          have hrm' : r' ∈ rs := List.mem_of_getElem? hr'
          have hne : r' ≠ r := by
            intro z
            subst z
            have h5 := (List.getElem?_eq_some_iff.mp hr').1
            exact q ((List.getElem_inj (h₀ := h5) (h₁ := (List.getElem?_eq_some_iff.mp hr).1) n4).mp ((List.getElem?_eq_some_iff.mp hr').2.trans (List.getElem?_eq_some_iff.mp hr).2.symm))
          obtain ⟨mcp, bp⟩ := a3.1
          obtain ⟨eh, caph, _, _, ⟨mch, bh⟩, _⟩ := lh
          have hn1 : r' ≠ r + 1 := fun z => by subst z; rw [r1] at bp; simp at bp
          have hn2 : r' ≠ r + 2 := fun z => by subst z; rw [r1] at bh; simp at bh
          have hn3 : r' + 1 ≠ r := fun z => by
            obtain ⟨_, _, _, _, ⟨m', b'⟩, _⟩ := r2
            rw [z, g1] at b'; simp at b'
          exact ⟨hkp2.o (hkp.o r1 (by decide)) (by decide), tw r2 (Or.inr (Or.inr (Or.inr ⟨r', hrm', Or.inl rfl⟩))) (by omega) (by omega), tw r3 (Or.inr (Or.inr (Or.inr ⟨r', hrm', Or.inr rfl⟩))) (by omega) (by omega)⟩
      · exact (x4 _ hkE2 (by omega) (fun q => by
          rcases Nat.eq_zero_or_pos cap3 with h0 | h0
          · exact h0
          · exact absurd q.symm (d3.2.2.2.2 h0))).trans hE2
    refine g_pop hC rfl d_Comp_corner_149 ?_
    refine g_aload hC rfl d_Comp_corner_150 ?_
    refine g_callV0 hC (sp_Row_size hrok) oc_Row_size ov_Row_size ml_Comp_174 g3 rfl hR (Nat.le_of_ble_eq_true rfl) (Nat.le_of_ble_eq_true rfl) (Nat.le_of_ble_eq_true rfl) (Nat.le_of_ble_eq_true rfl) (Nat.le_of_ble_eq_true rfl) d_Comp_corner_152 (fun r M3 hp => ?_)
    obtain ⟨rfl, rfl⟩ := hp
    refine g_sv ?_
    rw [show ((cs ++ [(i, j)]).length : Int) = (cs.length : Int) + 1 by rw [List.length_append]; rfl]
    refine g_iret hC hQ (by decide) (by decide) d_Comp_corner_155 ⟨rfl, vs, ss, rs, h3⟩
  -- from the test of the size on
  have mid : ∀ (b : Bool), b = decide (cs.length = 0) → ¬ (0 < cs.length ∧ ((vx xs i).2 ≠ (vx xs (cg cs 0).1).2 ∨ (vx xs j).2 ≠ (vx xs (cg cs 0).2).2)) → G X 0 0 M 90 [some (.ref c), some (iv k), some (iv i), some (iv j), some (.ref r), some (.ref (vs.getD i 0)), some (.ref (vs.getD j 0)), some (iv (bz b))] [] := by
    intro b hb hun
    refine g_aload hC rfl d_Comp_corner_90 ?_
    refine g_callV0 hC (sp_Row_size hro) oc_Row_size ov_Row_size ml_Comp_174 hro.1 rfl hR (Nat.le_of_ble_eq_true rfl) (Nat.le_of_ble_eq_true rfl) (Nat.le_of_ble_eq_true rfl) (Nat.le_of_ble_eq_true rfl) (Nat.le_of_ble_eq_true rfl) d_Comp_corner_92 (fun r M hp => ?_)
    obtain ⟨rfl, rfl⟩ := hp
    refine g_sv ?_
    refine g_bipush hC (by decide) d_Comp_corner_95 ?_
    refine g_icmp_ne hC (by unfold I32; omega) (by unfold I32; omega) d_Comp_corner_97 (fun c1 => ?_) (fun c1 => ?_)
    · refine g_iload hC rfl d_Comp_corner_103 ?_
      refine g_if_ne hC (bz_I _) d_Comp_corner_105 (fun c2 => ?_) (fun c2 => ?_)
      · have h0 : cs.length = 0 := by
          cases b with
          | true => exact of_decide_eq_true hb.symm
          | false => exact absurd bz_f c2
        exact fin M _ h (by unfold crR; rw [if_neg hun, if_neg (by omega), if_neg (by omega)]) (by omega)
      · have h0 : 0 < cs.length := by
          cases b with
          | true => rw [bz_t] at c2; omega
          | false => have := of_decide_eq_false hb.symm; omega
        have hlt := hms.cs hk (t := cs.length - 1) (by omega)
        obtain ⟨hvl, ol, hcl2⟩ := h.vg hlt.1
        obtain ⟨bl, _, _⟩ := hms.vb hlt.1
        obtain ⟨fl, hfl⟩ := ol.rc
        have hD := h.d
        obtain ⟨mi, un, hDK⟩ := hD
        refine g_aload_n hC rfl d_Comp_corner_108 ?_
        refine g_get hC fb_Comp_29 h.o rfl d_Comp_corner_109 ?_
        refine g_aload hC rfl d_Comp_corner_112 ?_
        refine g_aload hC rfl d_Comp_corner_114 ?_
        refine g_callV0 hC (sp_Row_lastPlace hro h0 (mp1 (by omega)) hfl) oc_Row_lastPlace ov_Row_lastPlace ml_Comp_181 hro.1 rfl hR (Nat.le_of_ble_eq_true rfl) (Nat.le_of_ble_eq_true rfl) (Nat.le_of_ble_eq_true rfl) (Nat.le_of_ble_eq_true rfl) (Nat.le_of_ble_eq_true rfl) d_Comp_corner_116 (fun r M hp => ?_)
        obtain ⟨rfl, rfl⟩ := hp
        refine g_sv ?_
        refine g_callV2 hC (sp_Desk_against hDK o1 ol (by omega) (by omega) (by decide) (by decide) bx bl (by decide) (by decide)) oc_Desk_against ov_Desk_against ml_Comp_124 hDK.o rfl hR (Nat.le_of_ble_eq_true rfl) (Nat.le_of_ble_eq_true rfl) (Nat.le_of_ble_eq_true rfl) (Nat.le_of_ble_eq_true rfl) (Nat.le_of_ble_eq_true rfl) d_Comp_corner_119 (fun r M1 hp => ?_)
        obtain ⟨rfl, D1, f1⟩ := hp
        refine g_sv ?_
        have h1 := h.md f1 ⟨_, _, D1⟩
        refine g_if_gt hC (czr_I _ _) d_Comp_corner_122 (fun c3 => ?_) (fun c3 => ?_)
        · exact fin M1 _ h1 (by unfold crR; rw [if_neg hun, if_neg (by omega), if_neg (by omega)]) (by omega)
        · have hcr : crR xs cs i j = -5 := by unfold crR; rw [if_neg hun, if_neg (by omega), if_pos ⟨h0, by omega⟩]
          rw [hcr, if_neg (by decide)] at hQ
          refine g_bipush hC (by decide) d_Comp_corner_125 ?_
          refine g_iret hC hQ (by decide) (by decide) d_Comp_corner_127 ⟨rfl, vs, ss, rs, h1⟩
    · have hcr : crR xs cs i j = -3 := by unfold crR; rw [if_neg hun, if_pos (by omega)]
      rw [hcr, if_neg (by decide)] at hQ
      refine g_bipush hC (by decide) d_Comp_corner_100 ?_
      refine g_iret hC hQ (by decide) (by decide) d_Comp_corner_102 ⟨rfl, vs, ss, rs, h⟩
  have bad : (0 < cs.length ∧ ((vx xs i).2 ≠ (vx xs (cg cs 0).1).2 ∨ (vx xs j).2 ≠ (vx xs (cg cs 0).2).2)) → ∀ LL, G X 0 0 M 87 LL [] := by
    intro hb LL
    have hcr : crR xs cs i j = -2 := by unfold crR; rw [if_pos hb]
    rw [hcr, if_neg (by decide)] at hQ
    refine g_bipush hC (by decide) d_Comp_corner_87 ?_
    refine g_iret hC hQ (by decide) (by decide) d_Comp_corner_89 ⟨rfl, vs, ss, rs, h⟩
  have J : ∀ (b : Bool) (z : Int), b = decide (cs.length = 0) → z = bz b → G X 0 0 M 34 [some (.ref c), some (iv k), some (iv i), some (iv j), some (.ref r), some (.ref (vs.getD i 0)), some (.ref (vs.getD j 0)), none] [iv z] := by
    intro b z hb hz
    subst hz
    first | refine g_ist7 hC d_Comp_corner_34 rfl (hN 7 rfl) ?_ | (refine g_fg6 ?_; refine g_ist7 hC d_Comp_corner_34 rfl (hN 7 rfl) ?_)
    refine g_iload hC rfl d_Comp_corner_36 ?_
    refine g_if_ne hC (bz_I _) d_Comp_corner_38 (fun c1 => ?_) (fun c1 => ?_)
    · refine mid b hb (fun q => ?_)
      cases b with
      | true => have := of_decide_eq_true hb.symm; omega
      | false => exact absurd bz_f c1
    · have h0 : 0 < cs.length := by
        cases b with
        | true => rw [bz_t] at c1; omega
        | false => have := of_decide_eq_false hb.symm; omega
      have hl0 := hms.cs hk (t := 0) h0
      obtain ⟨_, po, _⟩ := h.vg hl0.1
      obtain ⟨_, ho, _⟩ := h.vg hl0.2
      obtain ⟨_, up1, up2⟩ := hms.vb hl0.1
      obtain ⟨_, uh1, uh2⟩ := hms.vb hl0.2
      obtain ⟨mi1, a1, b1, hF1, _⟩ := o1
      obtain ⟨mi2, a2, b2, hF2, _⟩ := o2
      obtain ⟨mi3, a3, b3, hF3, _⟩ := po
      obtain ⟨mi4, a4, b4, hF4, _⟩ := ho
      obtain ⟨g1, ⟨e1, cap1, t1, t2, t3⟩, ⟨e2, cap2, t4, t5, t6⟩⟩ := hro
      refine g_aload hC rfl d_Comp_corner_41 ?_
      refine g_get hC fb_Comp_104 hF1.1 rfl d_Comp_corner_43 ?_
      refine g_aload hC rfl d_Comp_corner_46 ?_
      refine g_get hC fb_Comp_175 g1 rfl d_Comp_corner_48 ?_
      refine g_iconst hC d_Comp_corner_51 ?_
      refine g_callV1 hC (sp_AL_get (i := 0) t3 (by omega) (mp1 h0)) oc_AL_get ov_AL_get ml_Comp_47 t3.1.choose_spec rfl hR (Nat.le_of_ble_eq_true rfl) (Nat.le_of_ble_eq_true rfl) (Nat.le_of_ble_eq_true rfl) (Nat.le_of_ble_eq_true rfl) (Nat.le_of_ble_eq_true rfl) d_Comp_corner_52 (fun r M hp => ?_)
      obtain ⟨rfl, rfl⟩ := hp
      refine g_sv ?_
      refine g_castY hC ck_Frac cl_Comp_51 hF3.1 d_Comp_corner_55 ?_
      refine g_get hC fb_Comp_104 hF3.1 rfl d_Comp_corner_58 ?_
      refine g_icmp_ne hC (by unfold I32; omega) (by unfold I32; omega) d_Comp_corner_61 (fun c2 => ?_) (fun c2 => ?_)
      · exact bad ⟨h0, Or.inl c2⟩ _
      · refine g_aload hC rfl d_Comp_corner_64 ?_
        refine g_get hC fb_Comp_104 hF2.1 rfl d_Comp_corner_66 ?_
        refine g_aload hC rfl d_Comp_corner_69 ?_
        refine g_get hC fb_Comp_178 g1 rfl d_Comp_corner_71 ?_
        refine g_iconst hC d_Comp_corner_74 ?_
        refine g_callV1 hC (sp_AL_get (i := 0) t6 (by omega) (mp2 h0)) oc_AL_get ov_AL_get ml_Comp_47 t6.1.choose_spec rfl hR (Nat.le_of_ble_eq_true rfl) (Nat.le_of_ble_eq_true rfl) (Nat.le_of_ble_eq_true rfl) (Nat.le_of_ble_eq_true rfl) (Nat.le_of_ble_eq_true rfl) d_Comp_corner_75 (fun r M hp => ?_)
        obtain ⟨rfl, rfl⟩ := hp
        refine g_sv ?_
        refine g_castY hC ck_Frac cl_Comp_51 hF4.1 d_Comp_corner_78 ?_
        refine g_get hC fb_Comp_104 hF4.1 rfl d_Comp_corner_81 ?_
        refine g_icmp_eq hC (by unfold I32; omega) (by unfold I32; omega) d_Comp_corner_84 (fun c3 => ?_) (fun c3 => ?_)
        · exact mid b hb (fun q => by rcases q.2 with q | q <;> exact q (by assumption))
        · exact bad ⟨h0, Or.inr c3⟩ _
  refine g_aload hC rfl d_Comp_corner_21 ?_
  refine g_callV0 hC (sp_Row_size hro) oc_Row_size ov_Row_size ml_Comp_174 hro.1 rfl hR (Nat.le_of_ble_eq_true rfl) (Nat.le_of_ble_eq_true rfl) (Nat.le_of_ble_eq_true rfl) (Nat.le_of_ble_eq_true rfl) (Nat.le_of_ble_eq_true rfl) d_Comp_corner_23 (fun r M hp => ?_)
  obtain ⟨rfl, rfl⟩ := hp
  refine g_sv ?_
  refine g_if_ne hC (by unfold I32; omega) d_Comp_corner_26 (fun c1 => ?_) (fun c1 => ?_)
  · refine g_iconst hC d_Comp_corner_33 ?_
    exact J false 0 (by rw [decide_eq_false (by omega)]) rfl
  · refine g_iconst hC d_Comp_corner_29 ?_
    refine g_goto hC d_Comp_corner_30 ?_
    exact J true 1 (by rw [decide_eq_true (by omega)]) rfl
theorem st_Comp_corner {a b d : Int} (htr : l.stackTraces = false) (hcx : CX K M c xs ws wl) (ha : I32 a) (hb : I32 b) (hd : I32 d) (hv : rat ws a = none ∨ vat xs b = none ∨ vat xs d = none) : St l K m_Comp_corner 8 6 708 [.ref c, iv a, iv b, iv d] M R_IoE := by
  refine St.ofG R_Comp rfl (by decide) [some (.ref c), some (iv a), some (iv b), some (iv d), none, none, none, none] rfl (Nat.le_of_ble_eq_true rfl) ?_
  intro X hl hK hN hR hC hQ
  subst hl hK
  obtain ⟨vs, ss, rs, h⟩ := hcx
  refine g_aload_n hC rfl d_Comp_corner_0 ?_
  refine g_iload_n hC rfl d_Comp_corner_1 ?_
  cases hx : rat ws a with
  | none => exact g_callVT hC hQ rfl (st_Comp_rowOf htr h ha (rat_none hx)) oc_Comp_rowOf ov_Comp_rowOf ml_Comp_170 h.o rfl rfl (st := []) rfl hR (by decide) (by decide) (by decide) (by decide) (by decide) d_Comp_corner_2
  | some cs =>
    obtain ⟨k, rfl, hk⟩ := rat_some hx
    obtain ⟨r, hr, hro, hrc⟩ := h.rg hk
    refine g_callV1 hC (sp_Comp_rowOf h hr hro.1) oc_Comp_rowOf ov_Comp_rowOf ml_Comp_170 h.o rfl hR (Nat.le_of_ble_eq_true rfl) (Nat.le_of_ble_eq_true rfl) (Nat.le_of_ble_eq_true rfl) (Nat.le_of_ble_eq_true rfl) (Nat.le_of_ble_eq_true rfl) d_Comp_corner_2 (fun r M hp => ?_)
    obtain ⟨rfl, rfl⟩ := hp
    refine g_sv ?_
    first | refine g_ast4 hC d_Comp_corner_5 rfl (hN 4 rfl) ?_ | (refine g_fg3 ?_; refine g_ast4 hC d_Comp_corner_5 rfl (hN 4 rfl) ?_)
    refine g_aload_n hC rfl d_Comp_corner_7 ?_
    refine g_iload_n hC rfl d_Comp_corner_8 ?_
    cases hy : vat xs b with
    | none => exact g_callVT hC hQ rfl (st_Comp_of htr h hb (vat_none hy)) oc_Comp_of ov_Comp_of ml_Comp_100 h.o rfl rfl (st := []) rfl hR (by decide) (by decide) (by decide) (by decide) (by decide) d_Comp_corner_9
    | some y =>
      obtain ⟨k2, p2, mi2, a2, b2, rfl, hk2, hv2, hc2, hF2, q2⟩ := h.at hy
      refine g_callV1 hC (sp_Comp_of h hv2 hF2.1) oc_Comp_of ov_Comp_of ml_Comp_100 h.o rfl hR (Nat.le_of_ble_eq_true rfl) (Nat.le_of_ble_eq_true rfl) (Nat.le_of_ble_eq_true rfl) (Nat.le_of_ble_eq_true rfl) (Nat.le_of_ble_eq_true rfl) d_Comp_corner_9 (fun r M hp => ?_)
      obtain ⟨rfl, rfl⟩ := hp
      refine g_sv ?_
      first | refine g_ast5 hC d_Comp_corner_12 rfl (hN 5 rfl) ?_ | (refine g_fg4 ?_; refine g_ast5 hC d_Comp_corner_12 rfl (hN 5 rfl) ?_)
      refine g_aload_n hC rfl d_Comp_corner_14 ?_
      refine g_iload_n hC rfl d_Comp_corner_15 ?_
      have hz : vat xs d = none := by
        rcases hv with q | q | q
        · rw [hx] at q; cases q
        · rw [hy] at q; cases q
        · exact q
      exact g_callVT hC hQ rfl (st_Comp_of htr h hd (vat_none hz)) oc_Comp_of ov_Comp_of ml_Comp_100 h.o rfl rfl (st := []) rfl hR (by decide) (by decide) (by decide) (by decide) (by decide) d_Comp_corner_16
end CCs
