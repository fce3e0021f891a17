/-! Math, Integer: contracts -/
def cz (a b : Int) : Int := if a < b then -1 else if a = b then 0 else 1
theorem cz_lt {a b : Int} (h : a < b) : cz a b = -1 := if_pos h
theorem cz_eq {a b : Int} (h : a = b) : cz a b = 0 := by unfold cz; rw [if_neg (by omega), if_pos h]
theorem cz_gt {a b : Int} (h : b < a) : cz a b = 1 := by unfold cz; rw [if_neg (by omega), if_neg (by omega)]
theorem cz_in (a b : Int) : cz a b = -1 ∨ cz a b = 0 ∨ cz a b = 1 := by unfold cz; split <;> (try split) <;> simp
theorem d_Math_max_0 : dn m_Math_max.2.1 0 (.iload_n 0) 1 1 := ⟨by decide +kernel, rfl⟩
theorem d_Math_max_1 : dn m_Math_max.2.1 1 (.iload_n 1) 1 2 := ⟨by decide +kernel, rfl⟩
theorem d_Math_max_2 : db m_Math_max.2.1 2 (.if_icmp .lt) 9 5 := ⟨7, by decide +kernel, by decide, rfl⟩
theorem d_Math_max_5 : dn m_Math_max.2.1 5 (.iload_n 0) 1 6 := ⟨by decide +kernel, rfl⟩
theorem d_Math_max_6 : db m_Math_max.2.1 6 (.goto) 10 9 := ⟨4, by decide +kernel, by decide, rfl⟩
theorem d_Math_max_9 : dn m_Math_max.2.1 9 (.iload_n 1) 1 10 := ⟨by decide +kernel, rfl⟩
theorem d_Math_max_10 : dn m_Math_max.2.1 10 (.ireturn) 1 11 := ⟨by decide +kernel, rfl⟩
theorem sp_max {l : Launch} {K : KC} {M : AH} {a b : Int} (ha : I32 a) (hb : I32 b) : Sp l K m_Math_max 0 0 0 [iv a, iv b] M (fun r M' => r = some (iv (max a b)) ∧ M' = M) := by
  refine Sp.ofGF R_Math rfl (by decide +kernel) [some (iv a), some (iv b)] rfl (Nat.le_of_ble_eq_true rfl) ?_
  intro X hl hK hN hR hC hQ
  subst hl hK
  refine g_iload_n hC rfl d_Math_max_0 ?_
  refine g_iload_n hC rfl d_Math_max_1 ?_
  refine g_icmp_lt hC ha hb d_Math_max_2 (fun c => ?_) (fun c => ?_)
  · refine g_iload_n hC rfl d_Math_max_9 ?_
    refine g_iret hC hQ (by decide) (by decide) d_Math_max_10 ⟨by rw [show max a b = b by omega], rfl⟩
  · refine g_iload_n hC rfl d_Math_max_5 ?_
    refine g_goto hC d_Math_max_6 ?_
    refine g_iret hC hQ (by decide) (by decide) d_Math_max_10 ⟨by rw [show max a b = a by omega], rfl⟩
theorem d_Math_min_0 : dn m_Math_min.2.1 0 (.iload_n 0) 1 1 := ⟨by decide +kernel, rfl⟩
theorem d_Math_min_1 : dn m_Math_min.2.1 1 (.iload_n 1) 1 2 := ⟨by decide +kernel, rfl⟩
theorem d_Math_min_2 : db m_Math_min.2.1 2 (.if_icmp .gt) 9 5 := ⟨7, by decide +kernel, by decide, rfl⟩
theorem d_Math_min_5 : dn m_Math_min.2.1 5 (.iload_n 0) 1 6 := ⟨by decide +kernel, rfl⟩
theorem d_Math_min_6 : db m_Math_min.2.1 6 (.goto) 10 9 := ⟨4, by decide +kernel, by decide, rfl⟩
theorem d_Math_min_9 : dn m_Math_min.2.1 9 (.iload_n 1) 1 10 := ⟨by decide +kernel, rfl⟩
theorem d_Math_min_10 : dn m_Math_min.2.1 10 (.ireturn) 1 11 := ⟨by decide +kernel, rfl⟩
theorem sp_min {l : Launch} {K : KC} {M : AH} {a b : Int} (ha : I32 a) (hb : I32 b) : Sp l K m_Math_min 0 0 0 [iv a, iv b] M (fun r M' => r = some (iv (min a b)) ∧ M' = M) := by
  refine Sp.ofGF R_Math rfl (by decide +kernel) [some (iv a), some (iv b)] rfl (Nat.le_of_ble_eq_true rfl) ?_
  intro X hl hK hN hR hC hQ
  subst hl hK
  refine g_iload_n hC rfl d_Math_min_0 ?_
  refine g_iload_n hC rfl d_Math_min_1 ?_
  refine g_icmp_gt hC ha hb d_Math_min_2 (fun c => ?_) (fun c => ?_)
  · refine g_iload_n hC rfl d_Math_min_9 ?_
    refine g_iret hC hQ (by decide) (by decide) d_Math_min_10 ⟨by rw [show min a b = b by omega], rfl⟩
  · refine g_iload_n hC rfl d_Math_min_5 ?_
    refine g_goto hC d_Math_min_6 ?_
    refine g_iret hC hQ (by decide) (by decide) d_Math_min_10 ⟨by rw [show min a b = a by omega], rfl⟩
theorem d_Math_minJ_0 : dn m_Math_minJ.2.1 0 (.lload_n 0) 1 1 := ⟨by decide +kernel, rfl⟩
theorem d_Math_minJ_1 : dn m_Math_minJ.2.1 1 (.lload_n 2) 1 2 := ⟨by decide +kernel, rfl⟩
theorem d_Math_minJ_2 : dn m_Math_minJ.2.1 2 (.lcmp) 1 3 := ⟨by decide +kernel, rfl⟩
theorem d_Math_minJ_3 : db m_Math_minJ.2.1 3 (.ifCond .gt) 10 6 := ⟨7, by decide +kernel, by decide, rfl⟩
theorem d_Math_minJ_6 : dn m_Math_minJ.2.1 6 (.lload_n 0) 1 7 := ⟨by decide +kernel, rfl⟩
theorem d_Math_minJ_7 : db m_Math_minJ.2.1 7 (.goto) 11 10 := ⟨4, by decide +kernel, by decide, rfl⟩
theorem d_Math_minJ_10 : dn m_Math_minJ.2.1 10 (.lload_n 2) 1 11 := ⟨by decide +kernel, rfl⟩
theorem d_Math_minJ_11 : dn m_Math_minJ.2.1 11 (.lreturn) 1 12 := ⟨by decide +kernel, rfl⟩
theorem sp_minJ {l : Launch} {K : KC} {M : AH} {a b : Int} (ha : I64 a) (hb : I64 b) : Sp l K m_Math_minJ 0 0 0 [jv a, jv b] M (fun r M' => r = some (jv (min a b)) ∧ M' = M) := by
  refine Sp.ofGF R_Math rfl (by decide +kernel) [some (jv a), none, some (jv b), none] rfl (Nat.le_of_ble_eq_true rfl) ?_
  intro X hl hK hN hR hC hQ
  subst hl hK
  refine g_lload_n hC rfl d_Math_minJ_0 ?_
  refine g_lload_n hC rfl d_Math_minJ_1 ?_
  refine g_lcmp hC ha hb d_Math_minJ_2 ?_
  refine g_lif_gt hC d_Math_minJ_3 (fun c => ?_) (fun c => ?_)
  · refine g_lload_n hC rfl d_Math_minJ_10 ?_
    refine g_lret hC hQ (by decide) (by decide) d_Math_minJ_11 ⟨by rw [show min a b = b by omega], rfl⟩
  · refine g_lload_n hC rfl d_Math_minJ_6 ?_
    refine g_goto hC d_Math_minJ_7 ?_
    refine g_lret hC hQ (by decide) (by decide) d_Math_minJ_11 ⟨by rw [show min a b = a by omega], rfl⟩
theorem d_Int_compare_0 : dn m_Int_compare.2.1 0 (.iload_n 0) 1 1 := ⟨by decide +kernel, rfl⟩
theorem d_Int_compare_1 : dn m_Int_compare.2.1 1 (.iload_n 1) 1 2 := ⟨by decide +kernel, rfl⟩
theorem d_Int_compare_2 : db m_Int_compare.2.1 2 (.if_icmp .ge) 9 5 := ⟨7, by decide +kernel, by decide, rfl⟩
theorem d_Int_compare_5 : dn m_Int_compare.2.1 5 (.iconst (-1)) 1 6 := ⟨by decide +kernel, rfl⟩
theorem d_Int_compare_6 : db m_Int_compare.2.1 6 (.goto) 19 9 := ⟨13, by decide +kernel, by decide, rfl⟩
theorem d_Int_compare_9 : dn m_Int_compare.2.1 9 (.iload_n 0) 1 10 := ⟨by decide +kernel, rfl⟩
theorem d_Int_compare_10 : dn m_Int_compare.2.1 10 (.iload_n 1) 1 11 := ⟨by decide +kernel, rfl⟩
theorem d_Int_compare_11 : db m_Int_compare.2.1 11 (.if_icmp .ne) 18 14 := ⟨7, by decide +kernel, by decide, rfl⟩
theorem d_Int_compare_14 : dn m_Int_compare.2.1 14 (.iconst 0) 1 15 := ⟨by decide +kernel, rfl⟩
theorem d_Int_compare_15 : db m_Int_compare.2.1 15 (.goto) 19 18 := ⟨4, by decide +kernel, by decide, rfl⟩
theorem d_Int_compare_18 : dn m_Int_compare.2.1 18 (.iconst 1) 1 19 := ⟨by decide +kernel, rfl⟩
theorem d_Int_compare_19 : dn m_Int_compare.2.1 19 (.ireturn) 1 20 := ⟨by decide +kernel, rfl⟩
theorem sp_compare {l : Launch} {K : KC} {M : AH} {a b : Int} (ha : I32 a) (hb : I32 b) : Sp l K m_Int_compare 0 0 0 [iv a, iv b] M (fun r M' => r = some (iv (cz a b)) ∧ M' = M) := by
  refine Sp.ofGF R_Int rfl (by decide +kernel) [some (iv a), some (iv b)] rfl (Nat.le_of_ble_eq_true rfl) ?_
  intro X hl hK hN hR hC hQ
  subst hl hK
  refine g_iload_n hC rfl d_Int_compare_0 ?_
  refine g_iload_n hC rfl d_Int_compare_1 ?_
  refine g_icmp_ge hC ha hb d_Int_compare_2 (fun c => ?_) (fun c => ?_)
  · refine g_iload_n hC rfl d_Int_compare_9 ?_
    refine g_iload_n hC rfl d_Int_compare_10 ?_
    refine g_icmp_ne hC ha hb d_Int_compare_11 (fun c2 => ?_) (fun c2 => ?_)
    · refine g_iconst hC d_Int_compare_18 ?_
      refine g_iret hC hQ (by decide) (by decide) d_Int_compare_19 ⟨by rw [cz_gt (by omega)], rfl⟩
    · refine g_iconst hC d_Int_compare_14 ?_
      refine g_goto hC d_Int_compare_15 ?_
      refine g_iret hC hQ (by decide) (by decide) d_Int_compare_19 ⟨by rw [cz_eq c2], rfl⟩
  · refine g_iconst hC d_Int_compare_5 ?_
    refine g_goto hC d_Int_compare_6 ?_
    refine g_iret hC hQ (by decide) (by decide) d_Int_compare_19 ⟨by rw [cz_lt (by omega)], rfl⟩
theorem xor_neg {x y : Int64} (hy : 0 ≤ y.toInt) : (x ^^^ y).toInt < 0 ↔ x.toInt < 0 := by
  have h : ∀ z : Int64, z.toInt < 0 ↔ z.toBitVec.msb = true := fun z => by
    rw [BitVec.msb_eq_toInt]
    show z.toBitVec.toInt < 0 ↔ _
    simp
  have hy' : y.toBitVec.msb = false := by
    cases hb : y.toBitVec.msb
    · rfl
    · have := (h y).mpr hb; omega
  rw [h, h, Int64.toBitVec_xor, BitVec.msb_xor, hy']
  simp
theorem of64 (x : Int64) : Int64.ofInt x.toInt = x := by
  apply Int64.toInt_inj.mp
  exact ti64 ⟨Int64.le_toInt x, by have := Int64.toInt_lt x; omega⟩
theorem of32 (x : Int32) : Int32.ofInt x.toInt = x := by
  apply Int32.toInt_inj.mp
  exact ti32 ⟨Int32.le_toInt x, by have := Int32.toInt_lt x; omega⟩
theorem in64 (x : Int64) : I64 x.toInt := ⟨Int64.le_toInt x, by have := Int64.toInt_lt x; omega⟩
theorem in32 (x : Int32) : I32 x.toInt := ⟨Int32.le_toInt x, by have := Int32.toInt_lt x; omega⟩
theorem g_lxor {X : CT} {cs sl : Nat} {M : AH} {pc pc' : Nat} {L : List (Option Value)} {st : List Value} {own : String} {cc : ByteArray} {rt : Option FieldType} {nm : String} {hh : Bool} (hC : Cx X own cc rt nm hh) {a b : Int} (hd : dn cc pc .lxor 1 pc') (kk : G X cs sl M pc' L (jv (Int64.ofInt a ^^^ Int64.ofInt b).toInt :: st)) : G X cs sl M pc L (jv b :: jv a :: st) := by
  obtain ⟨hd, rfl⟩ := hd
  intro H locs ls hH hl hL
  refine lv_lxor hC.1 hC.2.1 hd ?_
  have := kk H locs ls hH hl hL
  unfold jv at this
  rw [of64] at this
  exact this
theorem tmod_neg {a b : Int} (hb : 0 < b) (ha : a < 0) : -b < a.tmod b ∧ a.tmod b ≤ 0 ∧ a % b = (if a.tmod b = 0 then 0 else a.tmod b + b) := by
  have e := Int.mul_tdiv_add_tmod a b
  have h1 : (-a).tmod b = -(a.tmod b) := Int.neg_tmod a b
  have h2 := Int.tmod_nonneg (a := -a) b (by omega)
  have h3 := Int.tmod_lt_of_pos (-a) hb
  refine ⟨by omega, by omega, ?_⟩
  have e2 : a % b = (a.tmod b) % b := by
    have : a % b = (a.tmod b + b * a.tdiv b) % b := congrArg (· % b) (by omega)
    rw [this, Int.add_mul_emod_self_left]
  rw [e2]
  split
  · rename_i h; rw [h]; exact Int.zero_emod b
  · have : a.tmod b % b = (a.tmod b + b) % b := by rw [Int.add_emod_right]
    rw [this]
    exact Int.emod_eq_of_lt (by omega) (by omega)
theorem tmod_pos {a b : Int} (ha : 0 ≤ a) : a.tmod b = a % b := Int.tmod_eq_emod_of_nonneg ha
theorem tdiv_pos {a b : Int} (ha : 0 ≤ a) : a.tdiv b = a / b := Int.tdiv_eq_ediv_of_nonneg ha
theorem d_Math_floorMod_0 : dn m_Math_floorMod.2.1 0 (.lload_n 0) 1 1 := ⟨by decide +kernel, rfl⟩
theorem d_Math_floorMod_1 : dn m_Math_floorMod.2.1 1 (.lload_n 2) 1 2 := ⟨by decide +kernel, rfl⟩
theorem d_Math_floorMod_2 : dn m_Math_floorMod.2.1 2 (.lrem) 1 3 := ⟨by decide +kernel, rfl⟩
theorem d_Math_floorMod_3 : dn m_Math_floorMod.2.1 3 (.lstore 4) 2 5 := ⟨by decide +kernel, rfl⟩
theorem d_Math_floorMod_5 : dn m_Math_floorMod.2.1 5 (.lload_n 0) 1 6 := ⟨by decide +kernel, rfl⟩
theorem d_Math_floorMod_6 : dn m_Math_floorMod.2.1 6 (.lload_n 2) 1 7 := ⟨by decide +kernel, rfl⟩
theorem d_Math_floorMod_7 : dn m_Math_floorMod.2.1 7 (.lxor) 1 8 := ⟨by decide +kernel, rfl⟩
theorem d_Math_floorMod_8 : dn m_Math_floorMod.2.1 8 (.lconst 0) 1 9 := ⟨by decide +kernel, rfl⟩
theorem d_Math_floorMod_9 : dn m_Math_floorMod.2.1 9 (.lcmp) 1 10 := ⟨by decide +kernel, rfl⟩
theorem d_Math_floorMod_10 : db m_Math_floorMod.2.1 10 (.ifCond .ge) 25 13 := ⟨15, by decide +kernel, by decide, rfl⟩
theorem d_Math_floorMod_13 : dn m_Math_floorMod.2.1 13 (.lload 4) 2 15 := ⟨by decide +kernel, rfl⟩
theorem d_Math_floorMod_15 : dn m_Math_floorMod.2.1 15 (.lconst 0) 1 16 := ⟨by decide +kernel, rfl⟩
theorem d_Math_floorMod_16 : dn m_Math_floorMod.2.1 16 (.lcmp) 1 17 := ⟨by decide +kernel, rfl⟩
theorem d_Math_floorMod_17 : db m_Math_floorMod.2.1 17 (.ifCond .eq) 25 20 := ⟨8, by decide +kernel, by decide, rfl⟩
theorem d_Math_floorMod_20 : dn m_Math_floorMod.2.1 20 (.lload 4) 2 22 := ⟨by decide +kernel, rfl⟩
theorem d_Math_floorMod_22 : dn m_Math_floorMod.2.1 22 (.lload_n 2) 1 23 := ⟨by decide +kernel, rfl⟩
theorem d_Math_floorMod_23 : dn m_Math_floorMod.2.1 23 (.ladd) 1 24 := ⟨by decide +kernel, rfl⟩
theorem d_Math_floorMod_24 : dn m_Math_floorMod.2.1 24 (.lreturn) 1 25 := ⟨by decide +kernel, rfl⟩
theorem d_Math_floorMod_25 : dn m_Math_floorMod.2.1 25 (.lload 4) 2 27 := ⟨by decide +kernel, rfl⟩
theorem d_Math_floorMod_27 : dn m_Math_floorMod.2.1 27 (.lreturn) 1 28 := ⟨by decide +kernel, rfl⟩
theorem sp_floorMod {l : Launch} {K : KC} {M : AH} {a b : Int} (ha : I64 a) (hb : I64 b) (h0 : 0 < b) : Sp l K m_Math_floorMod 0 0 0 [jv a, jv b] M (fun r M' => r = some (jv (a % b)) ∧ M' = M) := by
  refine Sp.ofGF R_Math rfl (by decide +kernel) [some (jv a), none, some (jv b), none, none, none] rfl (Nat.le_of_ble_eq_true rfl) ?_
  intro X hl hK hN hR hC hQ
  subst hl hK
  refine g_lload_n hC rfl d_Math_floorMod_0 ?_
  refine g_lload_n hC rfl d_Math_floorMod_1 ?_
  refine g_lrem hC ha hb h0 d_Math_floorMod_2 ?_
  first | refine g_lst4 hC d_Math_floorMod_3 rfl (hN 5 rfl) ?_ | (refine g_fg3 ?_; refine g_lst4 hC d_Math_floorMod_3 rfl (hN 5 rfl) ?_)
  refine g_lload_n hC rfl d_Math_floorMod_5 ?_
  refine g_lload_n hC rfl d_Math_floorMod_6 ?_
  refine g_lxor hC d_Math_floorMod_7 ?_
  refine g_lconst (z := 0) hC (by decide) d_Math_floorMod_8 ?_
  refine g_lcmp hC (in64 _) j0 d_Math_floorMod_9 ?_
  have hx : (Int64.ofInt a ^^^ Int64.ofInt b).toInt < 0 ↔ a < 0 := by
    rw [xor_neg (by rw [ti64 hb]; omega), ti64 ha]
  rcases Int.lt_or_le a 0 with h | h
  · obtain ⟨t1, t2, t3⟩ := tmod_neg h0 h
    have hti : I64 (a.tmod b) := ⟨by have := hb.2; omega, by have := hb.2; omega⟩
    refine g_lif_ge hC d_Math_floorMod_10 (fun c => ?_) (fun c => ?_)
    · omega
    · refine g_lload hC rfl d_Math_floorMod_13 ?_
      refine g_lconst (z := 0) hC (by decide) d_Math_floorMod_15 ?_
      refine g_lcmp hC hti j0 d_Math_floorMod_16 ?_
      refine g_lif_eq hC d_Math_floorMod_17 (fun c => ?_) (fun c => ?_)
      · refine g_lload hC rfl d_Math_floorMod_25 ?_
        refine g_lret hC hQ (by decide) (by decide) d_Math_floorMod_27 ⟨by rw [t3, if_pos c, c], rfl⟩
      · refine g_lload hC rfl d_Math_floorMod_20 ?_
        refine g_lload_n hC rfl d_Math_floorMod_22 ?_
        refine g_ladd hC d_Math_floorMod_23 ?_
        refine g_lret hC hQ (by decide) (by decide) d_Math_floorMod_24 ⟨by rw [t3, if_neg c], rfl⟩
  · refine g_lif_ge hC d_Math_floorMod_10 (fun c => ?_) (fun c => ?_)
    · refine g_lload hC rfl d_Math_floorMod_25 ?_
      refine g_lret hC hQ (by decide) (by decide) d_Math_floorMod_27 ⟨by rw [tmod_pos h], rfl⟩
    · omega
