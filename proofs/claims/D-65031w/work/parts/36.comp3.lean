/-! Comp: add, times, over, order -/
def vat (xs : List (Rat × Int)) (i : Int) : Option (Rat × Int) := if 0 ≤ i then xs[i.toNat]? else none
theorem vat_some {xs : List (Rat × Int)} {i : Int} {x : Rat × Int} (h : vat xs i = some x) : ∃ k : Nat, i = k ∧ xs[k]? = some x := by
  unfold vat at h
  by_cases h0 : 0 ≤ i
  · rw [if_pos h0] at h; exact ⟨i.toNat, by omega, h⟩
  · rw [if_neg h0] at h; cases h
theorem vat_none {xs : List (Rat × Int)} {i : Int} (h : vat xs i = none) : i < 0 ∨ (xs.length : Int) ≤ i := by
  unfold vat at h
  by_cases h0 : 0 ≤ i
  · rw [if_pos h0] at h
    have := List.getElem?_eq_none_iff.mp h
    omega
  · omega
theorem vat_I {xs : List (Rat × Int)} {ws : List (List (Nat × Nat))} {wl : List Int} (hms : MS xs ws wl) {i : Int} {x : Rat × Int} (h : vat xs i = some x) : I32 i := by
  obtain ⟨k, rfl, hk⟩ := vat_some h
  have := (List.getElem?_eq_some_iff.mp hk).1
  have := hms.1.1
  unfold I32; omega
theorem MS.val {xs : List (Rat × Int)} {ws : List (List (Nat × Nat))} {wl : List Int} (h : MS xs ws wl) {k : Nat} {x : Rat × Int} (hx : xs[k]? = some x) : bdq x.1 100 100 ∧ -6 ≤ x.2 ∧ x.2 ≤ 6 := h.1.2 x (List.mem_of_getElem? hx)
/-- a value that is there: its address, and what stands in it -/
theorem CI.at {K : KC} {M : AH} {c : Nat} {vs ss rs : List Nat} {xs : List (Rat × Int)} {ws : List (List (Nat × Nat))} {wl : List Int} (h : CI K M c vs ss rs xs ws wl) {i : Int} {x : Rat × Int} (hx : vat xs i = some x) : ∃ (k p : Nat) (mi : Bool) (a b : Nat), i = k ∧ xs[k]? = some x ∧ vs[k]? = some p ∧ c + 24 ≤ p ∧ isF K M p 100 a b mi x.2 ∧ isQ mi a b x.1 := by
  obtain ⟨k, rfl, hk⟩ := vat_some hx
  obtain ⟨p, hp, ⟨mi, a, b, hF, q⟩, hc⟩ := h.get hk
  exact ⟨k, p, mi, a, b, rfl, hk, hp, hc, hF, q⟩
theorem d_Comp_add_0 : dn m_Comp_add.2.1 0 (.aload_n 0) 1 1 := ⟨by decide +kernel, rfl⟩
theorem d_Comp_add_1 : dn m_Comp_add.2.1 1 (.iload_n 1) 1 2 := ⟨by decide +kernel, rfl⟩
theorem d_Comp_add_2 : dn m_Comp_add.2.1 2 (.invokevirtual 100) 3 5 := ⟨by decide +kernel, rfl⟩
theorem d_Comp_add_5 : dn m_Comp_add.2.1 5 (.astore 4) 2 7 := ⟨by decide +kernel, rfl⟩
theorem d_Comp_add_7 : dn m_Comp_add.2.1 7 (.aload_n 0) 1 8 := ⟨by decide +kernel, rfl⟩
theorem d_Comp_add_8 : dn m_Comp_add.2.1 8 (.iload_n 2) 1 9 := ⟨by decide +kernel, rfl⟩
theorem d_Comp_add_9 : dn m_Comp_add.2.1 9 (.invokevirtual 100) 3 12 := ⟨by decide +kernel, rfl⟩
theorem d_Comp_add_12 : dn m_Comp_add.2.1 12 (.astore 5) 2 14 := ⟨by decide +kernel, rfl⟩
theorem d_Comp_add_14 : dn m_Comp_add.2.1 14 (.aload_n 0) 1 15 := ⟨by decide +kernel, rfl⟩
theorem d_Comp_add_15 : dn m_Comp_add.2.1 15 (.aload 4) 2 17 := ⟨by decide +kernel, rfl⟩
theorem d_Comp_add_17 : dn m_Comp_add.2.1 17 (.getfield 104) 3 20 := ⟨by decide +kernel, rfl⟩
theorem d_Comp_add_20 : dn m_Comp_add.2.1 20 (.aload 5) 2 22 := ⟨by decide +kernel, rfl⟩
theorem d_Comp_add_22 : dn m_Comp_add.2.1 22 (.getfield 104) 3 25 := ⟨by decide +kernel, rfl⟩
theorem d_Comp_add_25 : db m_Comp_add.2.1 25 (.if_icmp .ne) 32 28 := ⟨7, by decide +kernel, by decide, rfl⟩
theorem d_Comp_add_28 : dn m_Comp_add.2.1 28 (.iconst 1) 1 29 := ⟨by decide +kernel, rfl⟩
theorem d_Comp_add_29 : db m_Comp_add.2.1 29 (.goto) 33 32 := ⟨4, by decide +kernel, by decide, rfl⟩
theorem d_Comp_add_32 : dn m_Comp_add.2.1 32 (.iconst 0) 1 33 := ⟨by decide +kernel, rfl⟩
theorem d_Comp_add_33 : dn m_Comp_add.2.1 33 (.invokevirtual 108) 3 36 := ⟨by decide +kernel, rfl⟩
theorem d_Comp_add_36 : dn m_Comp_add.2.1 36 (.istore 6) 2 38 := ⟨by decide +kernel, rfl⟩
theorem d_Comp_add_38 : dn m_Comp_add.2.1 38 (.iload 6) 2 40 := ⟨by decide +kernel, rfl⟩
theorem d_Comp_add_40 : db m_Comp_add.2.1 40 (.ifCond .eq) 46 43 := ⟨6, by decide +kernel, by decide, rfl⟩
theorem d_Comp_add_43 : dn m_Comp_add.2.1 43 (.iload 6) 2 45 := ⟨by decide +kernel, rfl⟩
theorem d_Comp_add_45 : dn m_Comp_add.2.1 45 (.ireturn) 1 46 := ⟨by decide +kernel, rfl⟩
theorem d_Comp_add_46 : dn m_Comp_add.2.1 46 (.aload_n 0) 1 47 := ⟨by decide +kernel, rfl⟩
theorem d_Comp_add_47 : dn m_Comp_add.2.1 47 (.getfield 29) 3 50 := ⟨by decide +kernel, rfl⟩
theorem d_Comp_add_50 : dn m_Comp_add.2.1 50 (.getfield 63) 3 53 := ⟨by decide +kernel, rfl⟩
theorem d_Comp_add_53 : dn m_Comp_add.2.1 53 (.aload 4) 2 55 := ⟨by decide +kernel, rfl⟩
theorem d_Comp_add_55 : dn m_Comp_add.2.1 55 (.invokevirtual 74) 3 58 := ⟨by decide +kernel, rfl⟩
theorem d_Comp_add_58 : dn m_Comp_add.2.1 58 (.aload_n 0) 1 59 := ⟨by decide +kernel, rfl⟩
theorem d_Comp_add_59 : dn m_Comp_add.2.1 59 (.getfield 29) 3 62 := ⟨by decide +kernel, rfl⟩
theorem d_Comp_add_62 : dn m_Comp_add.2.1 62 (.aload 5) 2 64 := ⟨by decide +kernel, rfl⟩
theorem d_Comp_add_64 : dn m_Comp_add.2.1 64 (.iload_n 3) 1 65 := ⟨by decide +kernel, rfl⟩
theorem d_Comp_add_65 : dn m_Comp_add.2.1 65 (.invokevirtual 112) 3 68 := ⟨by decide +kernel, rfl⟩
theorem d_Comp_add_68 : dn m_Comp_add.2.1 68 (.aload_n 0) 1 69 := ⟨by decide +kernel, rfl⟩
theorem d_Comp_add_69 : dn m_Comp_add.2.1 69 (.invokevirtual 97) 3 72 := ⟨by decide +kernel, rfl⟩
theorem d_Comp_add_72 : dn m_Comp_add.2.1 72 (.ireturn) 1 73 := ⟨by decide +kernel, rfl⟩
section Cadd
variable {l : Launch} {K : KC} {M : AH} {c : Nat} {xs : List (Rat × Int)} {ws : List (List (Nat × Nat))} {wl : List Int}
theorem sp_Comp_add {a b : Int} {less : Bool} {x y : Rat × Int} (hcx : CX K M c xs ws wl) (hms : MS xs ws wl) (hx : vat xs a = some x) (hy : vat xs b = some y) :
    Sp l K m_Comp_add 8 6 508 [.ref c, iv a, iv b, iv (bz less)] M (fun r M' => r = some (iv (if rfs (decide (x.2 = y.2)) xs.length = 0 then kpR xs (x.1 + lsq less y.1) else rfs (decide (x.2 = y.2)) xs.length)) ∧ CX K M' c (if rfs (decide (x.2 = y.2)) xs.length = 0 then kpS xs (x.1 + lsq less y.1) (x.2) else xs) ws wl) := by
  refine Sp.ofG R_Comp rfl (by decide) [some (.ref c), some (iv a), some (iv b), some (iv (bz less)), none, none, none] rfl (Nat.le_of_ble_eq_true rfl) ?_
  intro X hl hK hN hR hC hQ
  subst hl hK
  obtain ⟨vs, ss, rs, h⟩ := hcx
  obtain ⟨k1, p1, mi1, a1, b1, rfl, hk1, hv1, hc1, hF1, q1⟩ := h.at hx
  obtain ⟨k2, p2, mi2, a2, b2, rfl, hk2, hv2, hc2, hF2, q2⟩ := h.at hy
  have o1 : opx X.K M p1 100 x.1 x.2 := ⟨mi1, a1, b1, hF1, q1⟩
  have o2 : opx X.K M p2 100 y.1 y.2 := ⟨mi2, a2, b2, hF2, q2⟩
  obtain ⟨bx, ux1, ux2⟩ := hms.val hk1
  obtain ⟨bY, uy1, uy2⟩ := hms.val hk2
  refine g_aload_n hC rfl d_Comp_add_0 ?_
  refine g_iload_n hC rfl d_Comp_add_1 ?_
  refine g_callV1 hC (sp_Comp_of h hv1 hF1.1) oc_Comp_of ov_Comp_of ml_Comp_100 h.o rfl hR (Nat.le_of_ble_eq_true rfl) (Nat.le_of_ble_eq_true rfl) (Nat.le_of_ble_eq_true rfl) (Nat.le_of_ble_eq_true rfl) (Nat.le_of_ble_eq_true rfl) d_Comp_add_2 (fun r M hp => ?_)
  obtain ⟨rfl, rfl⟩ := hp
  refine g_sv ?_
  first | refine g_ast4 hC d_Comp_add_5 rfl (hN 4 rfl) ?_ | (refine g_fg3 ?_; refine g_ast4 hC d_Comp_add_5 rfl (hN 4 rfl) ?_)
  refine g_aload_n hC rfl d_Comp_add_7 ?_
  refine g_iload_n hC rfl d_Comp_add_8 ?_
  refine g_callV1 hC (sp_Comp_of h hv2 hF2.1) oc_Comp_of ov_Comp_of ml_Comp_100 h.o rfl hR (Nat.le_of_ble_eq_true rfl) (Nat.le_of_ble_eq_true rfl) (Nat.le_of_ble_eq_true rfl) (Nat.le_of_ble_eq_true rfl) (Nat.le_of_ble_eq_true rfl) d_Comp_add_9 (fun r M hp => ?_)
  obtain ⟨rfl, rfl⟩ := hp
  refine g_sv ?_
  have J : G X 0 0 M 33 [some (.ref c), some (iv (k1 : Int)), some (iv (k2 : Int)), some (iv (bz less)), some (.ref p1), some (.ref p2), none] [iv (bz (decide (x.2 = y.2))), .ref c] := by
    refine g_callV1 hC (sp_Comp_refusal h) oc_Comp_refusal ov_Comp_refusal ml_Comp_108 h.o rfl hR (Nat.le_of_ble_eq_true rfl) (Nat.le_of_ble_eq_true rfl) (Nat.le_of_ble_eq_true rfl) (Nat.le_of_ble_eq_true rfl) (Nat.le_of_ble_eq_true rfl) d_Comp_add_33 (fun r M hp => ?_)
    obtain ⟨rfl, rfl⟩ := hp
    refine g_sv ?_
    have hrf := rfs_in (decide (x.2 = y.2)) xs.length
    first | refine g_ist6 hC d_Comp_add_36 rfl (hN 6 rfl) ?_ | (refine g_fg5 ?_; refine g_ist6 hC d_Comp_add_36 rfl (hN 6 rfl) ?_)
    refine g_iload hC rfl d_Comp_add_38 ?_
    refine g_if_eq hC (by unfold I32; omega) d_Comp_add_40 (fun c9 => ?_) (fun c9 => ?_)
    · rw [if_pos c9, if_pos c9] at hQ
      refine g_aload_n hC rfl d_Comp_add_46 ?_
      refine g_get hC fb_Comp_29 h.o rfl d_Comp_add_47 ?_
      refine g_get hC fb_Comp_63 h.d.o rfl d_Comp_add_50 ?_
      refine g_aload hC rfl d_Comp_add_53 ?_
      refine g_callV1 hC (sp_copyQ h.d.fxm o1 (by omega) (b740 bx (by decide) (by decide)) (by decide) (by decide)) oc_Frac_copy ov_Frac_copy ml_Comp_74 h.d.fxm.rc.choose_spec rfl hR (Nat.le_of_ble_eq_true rfl) (Nat.le_of_ble_eq_true rfl) (Nat.le_of_ble_eq_true rfl) (Nat.le_of_ble_eq_true rfl) (Nat.le_of_ble_eq_true rfl) d_Comp_add_55 (fun r M1 hp => ?_)
      obtain ⟨rfl, oc, fc⟩ := hp
      refine g_s0 ?_
      obtain ⟨h1, m1⟩ := h.cp fc oc
      have o2' := o2.eq (M' := M1) (fun z _ _ => fc.2 z (by omega))
      refine g_aload_n hC rfl d_Comp_add_58 ?_
      refine g_get hC fb_Comp_29 h1.o rfl d_Comp_add_59 ?_
      refine g_aload hC rfl d_Comp_add_62 ?_
      refine g_iload_n hC rfl d_Comp_add_64 ?_
      refine g_callV2 hC (sp_Desk_add (less := less) (m := 200) m1 o2' (by omega) (by decide) bx bY (by decide) (by decide) (by decide) (by decide)) oc_Desk_add ov_Desk_add ml_Comp_112 h1.d.o rfl hR (Nat.le_of_ble_eq_true rfl) (Nat.le_of_ble_eq_true rfl) (Nat.le_of_ble_eq_true rfl) (Nat.le_of_ble_eq_true rfl) (Nat.le_of_ble_eq_true rfl) d_Comp_add_65 (fun r M2 hp => ?_)
      obtain ⟨rfl, m2, f2⟩ := hp
      refine g_s0 ?_
      have h2 := h1.md f2 m2.x
      refine g_aload_n hC rfl d_Comp_add_68 ?_
      have hxl : xs.length < 200 := by
        have := hms.1.1
        rcases Nat.lt_or_ge xs.length 200 with q | q
        · exact q
        · exfalso
          unfold rfs at c9
          split at c9
          · omega
          · rw [if_pos (by omega)] at c9; omega
      refine g_callV0 hC (sp_Comp_keep ⟨vs, ss, rs, h2⟩ hms hxl m2) oc_Comp_keep ov_Comp_keep ml_Comp_97 h2.o rfl hR (Nat.le_of_ble_eq_true rfl) (Nat.le_of_ble_eq_true rfl) (Nat.le_of_ble_eq_true rfl) (Nat.le_of_ble_eq_true rfl) (Nat.le_of_ble_eq_true rfl) d_Comp_add_69 (fun r M3 hp => ?_)
      obtain ⟨rfl, h3⟩ := hp
      refine g_sv ?_
      refine g_iret hC hQ (by decide) (by decide) d_Comp_add_72 ⟨rfl, h3⟩
    · rw [if_neg c9, if_neg c9] at hQ
      refine g_iload hC rfl d_Comp_add_43 ?_
      refine g_iret hC hQ (by decide) (by decide) d_Comp_add_45 ⟨rfl, vs, ss, rs, h⟩
  first | refine g_ast5 hC d_Comp_add_12 rfl (hN 5 rfl) ?_ | (refine g_fg4 ?_; refine g_ast5 hC d_Comp_add_12 rfl (hN 5 rfl) ?_)
  refine g_aload_n hC rfl d_Comp_add_14 ?_
  refine g_aload hC rfl d_Comp_add_15 ?_
  refine g_get hC fb_Comp_104 hF1.1 rfl d_Comp_add_17 ?_
  refine g_aload hC rfl d_Comp_add_20 ?_
  refine g_get hC fb_Comp_104 hF2.1 rfl d_Comp_add_22 ?_
  refine g_icmp_ne hC (by unfold I32; omega) (by unfold I32; omega) d_Comp_add_25 (fun c8 => ?_) (fun c8 => ?_)
  · rw [decide_eq_false c8] at J
    refine g_iconst hC d_Comp_add_32 ?_
    exact J
  · rw [decide_eq_true c8] at J
    refine g_iconst hC d_Comp_add_28 ?_
    refine g_goto hC d_Comp_add_29 ?_
    exact J
theorem st_Comp_add {a b : Int} {less : Bool} (htr : l.stackTraces = false) (hcx : CX K M c xs ws wl) (hms : MS xs ws wl) (ha : I32 a) (hb : I32 b) (hv : vat xs a = none ∨ vat xs b = none) : St l K m_Comp_add 8 6 508 [.ref c, iv a, iv b, iv (bz less)] M R_IoE := by
  refine St.ofG R_Comp rfl (by decide) [some (.ref c), some (iv a), some (iv b), some (iv (bz less)), none, none, none] rfl (Nat.le_of_ble_eq_true rfl) ?_
  intro X hl hK hN hR hC hQ
  subst hl hK
  obtain ⟨vs, ss, rs, h⟩ := hcx
  refine g_aload_n hC rfl d_Comp_add_0 ?_
  refine g_iload_n hC rfl d_Comp_add_1 ?_
  cases hx : vat xs a with
  | none => exact g_callVT hC hQ rfl (st_Comp_of htr h ha (vat_none hx)) oc_Comp_of ov_Comp_of ml_Comp_100 h.o rfl rfl (st := []) rfl hR (by decide) (by decide) (by decide) (by decide) (by decide) d_Comp_add_2
  | some x =>
    have hy : vat xs b = none := by
      rcases hv with q | q
      · rw [hx] at q; cases q
      · exact q
    obtain ⟨k1, p1, mi1, a1, b1, rfl, hk1, hv1, hc1, hF1, q1⟩ := h.at hx
    refine g_callV1 hC (sp_Comp_of h hv1 hF1.1) oc_Comp_of ov_Comp_of ml_Comp_100 h.o rfl hR (Nat.le_of_ble_eq_true rfl) (Nat.le_of_ble_eq_true rfl) (Nat.le_of_ble_eq_true rfl) (Nat.le_of_ble_eq_true rfl) (Nat.le_of_ble_eq_true rfl) d_Comp_add_2 (fun r M hp => ?_)
    obtain ⟨rfl, rfl⟩ := hp
    refine g_sv ?_
    first | refine g_ast4 hC d_Comp_add_5 rfl (hN 4 rfl) ?_ | (refine g_fg3 ?_; refine g_ast4 hC d_Comp_add_5 rfl (hN 4 rfl) ?_)
    refine g_aload_n hC rfl d_Comp_add_7 ?_
    refine g_iload_n hC rfl d_Comp_add_8 ?_
    exact g_callVT hC hQ rfl (st_Comp_of htr h hb (vat_none hy)) oc_Comp_of ov_Comp_of ml_Comp_100 h.o rfl rfl (st := []) rfl hR (by decide) (by decide) (by decide) (by decide) (by decide) d_Comp_add_9
end Cadd
theorem d_Comp_times_0 : dn m_Comp_times.2.1 0 (.aload_n 0) 1 1 := ⟨by decide +kernel, rfl⟩
theorem d_Comp_times_1 : dn m_Comp_times.2.1 1 (.iload_n 1) 1 2 := ⟨by decide +kernel, rfl⟩
theorem d_Comp_times_2 : dn m_Comp_times.2.1 2 (.invokevirtual 100) 3 5 := ⟨by decide +kernel, rfl⟩
theorem d_Comp_times_5 : dn m_Comp_times.2.1 5 (.astore_n 3) 1 6 := ⟨by decide +kernel, rfl⟩
theorem d_Comp_times_6 : dn m_Comp_times.2.1 6 (.aload_n 0) 1 7 := ⟨by decide +kernel, rfl⟩
theorem d_Comp_times_7 : dn m_Comp_times.2.1 7 (.iload_n 2) 1 8 := ⟨by decide +kernel, rfl⟩
theorem d_Comp_times_8 : dn m_Comp_times.2.1 8 (.invokevirtual 100) 3 11 := ⟨by decide +kernel, rfl⟩
theorem d_Comp_times_11 : dn m_Comp_times.2.1 11 (.astore 4) 2 13 := ⟨by decide +kernel, rfl⟩
theorem d_Comp_times_13 : dn m_Comp_times.2.1 13 (.aload_n 0) 1 14 := ⟨by decide +kernel, rfl⟩
theorem d_Comp_times_14 : dn m_Comp_times.2.1 14 (.aload_n 3) 1 15 := ⟨by decide +kernel, rfl⟩
theorem d_Comp_times_15 : dn m_Comp_times.2.1 15 (.getfield 104) 3 18 := ⟨by decide +kernel, rfl⟩
theorem d_Comp_times_18 : dn m_Comp_times.2.1 18 (.aload 4) 2 20 := ⟨by decide +kernel, rfl⟩
theorem d_Comp_times_20 : dn m_Comp_times.2.1 20 (.getfield 104) 3 23 := ⟨by decide +kernel, rfl⟩
theorem d_Comp_times_23 : dn m_Comp_times.2.1 23 (.iadd) 1 24 := ⟨by decide +kernel, rfl⟩
theorem d_Comp_times_24 : dn m_Comp_times.2.1 24 (.invokestatic 85) 3 27 := ⟨by decide +kernel, rfl⟩
theorem d_Comp_times_27 : dn m_Comp_times.2.1 27 (.invokevirtual 108) 3 30 := ⟨by decide +kernel, rfl⟩
theorem d_Comp_times_30 : dn m_Comp_times.2.1 30 (.istore 5) 2 32 := ⟨by decide +kernel, rfl⟩
theorem d_Comp_times_32 : dn m_Comp_times.2.1 32 (.iload 5) 2 34 := ⟨by decide +kernel, rfl⟩
theorem d_Comp_times_34 : db m_Comp_times.2.1 34 (.ifCond .eq) 40 37 := ⟨6, by decide +kernel, by decide, rfl⟩
theorem d_Comp_times_37 : dn m_Comp_times.2.1 37 (.iload 5) 2 39 := ⟨by decide +kernel, rfl⟩
theorem d_Comp_times_39 : dn m_Comp_times.2.1 39 (.ireturn) 1 40 := ⟨by decide +kernel, rfl⟩
theorem d_Comp_times_40 : dn m_Comp_times.2.1 40 (.aload_n 0) 1 41 := ⟨by decide +kernel, rfl⟩
theorem d_Comp_times_41 : dn m_Comp_times.2.1 41 (.getfield 29) 3 44 := ⟨by decide +kernel, rfl⟩
theorem d_Comp_times_44 : dn m_Comp_times.2.1 44 (.getfield 63) 3 47 := ⟨by decide +kernel, rfl⟩
theorem d_Comp_times_47 : dn m_Comp_times.2.1 47 (.aload_n 3) 1 48 := ⟨by decide +kernel, rfl⟩
theorem d_Comp_times_48 : dn m_Comp_times.2.1 48 (.invokevirtual 74) 3 51 := ⟨by decide +kernel, rfl⟩
theorem d_Comp_times_51 : dn m_Comp_times.2.1 51 (.aload_n 0) 1 52 := ⟨by decide +kernel, rfl⟩
theorem d_Comp_times_52 : dn m_Comp_times.2.1 52 (.getfield 29) 3 55 := ⟨by decide +kernel, rfl⟩
theorem d_Comp_times_55 : dn m_Comp_times.2.1 55 (.aload 4) 2 57 := ⟨by decide +kernel, rfl⟩
theorem d_Comp_times_57 : dn m_Comp_times.2.1 57 (.invokevirtual 115) 3 60 := ⟨by decide +kernel, rfl⟩
theorem d_Comp_times_60 : dn m_Comp_times.2.1 60 (.aload_n 0) 1 61 := ⟨by decide +kernel, rfl⟩
theorem d_Comp_times_61 : dn m_Comp_times.2.1 61 (.invokevirtual 97) 3 64 := ⟨by decide +kernel, rfl⟩
theorem d_Comp_times_64 : dn m_Comp_times.2.1 64 (.ireturn) 1 65 := ⟨by decide +kernel, rfl⟩
section Ctimes
variable {l : Launch} {K : KC} {M : AH} {c : Nat} {xs : List (Rat × Int)} {ws : List (List (Nat × Nat))} {wl : List Int}
theorem sp_Comp_times {a b : Int} {x y : Rat × Int} (hcx : CX K M c xs ws wl) (hms : MS xs ws wl) (hx : vat xs a = some x) (hy : vat xs b = some y) :
    Sp l K m_Comp_times 8 6 508 [.ref c, iv a, iv b] M (fun r M' => r = some (iv (if rfs (isU (x.2 + y.2)) xs.length = 0 then kpR xs (x.1 * y.1) else rfs (isU (x.2 + y.2)) xs.length)) ∧ CX K M' c (if rfs (isU (x.2 + y.2)) xs.length = 0 then kpS xs (x.1 * y.1) (x.2 + y.2) else xs) ws wl) := by
  refine Sp.ofG R_Comp rfl (by decide) [some (.ref c), some (iv a), some (iv b), none, none, none] rfl (Nat.le_of_ble_eq_true rfl) ?_
  intro X hl hK hN hR hC hQ
  subst hl hK
  obtain ⟨vs, ss, rs, h⟩ := hcx
  obtain ⟨k1, p1, mi1, a1, b1, rfl, hk1, hv1, hc1, hF1, q1⟩ := h.at hx
  obtain ⟨k2, p2, mi2, a2, b2, rfl, hk2, hv2, hc2, hF2, q2⟩ := h.at hy
  have o1 : opx X.K M p1 100 x.1 x.2 := ⟨mi1, a1, b1, hF1, q1⟩
  have o2 : opx X.K M p2 100 y.1 y.2 := ⟨mi2, a2, b2, hF2, q2⟩
  obtain ⟨bx, ux1, ux2⟩ := hms.val hk1
  obtain ⟨bY, uy1, uy2⟩ := hms.val hk2
  refine g_aload_n hC rfl d_Comp_times_0 ?_
  refine g_iload_n hC rfl d_Comp_times_1 ?_
  refine g_callV1 hC (sp_Comp_of h hv1 hF1.1) oc_Comp_of ov_Comp_of ml_Comp_100 h.o rfl hR (Nat.le_of_ble_eq_true rfl) (Nat.le_of_ble_eq_true rfl) (Nat.le_of_ble_eq_true rfl) (Nat.le_of_ble_eq_true rfl) (Nat.le_of_ble_eq_true rfl) d_Comp_times_2 (fun r M hp => ?_)
  obtain ⟨rfl, rfl⟩ := hp
  refine g_sv ?_
  first | refine g_ast3 hC d_Comp_times_5 rfl (hN 3 rfl) ?_ | (refine g_fg2 ?_; refine g_ast3 hC d_Comp_times_5 rfl (hN 3 rfl) ?_)
  refine g_aload_n hC rfl d_Comp_times_6 ?_
  refine g_iload_n hC rfl d_Comp_times_7 ?_
  refine g_callV1 hC (sp_Comp_of h hv2 hF2.1) oc_Comp_of ov_Comp_of ml_Comp_100 h.o rfl hR (Nat.le_of_ble_eq_true rfl) (Nat.le_of_ble_eq_true rfl) (Nat.le_of_ble_eq_true rfl) (Nat.le_of_ble_eq_true rfl) (Nat.le_of_ble_eq_true rfl) d_Comp_times_8 (fun r M hp => ?_)
  obtain ⟨rfl, rfl⟩ := hp
  refine g_sv ?_
  have J : G X 0 0 M 27 [some (.ref c), some (iv (k1 : Int)), some (iv (k2 : Int)), some (.ref p1), some (.ref p2), none] [iv (bz (isU (x.2 + y.2))), .ref c] := by
    refine g_callV1 hC (sp_Comp_refusal h) oc_Comp_refusal ov_Comp_refusal ml_Comp_108 h.o rfl hR (Nat.le_of_ble_eq_true rfl) (Nat.le_of_ble_eq_true rfl) (Nat.le_of_ble_eq_true rfl) (Nat.le_of_ble_eq_true rfl) (Nat.le_of_ble_eq_true rfl) d_Comp_times_27 (fun r M hp => ?_)
    obtain ⟨rfl, rfl⟩ := hp
    refine g_sv ?_
    have hrf := rfs_in (isU (x.2 + y.2)) xs.length
    first | refine g_ist5 hC d_Comp_times_30 rfl (hN 5 rfl) ?_ | (refine g_fg4 ?_; refine g_ist5 hC d_Comp_times_30 rfl (hN 5 rfl) ?_)
    refine g_iload hC rfl d_Comp_times_32 ?_
    refine g_if_eq hC (by unfold I32; omega) d_Comp_times_34 (fun c9 => ?_) (fun c9 => ?_)
    · rw [if_pos c9, if_pos c9] at hQ
      refine g_aload_n hC rfl d_Comp_times_40 ?_
      refine g_get hC fb_Comp_29 h.o rfl d_Comp_times_41 ?_
      refine g_get hC fb_Comp_63 h.d.o rfl d_Comp_times_44 ?_
      refine g_aload_n hC rfl d_Comp_times_47 ?_
      refine g_callV1 hC (sp_copyQ h.d.fxm o1 (by omega) (b740 bx (by decide) (by decide)) (by decide) (by decide)) oc_Frac_copy ov_Frac_copy ml_Comp_74 h.d.fxm.rc.choose_spec rfl hR (Nat.le_of_ble_eq_true rfl) (Nat.le_of_ble_eq_true rfl) (Nat.le_of_ble_eq_true rfl) (Nat.le_of_ble_eq_true rfl) (Nat.le_of_ble_eq_true rfl) d_Comp_times_48 (fun r M1 hp => ?_)
      obtain ⟨rfl, oc, fc⟩ := hp
      refine g_s0 ?_
      obtain ⟨h1, m1⟩ := h.cp fc oc
      have o2' := o2.eq (M' := M1) (fun z _ _ => fc.2 z (by omega))
      refine g_aload_n hC rfl d_Comp_times_51 ?_
      refine g_get hC fb_Comp_29 h1.o rfl d_Comp_times_52 ?_
      refine g_aload hC rfl d_Comp_times_55 ?_
      refine g_callV1 hC (sp_Desk_times (m := 200) m1 o2' (by omega) (by decide) bx bY (by decide) (by decide) (by decide)) oc_Desk_times ov_Desk_times ml_Comp_115 h1.d.o rfl hR (Nat.le_of_ble_eq_true rfl) (Nat.le_of_ble_eq_true rfl) (Nat.le_of_ble_eq_true rfl) (Nat.le_of_ble_eq_true rfl) (Nat.le_of_ble_eq_true rfl) d_Comp_times_57 (fun r M2 hp => ?_)
      obtain ⟨rfl, m2, f2⟩ := hp
      refine g_s0 ?_
      have h2 := h1.md f2 m2.x
      refine g_aload_n hC rfl d_Comp_times_60 ?_
      have hxl : xs.length < 200 := by
        have := hms.1.1
        rcases Nat.lt_or_ge xs.length 200 with q | q
        · exact q
        · exfalso
          unfold rfs at c9
          split at c9
          · omega
          · rw [if_pos (by omega)] at c9; omega
      refine g_callV0 hC (sp_Comp_keep ⟨vs, ss, rs, h2⟩ hms hxl m2) oc_Comp_keep ov_Comp_keep ml_Comp_97 h2.o rfl hR (Nat.le_of_ble_eq_true rfl) (Nat.le_of_ble_eq_true rfl) (Nat.le_of_ble_eq_true rfl) (Nat.le_of_ble_eq_true rfl) (Nat.le_of_ble_eq_true rfl) d_Comp_times_61 (fun r M3 hp => ?_)
      obtain ⟨rfl, h3⟩ := hp
      refine g_sv ?_
      refine g_iret hC hQ (by decide) (by decide) d_Comp_times_64 ⟨rfl, h3⟩
    · rw [if_neg c9, if_neg c9] at hQ
      refine g_iload hC rfl d_Comp_times_37 ?_
      refine g_iret hC hQ (by decide) (by decide) d_Comp_times_39 ⟨rfl, vs, ss, rs, h⟩
  first | refine g_ast4 hC d_Comp_times_11 rfl (hN 4 rfl) ?_ | (refine g_fg3 ?_; refine g_ast4 hC d_Comp_times_11 rfl (hN 4 rfl) ?_)
  refine g_aload_n hC rfl d_Comp_times_13 ?_
  refine g_aload_n hC rfl d_Comp_times_14 ?_
  refine g_get hC fb_Comp_104 hF1.1 rfl d_Comp_times_15 ?_
  refine g_aload hC rfl d_Comp_times_18 ?_
  refine g_get hC fb_Comp_104 hF2.1 rfl d_Comp_times_20 ?_
  refine g_iadd hC d_Comp_times_23 ?_
  refine g_callS1 hC (sp_Comp_isUnit (by unfold I32; omega)) oc_Comp_isUnit os_Comp_isUnit ml_Comp_85 hR (Nat.le_of_ble_eq_true rfl) (Nat.le_of_ble_eq_true rfl) (Nat.le_of_ble_eq_true rfl) (Nat.le_of_ble_eq_true rfl) (Nat.le_of_ble_eq_true rfl) d_Comp_times_24 (fun r M hp => ?_)
  obtain ⟨rfl, rfl⟩ := hp
  exact J
theorem st_Comp_times {a b : Int} (htr : l.stackTraces = false) (hcx : CX K M c xs ws wl) (hms : MS xs ws wl) (ha : I32 a) (hb : I32 b) (hv : vat xs a = none ∨ vat xs b = none) : St l K m_Comp_times 8 6 508 [.ref c, iv a, iv b] M R_IoE := by
  refine St.ofG R_Comp rfl (by decide) [some (.ref c), some (iv a), some (iv b), none, none, none] rfl (Nat.le_of_ble_eq_true rfl) ?_
  intro X hl hK hN hR hC hQ
  subst hl hK
  obtain ⟨vs, ss, rs, h⟩ := hcx
  refine g_aload_n hC rfl d_Comp_times_0 ?_
  refine g_iload_n hC rfl d_Comp_times_1 ?_
  cases hx : vat xs a with
  | none => exact g_callVT hC hQ rfl (st_Comp_of htr h ha (vat_none hx)) oc_Comp_of ov_Comp_of ml_Comp_100 h.o rfl rfl (st := []) rfl hR (by decide) (by decide) (by decide) (by decide) (by decide) d_Comp_times_2
  | some x =>
    have hy : vat xs b = none := by
      rcases hv with q | q
      · rw [hx] at q; cases q
      · exact q
    obtain ⟨k1, p1, mi1, a1, b1, rfl, hk1, hv1, hc1, hF1, q1⟩ := h.at hx
    refine g_callV1 hC (sp_Comp_of h hv1 hF1.1) oc_Comp_of ov_Comp_of ml_Comp_100 h.o rfl hR (Nat.le_of_ble_eq_true rfl) (Nat.le_of_ble_eq_true rfl) (Nat.le_of_ble_eq_true rfl) (Nat.le_of_ble_eq_true rfl) (Nat.le_of_ble_eq_true rfl) d_Comp_times_2 (fun r M hp => ?_)
    obtain ⟨rfl, rfl⟩ := hp
    refine g_sv ?_
    first | refine g_ast3 hC d_Comp_times_5 rfl (hN 3 rfl) ?_ | (refine g_fg2 ?_; refine g_ast3 hC d_Comp_times_5 rfl (hN 3 rfl) ?_)
    refine g_aload_n hC rfl d_Comp_times_6 ?_
    refine g_iload_n hC rfl d_Comp_times_7 ?_
    exact g_callVT hC hQ rfl (st_Comp_of htr h hb (vat_none hy)) oc_Comp_of ov_Comp_of ml_Comp_100 h.o rfl rfl (st := []) rfl hR (by decide) (by decide) (by decide) (by decide) (by decide) d_Comp_times_8
end Ctimes
theorem d_Comp_over_0 : dn m_Comp_over.2.1 0 (.aload_n 0) 1 1 := ⟨by decide +kernel, rfl⟩
theorem d_Comp_over_1 : dn m_Comp_over.2.1 1 (.iload_n 1) 1 2 := ⟨by decide +kernel, rfl⟩
theorem d_Comp_over_2 : dn m_Comp_over.2.1 2 (.invokevirtual 100) 3 5 := ⟨by decide +kernel, rfl⟩
theorem d_Comp_over_5 : dn m_Comp_over.2.1 5 (.astore_n 3) 1 6 := ⟨by decide +kernel, rfl⟩
theorem d_Comp_over_6 : dn m_Comp_over.2.1 6 (.aload_n 0) 1 7 := ⟨by decide +kernel, rfl⟩
theorem d_Comp_over_7 : dn m_Comp_over.2.1 7 (.iload_n 2) 1 8 := ⟨by decide +kernel, rfl⟩
theorem d_Comp_over_8 : dn m_Comp_over.2.1 8 (.invokevirtual 100) 3 11 := ⟨by decide +kernel, rfl⟩
theorem d_Comp_over_11 : dn m_Comp_over.2.1 11 (.astore 4) 2 13 := ⟨by decide +kernel, rfl⟩
theorem d_Comp_over_13 : dn m_Comp_over.2.1 13 (.aload 4) 2 15 := ⟨by decide +kernel, rfl⟩
theorem d_Comp_over_15 : dn m_Comp_over.2.1 15 (.invokevirtual 118) 3 18 := ⟨by decide +kernel, rfl⟩
theorem d_Comp_over_18 : db m_Comp_over.2.1 18 (.ifCond .ne) 29 21 := ⟨11, by decide +kernel, by decide, rfl⟩
theorem d_Comp_over_21 : dn m_Comp_over.2.1 21 (.new 82) 3 24 := ⟨by decide +kernel, rfl⟩
theorem d_Comp_over_24 : dn m_Comp_over.2.1 24 (.dup) 1 25 := ⟨by decide +kernel, rfl⟩
theorem d_Comp_over_25 : dn m_Comp_over.2.1 25 (.invokespecial 84) 3 28 := ⟨by decide +kernel, rfl⟩
theorem d_Comp_over_28 : dn m_Comp_over.2.1 28 (.athrow) 1 29 := ⟨by decide +kernel, rfl⟩
theorem d_Comp_over_29 : dn m_Comp_over.2.1 29 (.aload_n 0) 1 30 := ⟨by decide +kernel, rfl⟩
theorem d_Comp_over_30 : dn m_Comp_over.2.1 30 (.aload_n 3) 1 31 := ⟨by decide +kernel, rfl⟩
theorem d_Comp_over_31 : dn m_Comp_over.2.1 31 (.getfield 104) 3 34 := ⟨by decide +kernel, rfl⟩
theorem d_Comp_over_34 : dn m_Comp_over.2.1 34 (.aload 4) 2 36 := ⟨by decide +kernel, rfl⟩
theorem d_Comp_over_36 : dn m_Comp_over.2.1 36 (.getfield 104) 3 39 := ⟨by decide +kernel, rfl⟩
theorem d_Comp_over_39 : dn m_Comp_over.2.1 39 (.isub) 1 40 := ⟨by decide +kernel, rfl⟩
theorem d_Comp_over_40 : dn m_Comp_over.2.1 40 (.invokestatic 85) 3 43 := ⟨by decide +kernel, rfl⟩
theorem d_Comp_over_43 : dn m_Comp_over.2.1 43 (.invokevirtual 108) 3 46 := ⟨by decide +kernel, rfl⟩
theorem d_Comp_over_46 : dn m_Comp_over.2.1 46 (.istore 5) 2 48 := ⟨by decide +kernel, rfl⟩
theorem d_Comp_over_48 : dn m_Comp_over.2.1 48 (.iload 5) 2 50 := ⟨by decide +kernel, rfl⟩
theorem d_Comp_over_50 : db m_Comp_over.2.1 50 (.ifCond .eq) 56 53 := ⟨6, by decide +kernel, by decide, rfl⟩
theorem d_Comp_over_53 : dn m_Comp_over.2.1 53 (.iload 5) 2 55 := ⟨by decide +kernel, rfl⟩
theorem d_Comp_over_55 : dn m_Comp_over.2.1 55 (.ireturn) 1 56 := ⟨by decide +kernel, rfl⟩
theorem d_Comp_over_56 : dn m_Comp_over.2.1 56 (.aload_n 0) 1 57 := ⟨by decide +kernel, rfl⟩
theorem d_Comp_over_57 : dn m_Comp_over.2.1 57 (.getfield 29) 3 60 := ⟨by decide +kernel, rfl⟩
theorem d_Comp_over_60 : dn m_Comp_over.2.1 60 (.getfield 63) 3 63 := ⟨by decide +kernel, rfl⟩
theorem d_Comp_over_63 : dn m_Comp_over.2.1 63 (.aload_n 3) 1 64 := ⟨by decide +kernel, rfl⟩
theorem d_Comp_over_64 : dn m_Comp_over.2.1 64 (.invokevirtual 74) 3 67 := ⟨by decide +kernel, rfl⟩
theorem d_Comp_over_67 : dn m_Comp_over.2.1 67 (.aload_n 0) 1 68 := ⟨by decide +kernel, rfl⟩
theorem d_Comp_over_68 : dn m_Comp_over.2.1 68 (.getfield 29) 3 71 := ⟨by decide +kernel, rfl⟩
theorem d_Comp_over_71 : dn m_Comp_over.2.1 71 (.aload 4) 2 73 := ⟨by decide +kernel, rfl⟩
theorem d_Comp_over_73 : dn m_Comp_over.2.1 73 (.invokevirtual 121) 3 76 := ⟨by decide +kernel, rfl⟩
theorem d_Comp_over_76 : dn m_Comp_over.2.1 76 (.aload_n 0) 1 77 := ⟨by decide +kernel, rfl⟩
theorem d_Comp_over_77 : dn m_Comp_over.2.1 77 (.invokevirtual 97) 3 80 := ⟨by decide +kernel, rfl⟩
theorem d_Comp_over_80 : dn m_Comp_over.2.1 80 (.ireturn) 1 81 := ⟨by decide +kernel, rfl⟩
section Cover
variable {l : Launch} {K : KC} {M : AH} {c : Nat} {xs : List (Rat × Int)} {ws : List (List (Nat × Nat))} {wl : List Int}
theorem sp_Comp_over {a b : Int} {x y : Rat × Int} (hcx : CX K M c xs ws wl) (hms : MS xs ws wl) (hx : vat xs a = some x) (hy : vat xs b = some y) (hy0 : y.1 ≠ 0) :
    Sp l K m_Comp_over 8 6 508 [.ref c, iv a, iv b] M (fun r M' => r = some (iv (if rfs (isU (x.2 - y.2)) xs.length = 0 then kpR xs (x.1 / y.1) else rfs (isU (x.2 - y.2)) xs.length)) ∧ CX K M' c (if rfs (isU (x.2 - y.2)) xs.length = 0 then kpS xs (x.1 / y.1) (x.2 - y.2) else xs) ws wl) := by
  refine Sp.ofG R_Comp rfl (by decide) [some (.ref c), some (iv a), some (iv b), none, none, none] rfl (Nat.le_of_ble_eq_true rfl) ?_
  intro X hl hK hN hR hC hQ
  subst hl hK
  obtain ⟨vs, ss, rs, h⟩ := hcx
  obtain ⟨k1, p1, mi1, a1, b1, rfl, hk1, hv1, hc1, hF1, q1⟩ := h.at hx
  obtain ⟨k2, p2, mi2, a2, b2, rfl, hk2, hv2, hc2, hF2, q2⟩ := h.at hy
  have o1 : opx X.K M p1 100 x.1 x.2 := ⟨mi1, a1, b1, hF1, q1⟩
  have o2 : opx X.K M p2 100 y.1 y.2 := ⟨mi2, a2, b2, hF2, q2⟩
  obtain ⟨bx, ux1, ux2⟩ := hms.val hk1
  obtain ⟨bY, uy1, uy2⟩ := hms.val hk2
  refine g_aload_n hC rfl d_Comp_over_0 ?_
  refine g_iload_n hC rfl d_Comp_over_1 ?_
  refine g_callV1 hC (sp_Comp_of h hv1 hF1.1) oc_Comp_of ov_Comp_of ml_Comp_100 h.o rfl hR (Nat.le_of_ble_eq_true rfl) (Nat.le_of_ble_eq_true rfl) (Nat.le_of_ble_eq_true rfl) (Nat.le_of_ble_eq_true rfl) (Nat.le_of_ble_eq_true rfl) d_Comp_over_2 (fun r M hp => ?_)
  obtain ⟨rfl, rfl⟩ := hp
  refine g_sv ?_
  first | refine g_ast3 hC d_Comp_over_5 rfl (hN 3 rfl) ?_ | (refine g_fg2 ?_; refine g_ast3 hC d_Comp_over_5 rfl (hN 3 rfl) ?_)
  refine g_aload_n hC rfl d_Comp_over_6 ?_
  refine g_iload_n hC rfl d_Comp_over_7 ?_
  refine g_callV1 hC (sp_Comp_of h hv2 hF2.1) oc_Comp_of ov_Comp_of ml_Comp_100 h.o rfl hR (Nat.le_of_ble_eq_true rfl) (Nat.le_of_ble_eq_true rfl) (Nat.le_of_ble_eq_true rfl) (Nat.le_of_ble_eq_true rfl) (Nat.le_of_ble_eq_true rfl) d_Comp_over_8 (fun r M hp => ?_)
  obtain ⟨rfl, rfl⟩ := hp
  refine g_sv ?_
  have J : G X 0 0 M 43 [some (.ref c), some (iv (k1 : Int)), some (iv (k2 : Int)), some (.ref p1), some (.ref p2), none] [iv (bz (isU (x.2 - y.2))), .ref c] := by
    refine g_callV1 hC (sp_Comp_refusal h) oc_Comp_refusal ov_Comp_refusal ml_Comp_108 h.o rfl hR (Nat.le_of_ble_eq_true rfl) (Nat.le_of_ble_eq_true rfl) (Nat.le_of_ble_eq_true rfl) (Nat.le_of_ble_eq_true rfl) (Nat.le_of_ble_eq_true rfl) d_Comp_over_43 (fun r M hp => ?_)
    obtain ⟨rfl, rfl⟩ := hp
    refine g_sv ?_
    have hrf := rfs_in (isU (x.2 - y.2)) xs.length
    first | refine g_ist5 hC d_Comp_over_46 rfl (hN 5 rfl) ?_ | (refine g_fg4 ?_; refine g_ist5 hC d_Comp_over_46 rfl (hN 5 rfl) ?_)
    refine g_iload hC rfl d_Comp_over_48 ?_
    refine g_if_eq hC (by unfold I32; omega) d_Comp_over_50 (fun c9 => ?_) (fun c9 => ?_)
    · rw [if_pos c9, if_pos c9] at hQ
      refine g_aload_n hC rfl d_Comp_over_56 ?_
      refine g_get hC fb_Comp_29 h.o rfl d_Comp_over_57 ?_
      refine g_get hC fb_Comp_63 h.d.o rfl d_Comp_over_60 ?_
      refine g_aload_n hC rfl d_Comp_over_63 ?_
      refine g_callV1 hC (sp_copyQ h.d.fxm o1 (by omega) (b740 bx (by decide) (by decide)) (by decide) (by decide)) oc_Frac_copy ov_Frac_copy ml_Comp_74 h.d.fxm.rc.choose_spec rfl hR (Nat.le_of_ble_eq_true rfl) (Nat.le_of_ble_eq_true rfl) (Nat.le_of_ble_eq_true rfl) (Nat.le_of_ble_eq_true rfl) (Nat.le_of_ble_eq_true rfl) d_Comp_over_64 (fun r M1 hp => ?_)
      obtain ⟨rfl, oc, fc⟩ := hp
      refine g_s0 ?_
      obtain ⟨h1, m1⟩ := h.cp fc oc
      have o2' := o2.eq (M' := M1) (fun z _ _ => fc.2 z (by omega))
      refine g_aload_n hC rfl d_Comp_over_67 ?_
      refine g_get hC fb_Comp_29 h1.o rfl d_Comp_over_68 ?_
      refine g_aload hC rfl d_Comp_over_71 ?_
      refine g_callV1 hC (sp_Desk_over (m := 200) m1 o2' hy0 (by omega) (by decide) bx bY (by decide) (by decide) (by decide)) oc_Desk_over ov_Desk_over ml_Comp_121 h1.d.o rfl hR (Nat.le_of_ble_eq_true rfl) (Nat.le_of_ble_eq_true rfl) (Nat.le_of_ble_eq_true rfl) (Nat.le_of_ble_eq_true rfl) (Nat.le_of_ble_eq_true rfl) d_Comp_over_73 (fun r M2 hp => ?_)
      obtain ⟨rfl, m2, f2⟩ := hp
      refine g_s0 ?_
      have h2 := h1.md f2 m2.x
      refine g_aload_n hC rfl d_Comp_over_76 ?_
      have hxl : xs.length < 200 := by
        have := hms.1.1
        rcases Nat.lt_or_ge xs.length 200 with q | q
        · exact q
        · exfalso
          unfold rfs at c9
          split at c9
          · omega
          · rw [if_pos (by omega)] at c9; omega
      refine g_callV0 hC (sp_Comp_keep ⟨vs, ss, rs, h2⟩ hms hxl m2) oc_Comp_keep ov_Comp_keep ml_Comp_97 h2.o rfl hR (Nat.le_of_ble_eq_true rfl) (Nat.le_of_ble_eq_true rfl) (Nat.le_of_ble_eq_true rfl) (Nat.le_of_ble_eq_true rfl) (Nat.le_of_ble_eq_true rfl) d_Comp_over_77 (fun r M3 hp => ?_)
      obtain ⟨rfl, h3⟩ := hp
      refine g_sv ?_
      refine g_iret hC hQ (by decide) (by decide) d_Comp_over_80 ⟨rfl, h3⟩
    · rw [if_neg c9, if_neg c9] at hQ
      refine g_iload hC rfl d_Comp_over_53 ?_
      refine g_iret hC hQ (by decide) (by decide) d_Comp_over_55 ⟨rfl, vs, ss, rs, h⟩
  have hs0 : sgn mi2 a2 ≠ 0 := by
    have : a2 ≠ 0 := fun q => hy0 (Rat.num_eq_zero.mp (by have := q2.1; omega))
    unfold sgn
    rw [if_neg this]
    split <;> omega
  first | refine g_ast4 hC d_Comp_over_11 rfl (hN 4 rfl) ?_ | (refine g_fg3 ?_; refine g_ast4 hC d_Comp_over_11 rfl (hN 4 rfl) ?_)
  refine g_aload hC rfl d_Comp_over_13 ?_
  refine g_callV0 hC (sp_Frac_sign hF2 (by decide)) oc_Frac_sign ov_Frac_sign ml_Comp_118 hF2.1 rfl hR (Nat.le_of_ble_eq_true rfl) (Nat.le_of_ble_eq_true rfl) (Nat.le_of_ble_eq_true rfl) (Nat.le_of_ble_eq_true rfl) (Nat.le_of_ble_eq_true rfl) d_Comp_over_15 (fun r M hp => ?_)
  obtain ⟨rfl, rfl⟩ := hp
  refine g_sv ?_
  show G X 0 0 M 18 _ [iv (sgn mi2 a2)]
  refine g_if_ne hC (sgn_I _ _) d_Comp_over_18 (fun c8 => ?_) (fun c8 => ?_)
  · skip
    refine g_aload_n hC rfl d_Comp_over_29 ?_
    refine g_aload_n hC rfl d_Comp_over_30 ?_
    refine g_get hC fb_Comp_104 hF1.1 rfl d_Comp_over_31 ?_
    refine g_aload hC rfl d_Comp_over_34 ?_
    refine g_get hC fb_Comp_104 hF2.1 rfl d_Comp_over_36 ?_
    refine g_isub hC d_Comp_over_39 ?_
    refine g_callS1 hC (sp_Comp_isUnit (by unfold I32; omega)) oc_Comp_isUnit os_Comp_isUnit ml_Comp_85 hR (Nat.le_of_ble_eq_true rfl) (Nat.le_of_ble_eq_true rfl) (Nat.le_of_ble_eq_true rfl) (Nat.le_of_ble_eq_true rfl) (Nat.le_of_ble_eq_true rfl) d_Comp_over_40 (fun r M hp => ?_)
    obtain ⟨rfl, rfl⟩ := hp
    exact J
  · exact absurd c8 hs0
theorem st_Comp_over {a b : Int} (htr : l.stackTraces = false) (hcx : CX K M c xs ws wl) (hms : MS xs ws wl) (ha : I32 a) (hb : I32 b) (hv : vat xs a = none ∨ vat xs b = none) : St l K m_Comp_over 8 6 508 [.ref c, iv a, iv b] M R_IoE := by
  refine St.ofG R_Comp rfl (by decide) [some (.ref c), some (iv a), some (iv b), none, none, none] rfl (Nat.le_of_ble_eq_true rfl) ?_
  intro X hl hK hN hR hC hQ
  subst hl hK
  obtain ⟨vs, ss, rs, h⟩ := hcx
  refine g_aload_n hC rfl d_Comp_over_0 ?_
  refine g_iload_n hC rfl d_Comp_over_1 ?_
  cases hx : vat xs a with
  | none => exact g_callVT hC hQ rfl (st_Comp_of htr h ha (vat_none hx)) oc_Comp_of ov_Comp_of ml_Comp_100 h.o rfl rfl (st := []) rfl hR (by decide) (by decide) (by decide) (by decide) (by decide) d_Comp_over_2
  | some x =>
    have hy : vat xs b = none := by
      rcases hv with q | q
      · rw [hx] at q; cases q
      · exact q
    obtain ⟨k1, p1, mi1, a1, b1, rfl, hk1, hv1, hc1, hF1, q1⟩ := h.at hx
    refine g_callV1 hC (sp_Comp_of h hv1 hF1.1) oc_Comp_of ov_Comp_of ml_Comp_100 h.o rfl hR (Nat.le_of_ble_eq_true rfl) (Nat.le_of_ble_eq_true rfl) (Nat.le_of_ble_eq_true rfl) (Nat.le_of_ble_eq_true rfl) (Nat.le_of_ble_eq_true rfl) d_Comp_over_2 (fun r M hp => ?_)
    obtain ⟨rfl, rfl⟩ := hp
    refine g_sv ?_
    first | refine g_ast3 hC d_Comp_over_5 rfl (hN 3 rfl) ?_ | (refine g_fg2 ?_; refine g_ast3 hC d_Comp_over_5 rfl (hN 3 rfl) ?_)
    refine g_aload_n hC rfl d_Comp_over_6 ?_
    refine g_iload_n hC rfl d_Comp_over_7 ?_
    exact g_callVT hC hQ rfl (st_Comp_of htr h hb (vat_none hy)) oc_Comp_of ov_Comp_of ml_Comp_100 h.o rfl rfl (st := []) rfl hR (by decide) (by decide) (by decide) (by decide) (by decide) d_Comp_over_8
theorem st_Comp_over2 {a b : Int} {x y : Rat × Int} (htr : l.stackTraces = false) (hcx : CX K M c xs ws wl) (hms : MS xs ws wl) (hx : vat xs a = some x) (hy : vat xs b = some y) (hy0 : y.1 = 0) : St l K m_Comp_over 8 6 508 [.ref c, iv a, iv b] M R_ArE := by
  refine St.ofG R_Comp rfl (by decide) [some (.ref c), some (iv a), some (iv b), none, none, none] rfl (Nat.le_of_ble_eq_true rfl) ?_
  intro X hl hK hN hR hC hQ
  subst hl hK
  obtain ⟨vs, ss, rs, h⟩ := hcx
  obtain ⟨k1, p1, mi1, a1, b1, rfl, hk1, hv1, hc1, hF1, q1⟩ := h.at hx
  obtain ⟨k2, p2, mi2, a2, b2, rfl, hk2, hv2, hc2, hF2, q2⟩ := h.at hy
  have hs0 : sgn mi2 a2 = 0 := by
    have : a2 = 0 := by rw [q2.1, hy0]; rfl
    unfold sgn
    rw [if_pos this]
  refine g_aload_n hC rfl d_Comp_over_0 ?_
  refine g_iload_n hC rfl d_Comp_over_1 ?_
  refine g_callV1 hC (sp_Comp_of h hv1 hF1.1) oc_Comp_of ov_Comp_of ml_Comp_100 h.o rfl hR (Nat.le_of_ble_eq_true rfl) (Nat.le_of_ble_eq_true rfl) (Nat.le_of_ble_eq_true rfl) (Nat.le_of_ble_eq_true rfl) (Nat.le_of_ble_eq_true rfl) d_Comp_over_2 (fun r M hp => ?_)
  obtain ⟨rfl, rfl⟩ := hp
  refine g_sv ?_
  first | refine g_ast3 hC d_Comp_over_5 rfl (hN 3 rfl) ?_ | (refine g_fg2 ?_; refine g_ast3 hC d_Comp_over_5 rfl (hN 3 rfl) ?_)
  refine g_aload_n hC rfl d_Comp_over_6 ?_
  refine g_iload_n hC rfl d_Comp_over_7 ?_
  refine g_callV1 hC (sp_Comp_of h hv2 hF2.1) oc_Comp_of ov_Comp_of ml_Comp_100 h.o rfl hR (Nat.le_of_ble_eq_true rfl) (Nat.le_of_ble_eq_true rfl) (Nat.le_of_ble_eq_true rfl) (Nat.le_of_ble_eq_true rfl) (Nat.le_of_ble_eq_true rfl) d_Comp_over_8 (fun r M hp => ?_)
  obtain ⟨rfl, rfl⟩ := hp
  refine g_sv ?_
  first | refine g_ast4 hC d_Comp_over_11 rfl (hN 4 rfl) ?_ | (refine g_fg3 ?_; refine g_ast4 hC d_Comp_over_11 rfl (hN 4 rfl) ?_)
  refine g_aload hC rfl d_Comp_over_13 ?_
  refine g_callV0 hC (sp_Frac_sign hF2 (by decide)) oc_Frac_sign ov_Frac_sign ml_Comp_118 hF2.1 rfl hR (Nat.le_of_ble_eq_true rfl) (Nat.le_of_ble_eq_true rfl) (Nat.le_of_ble_eq_true rfl) (Nat.le_of_ble_eq_true rfl) (Nat.le_of_ble_eq_true rfl) d_Comp_over_15 (fun r M hp => ?_)
  obtain ⟨rfl, rfl⟩ := hp
  refine g_sv ?_
  show G X 0 0 M 18 _ [iv (sgn mi2 a2)]
  refine g_if_ne hC (sgn_I _ _) d_Comp_over_18 (fun c8 => ?_) (fun c8 => ?_)
  · exact absurd hs0 c8
  · exact g_throw hC htr hQ rfl cl_Comp_82 in_ArE ii_ArE ex_ArE (by decide) hR (by decide) (by decide) (by decide) d_Comp_over_21 d_Comp_over_24 d_Comp_over_25 d_Comp_over_28
end Cover
theorem d_Comp_order_0 : dn m_Comp_order.2.1 0 (.aload_n 0) 1 1 := ⟨by decide +kernel, rfl⟩
theorem d_Comp_order_1 : dn m_Comp_order.2.1 1 (.iload_n 1) 1 2 := ⟨by decide +kernel, rfl⟩
theorem d_Comp_order_2 : dn m_Comp_order.2.1 2 (.invokevirtual 100) 3 5 := ⟨by decide +kernel, rfl⟩
theorem d_Comp_order_5 : dn m_Comp_order.2.1 5 (.astore_n 3) 1 6 := ⟨by decide +kernel, rfl⟩
theorem d_Comp_order_6 : dn m_Comp_order.2.1 6 (.aload_n 0) 1 7 := ⟨by decide +kernel, rfl⟩
theorem d_Comp_order_7 : dn m_Comp_order.2.1 7 (.iload_n 2) 1 8 := ⟨by decide +kernel, rfl⟩
theorem d_Comp_order_8 : dn m_Comp_order.2.1 8 (.invokevirtual 100) 3 11 := ⟨by decide +kernel, rfl⟩
theorem d_Comp_order_11 : dn m_Comp_order.2.1 11 (.astore 4) 2 13 := ⟨by decide +kernel, rfl⟩
theorem d_Comp_order_13 : dn m_Comp_order.2.1 13 (.aload_n 3) 1 14 := ⟨by decide +kernel, rfl⟩
theorem d_Comp_order_14 : dn m_Comp_order.2.1 14 (.getfield 104) 3 17 := ⟨by decide +kernel, rfl⟩
theorem d_Comp_order_17 : dn m_Comp_order.2.1 17 (.aload 4) 2 19 := ⟨by decide +kernel, rfl⟩
theorem d_Comp_order_19 : dn m_Comp_order.2.1 19 (.getfield 104) 3 22 := ⟨by decide +kernel, rfl⟩
theorem d_Comp_order_22 : db m_Comp_order.2.1 22 (.if_icmp .eq) 30 25 := ⟨8, by decide +kernel, by decide, rfl⟩
theorem d_Comp_order_25 : dn m_Comp_order.2.1 25 (.bipush (-2)) 2 27 := ⟨by decide +kernel, rfl⟩
theorem d_Comp_order_27 : db m_Comp_order.2.1 27 (.goto) 40 30 := ⟨13, by decide +kernel, by decide, rfl⟩
theorem d_Comp_order_30 : dn m_Comp_order.2.1 30 (.aload_n 0) 1 31 := ⟨by decide +kernel, rfl⟩
theorem d_Comp_order_31 : dn m_Comp_order.2.1 31 (.getfield 29) 3 34 := ⟨by decide +kernel, rfl⟩
theorem d_Comp_order_34 : dn m_Comp_order.2.1 34 (.aload_n 3) 1 35 := ⟨by decide +kernel, rfl⟩
theorem d_Comp_order_35 : dn m_Comp_order.2.1 35 (.aload 4) 2 37 := ⟨by decide +kernel, rfl⟩
theorem d_Comp_order_37 : dn m_Comp_order.2.1 37 (.invokevirtual 124) 3 40 := ⟨by decide +kernel, rfl⟩
theorem d_Comp_order_40 : dn m_Comp_order.2.1 40 (.ireturn) 1 41 := ⟨by decide +kernel, rfl⟩
section Corder
variable {l : Launch} {K : KC} {M : AH} {c : Nat} {xs : List (Rat × Int)} {ws : List (List (Nat × Nat))} {wl : List Int}
theorem czr_I (x y : Rat) : I32 (czr x y) := by unfold czr I32; split <;> (try split) <;> omega
theorem sp_Comp_order {a b : Int} {x y : Rat × Int} (hcx : CX K M c xs ws wl) (hms : MS xs ws wl) (hx : vat xs a = some x) (hy : vat xs b = some y) :
    Sp l K m_Comp_order 8 6 508 [.ref c, iv a, iv b] M (fun r M' => r = some (iv (if x.2 = y.2 then czr x.1 y.1 else -2)) ∧ CX K M' c xs ws wl) := by
  refine Sp.ofG R_Comp rfl (by decide) [some (.ref c), some (iv a), some (iv b), none, none] rfl (Nat.le_of_ble_eq_true rfl) ?_
  intro X hl hK hN hR hC hQ
  subst hl hK
  obtain ⟨vs, ss, rs, h⟩ := hcx
  obtain ⟨k1, p1, mi1, a1, b1, rfl, hk1, hv1, hc1, hF1, q1⟩ := h.at hx
  obtain ⟨k2, p2, mi2, a2, b2, rfl, hk2, hv2, hc2, hF2, q2⟩ := h.at hy
  have o1 : opx X.K M p1 100 x.1 x.2 := ⟨mi1, a1, b1, hF1, q1⟩
  have o2 : opx X.K M p2 100 y.1 y.2 := ⟨mi2, a2, b2, hF2, q2⟩
  obtain ⟨bx, ux1, ux2⟩ := hms.val hk1
  obtain ⟨bY, uy1, uy2⟩ := hms.val hk2
  refine g_aload_n hC rfl d_Comp_order_0 ?_
  refine g_iload_n hC rfl d_Comp_order_1 ?_
  refine g_callV1 hC (sp_Comp_of h hv1 hF1.1) oc_Comp_of ov_Comp_of ml_Comp_100 h.o rfl hR (Nat.le_of_ble_eq_true rfl) (Nat.le_of_ble_eq_true rfl) (Nat.le_of_ble_eq_true rfl) (Nat.le_of_ble_eq_true rfl) (Nat.le_of_ble_eq_true rfl) d_Comp_order_2 (fun r M hp => ?_)
  obtain ⟨rfl, rfl⟩ := hp
  refine g_sv ?_
  first | refine g_ast3 hC d_Comp_order_5 rfl (hN 3 rfl) ?_ | (refine g_fg2 ?_; refine g_ast3 hC d_Comp_order_5 rfl (hN 3 rfl) ?_)
  refine g_aload_n hC rfl d_Comp_order_6 ?_
  refine g_iload_n hC rfl d_Comp_order_7 ?_
  refine g_callV1 hC (sp_Comp_of h hv2 hF2.1) oc_Comp_of ov_Comp_of ml_Comp_100 h.o rfl hR (Nat.le_of_ble_eq_true rfl) (Nat.le_of_ble_eq_true rfl) (Nat.le_of_ble_eq_true rfl) (Nat.le_of_ble_eq_true rfl) (Nat.le_of_ble_eq_true rfl) d_Comp_order_8 (fun r M hp => ?_)
  obtain ⟨rfl, rfl⟩ := hp
  refine g_sv ?_
  first | refine g_ast4 hC d_Comp_order_11 rfl (hN 4 rfl) ?_ | (refine g_fg3 ?_; refine g_ast4 hC d_Comp_order_11 rfl (hN 4 rfl) ?_)
  refine g_aload_n hC rfl d_Comp_order_13 ?_
  refine g_get hC fb_Comp_104 hF1.1 rfl d_Comp_order_14 ?_
  refine g_aload hC rfl d_Comp_order_17 ?_
  refine g_get hC fb_Comp_104 hF2.1 rfl d_Comp_order_19 ?_
  refine g_icmp_eq hC (by unfold I32; omega) (by unfold I32; omega) d_Comp_order_22 (fun c8 => ?_) (fun c8 => ?_)
  · rw [if_pos c8] at hQ
    have hD := h.d
    obtain ⟨mi, un, hDK⟩ := hD
    refine g_aload_n hC rfl d_Comp_order_30 ?_
    refine g_get hC fb_Comp_29 h.o rfl d_Comp_order_31 ?_
    refine g_aload_n hC rfl d_Comp_order_34 ?_
    refine g_aload hC rfl d_Comp_order_35 ?_
    refine g_callV2 hC (sp_Desk_against hDK o1 o2 (by omega) (by omega) (by decide) (by decide) bx bY (by decide) (by decide)) oc_Desk_against ov_Desk_against ml_Comp_124 hDK.o rfl hR (Nat.le_of_ble_eq_true rfl) (Nat.le_of_ble_eq_true rfl) (Nat.le_of_ble_eq_true rfl) (Nat.le_of_ble_eq_true rfl) (Nat.le_of_ble_eq_true rfl) d_Comp_order_37 (fun r M1 hp => ?_)
    obtain ⟨rfl, D1, f1⟩ := hp
    refine g_sv ?_
    refine g_iret hC hQ (by decide) (by decide) d_Comp_order_40 ⟨rfl, vs, ss, rs, h.md f1 ⟨_, _, D1⟩⟩
  · rw [if_neg c8] at hQ
    refine g_bipush hC (by decide) d_Comp_order_25 ?_
    refine g_goto hC d_Comp_order_27 ?_
    refine g_iret hC hQ (by decide) (by decide) d_Comp_order_40 ⟨rfl, vs, ss, rs, h⟩
theorem st_Comp_order {a b : Int} (htr : l.stackTraces = false) (hcx : CX K M c xs ws wl) (hms : MS xs ws wl) (ha : I32 a) (hb : I32 b) (hv : vat xs a = none ∨ vat xs b = none) : St l K m_Comp_order 8 6 508 [.ref c, iv a, iv b] M R_IoE := by
  refine St.ofG R_Comp rfl (by decide) [some (.ref c), some (iv a), some (iv b), none, none] rfl (Nat.le_of_ble_eq_true rfl) ?_
  intro X hl hK hN hR hC hQ
  subst hl hK
  obtain ⟨vs, ss, rs, h⟩ := hcx
  refine g_aload_n hC rfl d_Comp_order_0 ?_
  refine g_iload_n hC rfl d_Comp_order_1 ?_
  cases hx : vat xs a with
  | none => exact g_callVT hC hQ rfl (st_Comp_of htr h ha (vat_none hx)) oc_Comp_of ov_Comp_of ml_Comp_100 h.o rfl rfl (st := []) rfl hR (by decide) (by decide) (by decide) (by decide) (by decide) d_Comp_order_2
  | some x =>
    have hy : vat xs b = none := by
      rcases hv with q | q
      · rw [hx] at q; cases q
      · exact q
    obtain ⟨k1, p1, mi1, a1, b1, rfl, hk1, hv1, hc1, hF1, q1⟩ := h.at hx
    refine g_callV1 hC (sp_Comp_of h hv1 hF1.1) oc_Comp_of ov_Comp_of ml_Comp_100 h.o rfl hR (Nat.le_of_ble_eq_true rfl) (Nat.le_of_ble_eq_true rfl) (Nat.le_of_ble_eq_true rfl) (Nat.le_of_ble_eq_true rfl) (Nat.le_of_ble_eq_true rfl) d_Comp_order_2 (fun r M hp => ?_)
    obtain ⟨rfl, rfl⟩ := hp
    refine g_sv ?_
    first | refine g_ast3 hC d_Comp_order_5 rfl (hN 3 rfl) ?_ | (refine g_fg2 ?_; refine g_ast3 hC d_Comp_order_5 rfl (hN 3 rfl) ?_)
    refine g_aload_n hC rfl d_Comp_order_6 ?_
    refine g_iload_n hC rfl d_Comp_order_7 ?_
    exact g_callVT hC hQ rfl (st_Comp_of htr h hb (vat_none hy)) oc_Comp_of ov_Comp_of ml_Comp_100 h.o rfl rfl (st := []) rfl hR (by decide) (by decide) (by decide) (by decide) (by decide) d_Comp_order_8
end Corder
