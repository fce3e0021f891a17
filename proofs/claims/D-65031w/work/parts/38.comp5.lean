/-! Comp: digit, prism -/
theorem dgs_b {f : Int → Int} {n v : Nat} (h : rep f n v) : 1 ≤ dgs v ∧ dgs v ≤ 9 * n + 1 ∧ (0 < n → 9 * (n : Int) - 8 ≤ dgs v ∧ dgs v ≤ 9 * n) := by
  rw [dgs_of h]
  unfold dgf
  by_cases e : n = 0
  · rw [if_pos e]; exact ⟨by omega, by omega, fun q => by omega⟩
  · rw [if_neg e]
    have h1 := h.1 (n - 1) (by omega)
    have h2 := h.2.1 (n - 1) (by omega)
    rw [show ((n - 1 : Nat) : Int) = (n : Int) - 1 by omega] at h1 h2
    have h3 := nd_9 (x := (f ((n : Int) - 1)).toNat) (by omega)
    have h4 : 1 ≤ nd (f ((n : Int) - 1)).toNat := by rw [nd_s (by omega)]; omega
    exact ⟨by omega, by omega, fun _ => ⟨by omega, by omega⟩⟩
theorem dgs_900 {f : Int → Int} {n v : Nat} (h : rep f n v) : 900 < dgs v ↔ ¬ ((v : Int) < pw 100) := by
  rw [← rep_100 (c := 100) h]
  have := dgs_b h
  by_cases e : n = 0
  · subst e
    constructor
    · intro q; omega
    · intro q; omega
  · have := this.2.2 (by omega)
    omega
def wpart (x : Rat) (part : Int) : Nat := if part = 0 then x.num.natAbs else x.den
def okD (part : Int) : Bool := decide (part = 0 ∨ part = 1)
theorem d_Comp_digit_0 : dn m_Comp_digit.2.1 0 (.aload_n 0) 1 1 := ⟨by decide +kernel, rfl⟩
theorem d_Comp_digit_1 : dn m_Comp_digit.2.1 1 (.iload_n 1) 1 2 := ⟨by decide +kernel, rfl⟩
theorem d_Comp_digit_2 : dn m_Comp_digit.2.1 2 (.invokevirtual 100) 3 5 := ⟨by decide +kernel, rfl⟩
theorem d_Comp_digit_5 : dn m_Comp_digit.2.1 5 (.astore 4) 2 7 := ⟨by decide +kernel, rfl⟩
theorem d_Comp_digit_7 : dn m_Comp_digit.2.1 7 (.iload_n 2) 1 8 := ⟨by decide +kernel, rfl⟩
theorem d_Comp_digit_8 : db m_Comp_digit.2.1 8 (.ifCond .eq) 16 11 := ⟨8, by decide +kernel, by decide, rfl⟩
theorem d_Comp_digit_11 : dn m_Comp_digit.2.1 11 (.iload_n 2) 1 12 := ⟨by decide +kernel, rfl⟩
theorem d_Comp_digit_12 : dn m_Comp_digit.2.1 12 (.iconst 1) 1 13 := ⟨by decide +kernel, rfl⟩
theorem d_Comp_digit_13 : db m_Comp_digit.2.1 13 (.if_icmp .ne) 20 16 := ⟨7, by decide +kernel, by decide, rfl⟩
theorem d_Comp_digit_16 : dn m_Comp_digit.2.1 16 (.iconst 1) 1 17 := ⟨by decide +kernel, rfl⟩
theorem d_Comp_digit_17 : db m_Comp_digit.2.1 17 (.goto) 21 20 := ⟨4, by decide +kernel, by decide, rfl⟩
theorem d_Comp_digit_20 : dn m_Comp_digit.2.1 20 (.iconst 0) 1 21 := ⟨by decide +kernel, rfl⟩
theorem d_Comp_digit_21 : dn m_Comp_digit.2.1 21 (.istore 5) 2 23 := ⟨by decide +kernel, rfl⟩
theorem d_Comp_digit_23 : dn m_Comp_digit.2.1 23 (.iload_n 2) 1 24 := ⟨by decide +kernel, rfl⟩
theorem d_Comp_digit_24 : db m_Comp_digit.2.1 24 (.ifCond .ne) 35 27 := ⟨11, by decide +kernel, by decide, rfl⟩
theorem d_Comp_digit_27 : dn m_Comp_digit.2.1 27 (.aload 4) 2 29 := ⟨by decide +kernel, rfl⟩
theorem d_Comp_digit_29 : dn m_Comp_digit.2.1 29 (.getfield 144) 3 32 := ⟨by decide +kernel, rfl⟩
theorem d_Comp_digit_32 : db m_Comp_digit.2.1 32 (.goto) 40 35 := ⟨8, by decide +kernel, by decide, rfl⟩
theorem d_Comp_digit_35 : dn m_Comp_digit.2.1 35 (.aload 4) 2 37 := ⟨by decide +kernel, rfl⟩
theorem d_Comp_digit_37 : dn m_Comp_digit.2.1 37 (.getfield 134) 3 40 := ⟨by decide +kernel, rfl⟩
theorem d_Comp_digit_40 : dn m_Comp_digit.2.1 40 (.astore 6) 2 42 := ⟨by decide +kernel, rfl⟩
theorem d_Comp_digit_42 : dn m_Comp_digit.2.1 42 (.iload 5) 2 44 := ⟨by decide +kernel, rfl⟩
theorem d_Comp_digit_44 : db m_Comp_digit.2.1 44 (.ifCond .ne) 56 47 := ⟨12, by decide +kernel, by decide, rfl⟩
theorem d_Comp_digit_47 : dn m_Comp_digit.2.1 47 (.iload_n 3) 1 48 := ⟨by decide +kernel, rfl⟩
theorem d_Comp_digit_48 : dn m_Comp_digit.2.1 48 (.iconst 0) 1 49 := ⟨by decide +kernel, rfl⟩
theorem d_Comp_digit_49 : dn m_Comp_digit.2.1 49 (.invokestatic 150) 3 52 := ⟨by decide +kernel, rfl⟩
theorem d_Comp_digit_52 : dn m_Comp_digit.2.1 52 (.iconst 1) 1 53 := ⟨by decide +kernel, rfl⟩
theorem d_Comp_digit_53 : dn m_Comp_digit.2.1 53 (.invokestatic 43) 3 56 := ⟨by decide +kernel, rfl⟩
theorem d_Comp_digit_56 : dn m_Comp_digit.2.1 56 (.iload 5) 2 58 := ⟨by decide +kernel, rfl⟩
theorem d_Comp_digit_58 : dn m_Comp_digit.2.1 58 (.invokestatic 89) 3 61 := ⟨by decide +kernel, rfl⟩
theorem d_Comp_digit_61 : dn m_Comp_digit.2.1 61 (.iload_n 3) 1 62 := ⟨by decide +kernel, rfl⟩
theorem d_Comp_digit_62 : dn m_Comp_digit.2.1 62 (.aload 6) 2 64 := ⟨by decide +kernel, rfl⟩
theorem d_Comp_digit_64 : dn m_Comp_digit.2.1 64 (.invokevirtual 147) 3 67 := ⟨by decide +kernel, rfl⟩
theorem d_Comp_digit_67 : dn m_Comp_digit.2.1 67 (.invokestatic 43) 3 70 := ⟨by decide +kernel, rfl⟩
theorem d_Comp_digit_70 : dn m_Comp_digit.2.1 70 (.aload 6) 2 72 := ⟨by decide +kernel, rfl⟩
theorem d_Comp_digit_72 : dn m_Comp_digit.2.1 72 (.iload_n 3) 1 73 := ⟨by decide +kernel, rfl⟩
theorem d_Comp_digit_73 : dn m_Comp_digit.2.1 73 (.invokevirtual 156) 3 76 := ⟨by decide +kernel, rfl⟩
theorem d_Comp_digit_76 : dn m_Comp_digit.2.1 76 (.ireturn) 1 77 := ⟨by decide +kernel, rfl⟩
section Cdigit
variable {l : Launch} {K : KC} {M : AH} {c : Nat} {xs : List (Rat × Int)} {ws : List (List (Nat × Nat))} {wl : List Int}
/-- up to the test of known -/
theorem g_digit_0 {X : CT} {a part i : Int} {p w1 w2 : Nat} {fl : List Value} (hC : Cx X R_Comp m_Comp_digit.2.1 m_Comp_digit.2.2.2 "digit" false) (hN : ∀ k, Nat.blt k m_Comp_digit.2.2.1 = true → k < X.nL) (hpt : I32 part) (hF : M.1 p = some (oO 1 (.ref w1 :: .ref w2 :: fl)))
    (J : G X 0 0 M 42 [some (.ref c), some (iv a), some (iv part), some (iv i), some (.ref p), some (iv (bz (okD part))), some (.ref (if part = 0 then w1 else w2))] []) : G X 0 0 M 7 [some (.ref c), some (iv a), some (iv part), some (iv i), some (.ref p), none, none] [] := by
  have J2 : ∀ z : Int, z = bz (okD part) → G X 0 0 M 21 [some (.ref c), some (iv a), some (iv part), some (iv i), some (.ref p), none, none] [iv z] := by
    intro z hz
    subst hz
    first | refine g_ist5 hC d_Comp_digit_21 rfl (hN 5 rfl) ?_ | (refine g_fg4 ?_; refine g_ist5 hC d_Comp_digit_21 rfl (hN 5 rfl) ?_)
    refine g_iload_n hC rfl d_Comp_digit_23 ?_
    refine g_if_ne hC hpt d_Comp_digit_24 (fun c1 => ?_) (fun c1 => ?_)
    · rw [if_neg c1] at J
      refine g_aload hC rfl d_Comp_digit_35 ?_
      refine g_get hC fb_Comp_134 hF rfl d_Comp_digit_37 ?_
      first | refine g_ast6 hC d_Comp_digit_40 rfl (hN 6 rfl) ?_ | (refine g_fg5 ?_; refine g_ast6 hC d_Comp_digit_40 rfl (hN 6 rfl) ?_)
      exact J
    · rw [if_pos c1] at J
      refine g_aload hC rfl d_Comp_digit_27 ?_
      refine g_get hC fb_Comp_144 hF rfl d_Comp_digit_29 ?_
      refine g_goto hC d_Comp_digit_32 ?_
      first | refine g_ast6 hC d_Comp_digit_40 rfl (hN 6 rfl) ?_ | (refine g_fg5 ?_; refine g_ast6 hC d_Comp_digit_40 rfl (hN 6 rfl) ?_)
      exact J
  refine g_iload_n hC rfl d_Comp_digit_7 ?_
  refine g_if_eq hC hpt d_Comp_digit_8 (fun c1 => ?_) (fun c1 => ?_)
  · refine g_iconst hC d_Comp_digit_16 ?_
    refine g_goto hC d_Comp_digit_17 ?_
    exact J2 1 (by rw [show okD part = true from decide_eq_true (by omega)]; rfl)
  · refine g_iload_n hC rfl d_Comp_digit_11 ?_
    refine g_iconst hC d_Comp_digit_12 ?_
    refine g_icmp_ne hC hpt (by unfold I32; omega) d_Comp_digit_13 (fun c2 => ?_) (fun c2 => ?_)
    · refine g_iconst hC d_Comp_digit_20 ?_
      exact J2 0 (by rw [show okD part = false from decide_eq_false (by omega)]; rfl)
    · refine g_iconst hC d_Comp_digit_16 ?_
      refine g_goto hC d_Comp_digit_17 ?_
      exact J2 1 (by rw [show okD part = true from decide_eq_true (by omega)]; rfl)
theorem isF.wp {p a b : Nat} {mi : Bool} {un : Int} {x : Rat} {part : Int} (hF : isF K M p 100 a b mi un) (q : isQ mi a b x) : wv K M (if part = 0 then p + 1 else p + 3) 100 (wpart x part) := by
  unfold wpart
  by_cases e : part = 0
  · rw [if_pos e, if_pos e, ← q.1]; exact hF.2.1
  · rw [if_neg e, if_neg e, ← q.2.1]; exact hF.2.2
theorem wv.dg {p v : Nat} (h : wv K M p 100 v) : 1 ≤ dgs v ∧ dgs v ≤ 901 := by
  obtain ⟨n, f, _, hn, hr⟩ := h
  have := dgs_b hr
  omega
theorem sp_Comp_digit {a part i : Int} {x : Rat × Int} (hcx : CX K M c xs ws wl) (hpt : I32 part) (hi : I32 i) (hx : vat xs a = some x) (hok : okD part = true) (h0 : 0 ≤ i) (h1 : i < dgs (wpart x.1 part)) :
    Sp l K m_Comp_digit 8 6 508 [.ref c, iv a, iv part, iv i] M (fun r M' => r = some (iv (dts (wpart x.1 part) i)) ∧ M' = M) := by
  refine Sp.ofG R_Comp rfl (by decide) [some (.ref c), some (iv a), some (iv part), some (iv i), none, none, none] rfl (Nat.le_of_ble_eq_true rfl) ?_
  intro X hl hK hN hR hC hQ
  subst hl hK
  obtain ⟨vs, ss, rs, h⟩ := hcx
  obtain ⟨k1, p1, mi1, a1, b1, rfl, hk1, hv1, hc1, hF1, q1⟩ := h.at hx
  have hw := hF1.wp (part := part) q1
  have hdg := hw.dg
  refine g_aload_n hC rfl d_Comp_digit_0 ?_
  refine g_iload_n hC rfl d_Comp_digit_1 ?_
  refine g_callV1 hC (sp_Comp_of h hv1 hF1.1) oc_Comp_of ov_Comp_of ml_Comp_100 h.o rfl hR (Nat.le_of_ble_eq_true rfl) (Nat.le_of_ble_eq_true rfl) (Nat.le_of_ble_eq_true rfl) (Nat.le_of_ble_eq_true rfl) (Nat.le_of_ble_eq_true rfl) d_Comp_digit_2 (fun r M hp => ?_)
  obtain ⟨rfl, rfl⟩ := hp
  refine g_sv ?_
  first | refine g_ast4 hC d_Comp_digit_5 rfl (hN 4 rfl) ?_ | (refine g_fg3 ?_; refine g_ast4 hC d_Comp_digit_5 rfl (hN 4 rfl) ?_)
  refine g_digit_0 hC hN hpt hF1.1 ?_
  rw [hok]
  refine g_iload hC rfl d_Comp_digit_42 ?_
  refine g_if_ne hC (bz_I _) d_Comp_digit_44 (fun c => ?_) (fun c => ?_)
  · refine g_iload hC rfl d_Comp_digit_56 ?_
    refine g_callS1 hC sp_Comp_need oc_Comp_need os_Comp_need ml_Comp_89 hR (Nat.le_of_ble_eq_true rfl) (Nat.le_of_ble_eq_true rfl) (Nat.le_of_ble_eq_true rfl) (Nat.le_of_ble_eq_true rfl) (Nat.le_of_ble_eq_true rfl) d_Comp_digit_58 (fun r M hp => ?_)
    obtain ⟨rfl, rfl⟩ := hp
    refine g_s0 ?_
    refine g_iload_n hC rfl d_Comp_digit_61 ?_
    refine g_aload hC rfl d_Comp_digit_62 ?_
    refine g_callV0 hC (sp_Whole_digits hw (by decide)) oc_Whole_digits ov_Whole_digits ml_Comp_147 hw.rc.choose_spec rfl hR (Nat.le_of_ble_eq_true rfl) (Nat.le_of_ble_eq_true rfl) (Nat.le_of_ble_eq_true rfl) (Nat.le_of_ble_eq_true rfl) (Nat.le_of_ble_eq_true rfl) d_Comp_digit_64 (fun r M hp => ?_)
    obtain ⟨rfl, rfl⟩ := hp
    refine g_sv ?_
    refine g_callS2 hC (sp_Comp_there h0 h1 (by unfold I32; omega)) oc_Comp_there os_Comp_there ml_Comp_43 hR (Nat.le_of_ble_eq_true rfl) (Nat.le_of_ble_eq_true rfl) (Nat.le_of_ble_eq_true rfl) (Nat.le_of_ble_eq_true rfl) (Nat.le_of_ble_eq_true rfl) d_Comp_digit_67 (fun r M hp => ?_)
    obtain ⟨rfl, rfl⟩ := hp
    refine g_s0 ?_
    refine g_aload hC rfl d_Comp_digit_70 ?_
    refine g_iload_n hC rfl d_Comp_digit_72 ?_
    refine g_callV1 hC (sp_Whole_digit hw (by decide) h0 hi) oc_Whole_digit ov_Whole_digit ml_Comp_156 hw.rc.choose_spec rfl hR (Nat.le_of_ble_eq_true rfl) (Nat.le_of_ble_eq_true rfl) (Nat.le_of_ble_eq_true rfl) (Nat.le_of_ble_eq_true rfl) (Nat.le_of_ble_eq_true rfl) d_Comp_digit_73 (fun r M hp => ?_)
    obtain ⟨rfl, rfl⟩ := hp
    refine g_sv ?_
    refine g_iret hC hQ (by decide) (by decide) d_Comp_digit_76 ⟨rfl, rfl⟩
  · exact absurd c (by decide)
theorem st_Comp_digit {a part i : Int} (htr : l.stackTraces = false) (hcx : CX K M c xs ws wl) (ha : I32 a) (hpt : I32 part) (hi : I32 i) (hv : ∀ x, vat xs a = some x → i < 0 ∨ okD part = true ∧ dgs (wpart x.1 part) ≤ i) : St l K m_Comp_digit 8 6 508 [.ref c, iv a, iv part, iv i] M R_IoE := by
  refine St.ofG R_Comp rfl (by decide) [some (.ref c), some (iv a), some (iv part), some (iv i), none, none, none] rfl (Nat.le_of_ble_eq_true rfl) ?_
  intro X hl hK hN hR hC hQ
  subst hl hK
  obtain ⟨vs, ss, rs, h⟩ := hcx
  refine g_aload_n hC rfl d_Comp_digit_0 ?_
  refine g_iload_n hC rfl d_Comp_digit_1 ?_
  cases hx : vat xs a with
  | none => exact g_callVT hC hQ rfl (st_Comp_of htr h ha (vat_none hx)) oc_Comp_of ov_Comp_of ml_Comp_100 h.o rfl rfl (st := []) rfl hR (by decide) (by decide) (by decide) (by decide) (by decide) d_Comp_digit_2
  | some x =>
    have hv' := hv x hx
    obtain ⟨k1, p1, mi1, a1, b1, rfl, hk1, hv1, hc1, hF1, q1⟩ := h.at hx
    have hw := hF1.wp (part := part) q1
    have hdg := hw.dg
    refine g_callV1 hC (sp_Comp_of h hv1 hF1.1) oc_Comp_of ov_Comp_of ml_Comp_100 h.o rfl hR (Nat.le_of_ble_eq_true rfl) (Nat.le_of_ble_eq_true rfl) (Nat.le_of_ble_eq_true rfl) (Nat.le_of_ble_eq_true rfl) (Nat.le_of_ble_eq_true rfl) d_Comp_digit_2 (fun r M hp => ?_)
    obtain ⟨rfl, rfl⟩ := hp
    refine g_sv ?_
    first | refine g_ast4 hC d_Comp_digit_5 rfl (hN 4 rfl) ?_ | (refine g_fg3 ?_; refine g_ast4 hC d_Comp_digit_5 rfl (hN 4 rfl) ?_)
    refine g_digit_0 hC hN hpt hF1.1 ?_
    cases hok : okD part with
    | true =>
      refine g_iload hC rfl d_Comp_digit_42 ?_
      refine g_if_ne hC (bz_I _) d_Comp_digit_44 (fun c1 => ?_) (fun c1 => ?_)
      · refine g_iload hC rfl d_Comp_digit_56 ?_
        refine g_callS1 hC sp_Comp_need oc_Comp_need os_Comp_need ml_Comp_89 hR (Nat.le_of_ble_eq_true rfl) (Nat.le_of_ble_eq_true rfl) (Nat.le_of_ble_eq_true rfl) (Nat.le_of_ble_eq_true rfl) (Nat.le_of_ble_eq_true rfl) d_Comp_digit_58 (fun r M hp => ?_)
        obtain ⟨rfl, rfl⟩ := hp
        refine g_s0 ?_
        refine g_iload_n hC rfl d_Comp_digit_61 ?_
        refine g_aload hC rfl d_Comp_digit_62 ?_
        refine g_callV0 hC (sp_Whole_digits hw (by decide)) oc_Whole_digits ov_Whole_digits ml_Comp_147 hw.rc.choose_spec rfl hR (Nat.le_of_ble_eq_true rfl) (Nat.le_of_ble_eq_true rfl) (Nat.le_of_ble_eq_true rfl) (Nat.le_of_ble_eq_true rfl) (Nat.le_of_ble_eq_true rfl) d_Comp_digit_64 (fun r M hp => ?_)
        obtain ⟨rfl, rfl⟩ := hp
        refine g_sv ?_
        exact g_callST hC hQ rfl (st_Comp_there htr hi (n := dgs (wpart x.1 part)) (by unfold I32; omega) (by rcases hv' with q | q <;> omega)) oc_Comp_there os_Comp_there ml_Comp_43 rfl (st := []) rfl hR (by decide) (by decide) (by decide) (by decide) (by decide) d_Comp_digit_67
      · exact absurd c1 (by decide)
    | false =>
      have hi0 : i < 0 := by
        rcases hv' with q | ⟨q, _⟩
        · exact q
        · rw [hok] at q; cases q
      refine g_iload hC rfl d_Comp_digit_42 ?_
      refine g_if_ne hC (bz_I _) d_Comp_digit_44 (fun c1 => ?_) (fun c1 => ?_)
      · exact absurd rfl c1
      · refine g_iload_n hC rfl d_Comp_digit_47 ?_
        refine g_iconst hC d_Comp_digit_48 ?_
        refine g_callS2 hC (sp_min hi i0) oc_Math_min os_Math_min ml_Comp_150 hR (Nat.le_of_ble_eq_true rfl) (Nat.le_of_ble_eq_true rfl) (Nat.le_of_ble_eq_true rfl) (Nat.le_of_ble_eq_true rfl) (Nat.le_of_ble_eq_true rfl) d_Comp_digit_49 (fun r M hp => ?_)
        obtain ⟨rfl, rfl⟩ := hp
        refine g_sv ?_
        rw [show min i 0 = i by omega]
        refine g_iconst hC d_Comp_digit_52 ?_
        exact g_callST hC hQ rfl (st_Comp_there htr hi (n := 1) (by unfold I32; omega) (Or.inl hi0)) oc_Comp_there os_Comp_there ml_Comp_43 rfl (st := []) rfl hR (by decide) (by decide) (by decide) (by decide) (by decide) d_Comp_digit_53
theorem st_Comp_digit2 {a part i : Int} {x : Rat × Int} (htr : l.stackTraces = false) (hcx : CX K M c xs ws wl) (hpt : I32 part) (hi : I32 i) (hx : vat xs a = some x) (hok : okD part = false) (h0 : 0 ≤ i) : St l K m_Comp_digit 8 6 508 [.ref c, iv a, iv part, iv i] M R_IaE := by
  refine St.ofG R_Comp rfl (by decide) [some (.ref c), some (iv a), some (iv part), some (iv i), none, none, none] rfl (Nat.le_of_ble_eq_true rfl) ?_
  intro X hl hK hN hR hC hQ
  subst hl hK
  obtain ⟨vs, ss, rs, h⟩ := hcx
  obtain ⟨k1, p1, mi1, a1, b1, rfl, hk1, hv1, hc1, hF1, q1⟩ := h.at hx
  refine g_aload_n hC rfl d_Comp_digit_0 ?_
  refine g_iload_n hC rfl d_Comp_digit_1 ?_
  refine g_callV1 hC (sp_Comp_of h hv1 hF1.1) oc_Comp_of ov_Comp_of ml_Comp_100 h.o rfl hR (Nat.le_of_ble_eq_true rfl) (Nat.le_of_ble_eq_true rfl) (Nat.le_of_ble_eq_true rfl) (Nat.le_of_ble_eq_true rfl) (Nat.le_of_ble_eq_true rfl) d_Comp_digit_2 (fun r M hp => ?_)
  obtain ⟨rfl, rfl⟩ := hp
  refine g_sv ?_
  first | refine g_ast4 hC d_Comp_digit_5 rfl (hN 4 rfl) ?_ | (refine g_fg3 ?_; refine g_ast4 hC d_Comp_digit_5 rfl (hN 4 rfl) ?_)
  refine g_digit_0 hC hN hpt hF1.1 ?_
  rw [hok]
  refine g_iload hC rfl d_Comp_digit_42 ?_
  refine g_if_ne hC (bz_I _) d_Comp_digit_44 (fun c1 => ?_) (fun c1 => ?_)
  · exact absurd rfl c1
  · refine g_iload_n hC rfl d_Comp_digit_47 ?_
    refine g_iconst hC d_Comp_digit_48 ?_
    refine g_callS2 hC (sp_min hi i0) oc_Math_min os_Math_min ml_Comp_150 hR (Nat.le_of_ble_eq_true rfl) (Nat.le_of_ble_eq_true rfl) (Nat.le_of_ble_eq_true rfl) (Nat.le_of_ble_eq_true rfl) (Nat.le_of_ble_eq_true rfl) d_Comp_digit_49 (fun r M hp => ?_)
    obtain ⟨rfl, rfl⟩ := hp
    refine g_sv ?_
    rw [show min i 0 = 0 by omega]
    refine g_iconst hC d_Comp_digit_52 ?_
    refine g_callS2 hC (sp_Comp_there (by omega) (by omega) (by unfold I32; omega)) oc_Comp_there os_Comp_there ml_Comp_43 hR (Nat.le_of_ble_eq_true rfl) (Nat.le_of_ble_eq_true rfl) (Nat.le_of_ble_eq_true rfl) (Nat.le_of_ble_eq_true rfl) (Nat.le_of_ble_eq_true rfl) d_Comp_digit_53 (fun r M hp => ?_)
    obtain ⟨rfl, rfl⟩ := hp
    refine g_s0 ?_
    refine g_iload hC rfl d_Comp_digit_56 ?_
    exact g_callST hC hQ rfl (st_Comp_need htr) oc_Comp_need os_Comp_need ml_Comp_89 rfl (st := []) rfl hR (by decide) (by decide) (by decide) (by decide) (by decide) d_Comp_digit_58
end Cdigit
theorem d_Comp_prism_0 : dn m_Comp_prism.2.1 0 (.aload_n 0) 1 1 := ⟨by decide +kernel, rfl⟩
theorem d_Comp_prism_1 : dn m_Comp_prism.2.1 1 (.iload_n 1) 1 2 := ⟨by decide +kernel, rfl⟩
theorem d_Comp_prism_2 : dn m_Comp_prism.2.1 2 (.invokevirtual 100) 3 5 := ⟨by decide +kernel, rfl⟩
theorem d_Comp_prism_5 : dn m_Comp_prism.2.1 5 (.astore 5) 2 7 := ⟨by decide +kernel, rfl⟩
theorem d_Comp_prism_7 : dn m_Comp_prism.2.1 7 (.aload_n 0) 1 8 := ⟨by decide +kernel, rfl⟩
theorem d_Comp_prism_8 : dn m_Comp_prism.2.1 8 (.iload_n 2) 1 9 := ⟨by decide +kernel, rfl⟩
theorem d_Comp_prism_9 : dn m_Comp_prism.2.1 9 (.invokevirtual 100) 3 12 := ⟨by decide +kernel, rfl⟩
theorem d_Comp_prism_12 : dn m_Comp_prism.2.1 12 (.astore 6) 2 14 := ⟨by decide +kernel, rfl⟩
theorem d_Comp_prism_14 : dn m_Comp_prism.2.1 14 (.aload_n 0) 1 15 := ⟨by decide +kernel, rfl⟩
theorem d_Comp_prism_15 : dn m_Comp_prism.2.1 15 (.iload_n 3) 1 16 := ⟨by decide +kernel, rfl⟩
theorem d_Comp_prism_16 : dn m_Comp_prism.2.1 16 (.invokevirtual 100) 3 19 := ⟨by decide +kernel, rfl⟩
theorem d_Comp_prism_19 : dn m_Comp_prism.2.1 19 (.astore 7) 2 21 := ⟨by decide +kernel, rfl⟩
theorem d_Comp_prism_21 : dn m_Comp_prism.2.1 21 (.aload_n 0) 1 22 := ⟨by decide +kernel, rfl⟩
theorem d_Comp_prism_22 : dn m_Comp_prism.2.1 22 (.iload 4) 2 24 := ⟨by decide +kernel, rfl⟩
theorem d_Comp_prism_24 : dn m_Comp_prism.2.1 24 (.invokevirtual 100) 3 27 := ⟨by decide +kernel, rfl⟩
theorem d_Comp_prism_27 : dn m_Comp_prism.2.1 27 (.astore 8) 2 29 := ⟨by decide +kernel, rfl⟩
theorem d_Comp_prism_29 : dn m_Comp_prism.2.1 29 (.aload_n 0) 1 30 := ⟨by decide +kernel, rfl⟩
theorem d_Comp_prism_30 : dn m_Comp_prism.2.1 30 (.aload 5) 2 32 := ⟨by decide +kernel, rfl⟩
theorem d_Comp_prism_32 : dn m_Comp_prism.2.1 32 (.getfield 104) 3 35 := ⟨by decide +kernel, rfl⟩
theorem d_Comp_prism_35 : dn m_Comp_prism.2.1 35 (.aload 6) 2 37 := ⟨by decide +kernel, rfl⟩
theorem d_Comp_prism_37 : dn m_Comp_prism.2.1 37 (.getfield 104) 3 40 := ⟨by decide +kernel, rfl⟩
theorem d_Comp_prism_40 : db m_Comp_prism.2.1 40 (.if_icmp .ne) 77 43 := ⟨37, by decide +kernel, by decide, rfl⟩
theorem d_Comp_prism_43 : dn m_Comp_prism.2.1 43 (.aload 5) 2 45 := ⟨by decide +kernel, rfl⟩
theorem d_Comp_prism_45 : dn m_Comp_prism.2.1 45 (.getfield 104) 3 48 := ⟨by decide +kernel, rfl⟩
theorem d_Comp_prism_48 : dn m_Comp_prism.2.1 48 (.aload 7) 2 50 := ⟨by decide +kernel, rfl⟩
theorem d_Comp_prism_50 : dn m_Comp_prism.2.1 50 (.getfield 104) 3 53 := ⟨by decide +kernel, rfl⟩
theorem d_Comp_prism_53 : db m_Comp_prism.2.1 53 (.if_icmp .ne) 77 56 := ⟨24, by decide +kernel, by decide, rfl⟩
theorem d_Comp_prism_56 : dn m_Comp_prism.2.1 56 (.aload 5) 2 58 := ⟨by decide +kernel, rfl⟩
theorem d_Comp_prism_58 : dn m_Comp_prism.2.1 58 (.getfield 104) 3 61 := ⟨by decide +kernel, rfl⟩
theorem d_Comp_prism_61 : dn m_Comp_prism.2.1 61 (.aload 8) 2 63 := ⟨by decide +kernel, rfl⟩
theorem d_Comp_prism_63 : dn m_Comp_prism.2.1 63 (.getfield 104) 3 66 := ⟨by decide +kernel, rfl⟩
theorem d_Comp_prism_66 : dn m_Comp_prism.2.1 66 (.iadd) 1 67 := ⟨by decide +kernel, rfl⟩
theorem d_Comp_prism_67 : dn m_Comp_prism.2.1 67 (.invokestatic 85) 3 70 := ⟨by decide +kernel, rfl⟩
theorem d_Comp_prism_70 : db m_Comp_prism.2.1 70 (.ifCond .eq) 77 73 := ⟨7, by decide +kernel, by decide, rfl⟩
theorem d_Comp_prism_73 : dn m_Comp_prism.2.1 73 (.iconst 1) 1 74 := ⟨by decide +kernel, rfl⟩
theorem d_Comp_prism_74 : db m_Comp_prism.2.1 74 (.goto) 78 77 := ⟨4, by decide +kernel, by decide, rfl⟩
theorem d_Comp_prism_77 : dn m_Comp_prism.2.1 77 (.iconst 0) 1 78 := ⟨by decide +kernel, rfl⟩
theorem d_Comp_prism_78 : dn m_Comp_prism.2.1 78 (.invokevirtual 108) 3 81 := ⟨by decide +kernel, rfl⟩
theorem d_Comp_prism_81 : dn m_Comp_prism.2.1 81 (.istore 9) 2 83 := ⟨by decide +kernel, rfl⟩
theorem d_Comp_prism_83 : dn m_Comp_prism.2.1 83 (.iload 9) 2 85 := ⟨by decide +kernel, rfl⟩
theorem d_Comp_prism_85 : db m_Comp_prism.2.1 85 (.ifCond .eq) 91 88 := ⟨6, by decide +kernel, by decide, rfl⟩
theorem d_Comp_prism_88 : dn m_Comp_prism.2.1 88 (.iload 9) 2 90 := ⟨by decide +kernel, rfl⟩
theorem d_Comp_prism_90 : dn m_Comp_prism.2.1 90 (.ireturn) 1 91 := ⟨by decide +kernel, rfl⟩
theorem d_Comp_prism_91 : dn m_Comp_prism.2.1 91 (.aload_n 0) 1 92 := ⟨by decide +kernel, rfl⟩
theorem d_Comp_prism_92 : dn m_Comp_prism.2.1 92 (.getfield 29) 3 95 := ⟨by decide +kernel, rfl⟩
theorem d_Comp_prism_95 : dn m_Comp_prism.2.1 95 (.getfield 63) 3 98 := ⟨by decide +kernel, rfl⟩
theorem d_Comp_prism_98 : dn m_Comp_prism.2.1 98 (.aload 6) 2 100 := ⟨by decide +kernel, rfl⟩
theorem d_Comp_prism_100 : dn m_Comp_prism.2.1 100 (.invokevirtual 74) 3 103 := ⟨by decide +kernel, rfl⟩
theorem d_Comp_prism_103 : dn m_Comp_prism.2.1 103 (.aload_n 0) 1 104 := ⟨by decide +kernel, rfl⟩
theorem d_Comp_prism_104 : dn m_Comp_prism.2.1 104 (.getfield 29) 3 107 := ⟨by decide +kernel, rfl⟩
theorem d_Comp_prism_107 : dn m_Comp_prism.2.1 107 (.iconst 4) 1 108 := ⟨by decide +kernel, rfl⟩
theorem d_Comp_prism_108 : dn m_Comp_prism.2.1 108 (.invokevirtual 132) 3 111 := ⟨by decide +kernel, rfl⟩
theorem d_Comp_prism_111 : dn m_Comp_prism.2.1 111 (.aload_n 0) 1 112 := ⟨by decide +kernel, rfl⟩
theorem d_Comp_prism_112 : dn m_Comp_prism.2.1 112 (.getfield 29) 3 115 := ⟨by decide +kernel, rfl⟩
theorem d_Comp_prism_115 : dn m_Comp_prism.2.1 115 (.aload 5) 2 117 := ⟨by decide +kernel, rfl⟩
theorem d_Comp_prism_117 : dn m_Comp_prism.2.1 117 (.iconst 0) 1 118 := ⟨by decide +kernel, rfl⟩
theorem d_Comp_prism_118 : dn m_Comp_prism.2.1 118 (.invokevirtual 112) 3 121 := ⟨by decide +kernel, rfl⟩
theorem d_Comp_prism_121 : dn m_Comp_prism.2.1 121 (.aload_n 0) 1 122 := ⟨by decide +kernel, rfl⟩
theorem d_Comp_prism_122 : dn m_Comp_prism.2.1 122 (.getfield 29) 3 125 := ⟨by decide +kernel, rfl⟩
theorem d_Comp_prism_125 : dn m_Comp_prism.2.1 125 (.aload 7) 2 127 := ⟨by decide +kernel, rfl⟩
theorem d_Comp_prism_127 : dn m_Comp_prism.2.1 127 (.iconst 0) 1 128 := ⟨by decide +kernel, rfl⟩
theorem d_Comp_prism_128 : dn m_Comp_prism.2.1 128 (.invokevirtual 112) 3 131 := ⟨by decide +kernel, rfl⟩
theorem d_Comp_prism_131 : dn m_Comp_prism.2.1 131 (.aload_n 0) 1 132 := ⟨by decide +kernel, rfl⟩
theorem d_Comp_prism_132 : dn m_Comp_prism.2.1 132 (.getfield 29) 3 135 := ⟨by decide +kernel, rfl⟩
theorem d_Comp_prism_135 : dn m_Comp_prism.2.1 135 (.aload 8) 2 137 := ⟨by decide +kernel, rfl⟩
theorem d_Comp_prism_137 : dn m_Comp_prism.2.1 137 (.invokevirtual 115) 3 140 := ⟨by decide +kernel, rfl⟩
theorem d_Comp_prism_140 : dn m_Comp_prism.2.1 140 (.aload_n 0) 1 141 := ⟨by decide +kernel, rfl⟩
theorem d_Comp_prism_141 : dn m_Comp_prism.2.1 141 (.getfield 29) 3 144 := ⟨by decide +kernel, rfl⟩
theorem d_Comp_prism_144 : dn m_Comp_prism.2.1 144 (.getfield 63) 3 147 := ⟨by decide +kernel, rfl⟩
theorem d_Comp_prism_147 : dn m_Comp_prism.2.1 147 (.getfield 134) 3 150 := ⟨by decide +kernel, rfl⟩
theorem d_Comp_prism_150 : dn m_Comp_prism.2.1 150 (.bipush 6) 2 152 := ⟨by decide +kernel, rfl⟩
theorem d_Comp_prism_152 : dn m_Comp_prism.2.1 152 (.invokevirtual 138) 3 155 := ⟨by decide +kernel, rfl⟩
theorem d_Comp_prism_155 : dn m_Comp_prism.2.1 155 (.aload_n 0) 1 156 := ⟨by decide +kernel, rfl⟩
theorem d_Comp_prism_156 : dn m_Comp_prism.2.1 156 (.getfield 29) 3 159 := ⟨by decide +kernel, rfl⟩
theorem d_Comp_prism_159 : dn m_Comp_prism.2.1 159 (.invokevirtual 141) 3 162 := ⟨by decide +kernel, rfl⟩
theorem d_Comp_prism_162 : dn m_Comp_prism.2.1 162 (.aload_n 0) 1 163 := ⟨by decide +kernel, rfl⟩
theorem d_Comp_prism_163 : dn m_Comp_prism.2.1 163 (.invokevirtual 97) 3 166 := ⟨by decide +kernel, rfl⟩
theorem d_Comp_prism_166 : dn m_Comp_prism.2.1 166 (.ireturn) 1 167 := ⟨by decide +kernel, rfl⟩
section Cprism
variable {l : Launch} {K : KC} {M : AH} {c : Nat} {xs : List (Rat × Int)} {ws : List (List (Nat × Nat))} {wl : List Int}
def pal (x y z w : Rat × Int) : Bool := decide (x.2 = y.2) && decide (x.2 = z.2) && isU (x.2 + w.2)
def psm (x y z w : Rat × Int) : Rat := (y.1 * ((4 : Nat) : Rat) + x.1 + z.1) * w.1 / ((6 : Nat) : Rat)
theorem sp_Comp_prism {a b e d : Int} {x y z w : Rat × Int} (hcx : CX K M c xs ws wl) (hms : MS xs ws wl) (hx : vat xs a = some x) (hy : vat xs b = some y) (hz : vat xs e = some z) (hw : vat xs d = some w) :
    Sp l K m_Comp_prism 8 6 508 [.ref c, iv a, iv b, iv e, iv d] M (fun r M' => r = some (iv (if rfs (pal x y z w) xs.length = 0 then kpR xs (psm x y z w) else rfs (pal x y z w) xs.length)) ∧ CX K M' c (if rfs (pal x y z w) xs.length = 0 then kpS xs (psm x y z w) (y.2 + w.2) else xs) ws wl) := by
  refine Sp.ofG R_Comp rfl (by decide) [some (.ref c), some (iv a), some (iv b), some (iv e), some (iv d), none, none, none, none, none] rfl (Nat.le_of_ble_eq_true rfl) ?_
  intro X hl hK hN hR hC hQ
  subst hl hK
  obtain ⟨vs, ss, rs, h⟩ := hcx
  obtain ⟨k1, p1, mi1, a1, b1, rfl, hk1, hv1, hc1, hF1, q1⟩ := h.at hx
  obtain ⟨k2, p2, mi2, a2, b2, rfl, hk2, hv2, hc2, hF2, q2⟩ := h.at hy
  obtain ⟨k3, p3, mi3, a3, b3, rfl, hk3, hv3, hc3, hF3, q3⟩ := h.at hz
  obtain ⟨k4, p4, mi4, a4, b4, rfl, hk4, hv4, hc4, hF4, q4⟩ := h.at hw
  have o1 : opx X.K M p1 100 x.1 x.2 := ⟨mi1, a1, b1, hF1, q1⟩
  have o2 : opx X.K M p2 100 y.1 y.2 := ⟨mi2, a2, b2, hF2, q2⟩
  have o3 : opx X.K M p3 100 z.1 z.2 := ⟨mi3, a3, b3, hF3, q3⟩
  have o4 : opx X.K M p4 100 w.1 w.2 := ⟨mi4, a4, b4, hF4, q4⟩
  obtain ⟨bx1, ux1, ux2⟩ := hms.val hk1
  obtain ⟨bx2, uy1, uy2⟩ := hms.val hk2
  obtain ⟨bx3, uz1, uz2⟩ := hms.val hk3
  obtain ⟨bx4, uw1, uw2⟩ := hms.val hk4
  refine g_aload_n hC rfl d_Comp_prism_0 ?_
  refine g_iload_n hC rfl d_Comp_prism_1 ?_
  refine g_callV1 hC (sp_Comp_of h hv1 hF1.1) oc_Comp_of ov_Comp_of ml_Comp_100 h.o rfl hR (Nat.le_of_ble_eq_true rfl) (Nat.le_of_ble_eq_true rfl) (Nat.le_of_ble_eq_true rfl) (Nat.le_of_ble_eq_true rfl) (Nat.le_of_ble_eq_true rfl) d_Comp_prism_2 (fun r M hp => ?_)
  obtain ⟨rfl, rfl⟩ := hp
  refine g_sv ?_
  first | refine g_ast5 hC d_Comp_prism_5 rfl (hN 5 rfl) ?_ | (refine g_fg4 ?_; refine g_ast5 hC d_Comp_prism_5 rfl (hN 5 rfl) ?_)
  refine g_aload_n hC rfl d_Comp_prism_7 ?_
  refine g_iload_n hC rfl d_Comp_prism_8 ?_
  refine g_callV1 hC (sp_Comp_of h hv2 hF2.1) oc_Comp_of ov_Comp_of ml_Comp_100 h.o rfl hR (Nat.le_of_ble_eq_true rfl) (Nat.le_of_ble_eq_true rfl) (Nat.le_of_ble_eq_true rfl) (Nat.le_of_ble_eq_true rfl) (Nat.le_of_ble_eq_true rfl) d_Comp_prism_9 (fun r M hp => ?_)
  obtain ⟨rfl, rfl⟩ := hp
  refine g_sv ?_
  first | refine g_ast6 hC d_Comp_prism_12 rfl (hN 6 rfl) ?_ | (refine g_fg5 ?_; refine g_ast6 hC d_Comp_prism_12 rfl (hN 6 rfl) ?_)
  refine g_aload_n hC rfl d_Comp_prism_14 ?_
  refine g_iload_n hC rfl d_Comp_prism_15 ?_
  refine g_callV1 hC (sp_Comp_of h hv3 hF3.1) oc_Comp_of ov_Comp_of ml_Comp_100 h.o rfl hR (Nat.le_of_ble_eq_true rfl) (Nat.le_of_ble_eq_true rfl) (Nat.le_of_ble_eq_true rfl) (Nat.le_of_ble_eq_true rfl) (Nat.le_of_ble_eq_true rfl) d_Comp_prism_16 (fun r M hp => ?_)
  obtain ⟨rfl, rfl⟩ := hp
  refine g_sv ?_
  first | refine g_ast7 hC d_Comp_prism_19 rfl (hN 7 rfl) ?_ | (refine g_fg6 ?_; refine g_ast7 hC d_Comp_prism_19 rfl (hN 7 rfl) ?_)
  refine g_aload_n hC rfl d_Comp_prism_21 ?_
  refine g_iload hC rfl d_Comp_prism_22 ?_
  refine g_callV1 hC (sp_Comp_of h hv4 hF4.1) oc_Comp_of ov_Comp_of ml_Comp_100 h.o rfl hR (Nat.le_of_ble_eq_true rfl) (Nat.le_of_ble_eq_true rfl) (Nat.le_of_ble_eq_true rfl) (Nat.le_of_ble_eq_true rfl) (Nat.le_of_ble_eq_true rfl) d_Comp_prism_24 (fun r M hp => ?_)
  obtain ⟨rfl, rfl⟩ := hp
  refine g_sv ?_
  have J : ∀ al : Bool, al = pal x y z w → G X 0 0 M 78 [some (.ref c), some (iv (k1 : Int)), some (iv (k2 : Int)), some (iv (k3 : Int)), some (iv (k4 : Int)), some (.ref p1), some (.ref p2), some (.ref p3), some (.ref p4), none] [iv (bz al), .ref c] := by
    intro al hal
    rw [← hal] at hQ
    refine g_callV1 hC (sp_Comp_refusal (al := al) h) oc_Comp_refusal ov_Comp_refusal ml_Comp_108 h.o rfl hR (Nat.le_of_ble_eq_true rfl) (Nat.le_of_ble_eq_true rfl) (Nat.le_of_ble_eq_true rfl) (Nat.le_of_ble_eq_true rfl) (Nat.le_of_ble_eq_true rfl) d_Comp_prism_78 (fun r M hp => ?_)
    obtain ⟨rfl, rfl⟩ := hp
    refine g_sv ?_
    have hrf := rfs_in al xs.length
    first | refine g_ist9 hC d_Comp_prism_81 rfl (hN 9 rfl) ?_ | (refine g_fg8 ?_; refine g_ist9 hC d_Comp_prism_81 rfl (hN 9 rfl) ?_)
    refine g_iload hC rfl d_Comp_prism_83 ?_
    refine g_if_eq hC (by unfold I32; omega) d_Comp_prism_85 (fun c9 => ?_) (fun c9 => ?_)
    · rw [if_pos c9, if_pos c9] at hQ
      refine g_aload_n hC rfl d_Comp_prism_91 ?_
      refine g_get hC fb_Comp_29 h.o rfl d_Comp_prism_92 ?_
      refine g_get hC fb_Comp_63 h.d.o rfl d_Comp_prism_95 ?_
      refine g_aload hC rfl d_Comp_prism_98 ?_
      refine g_callV1 hC (sp_copyQ h.d.fxm o2 (by omega) (b740 bx2 (by decide) (by decide)) (by decide) (by decide)) oc_Frac_copy ov_Frac_copy ml_Comp_74 h.d.fxm.rc.choose_spec rfl hR (Nat.le_of_ble_eq_true rfl) (Nat.le_of_ble_eq_true rfl) (Nat.le_of_ble_eq_true rfl) (Nat.le_of_ble_eq_true rfl) (Nat.le_of_ble_eq_true rfl) d_Comp_prism_100 (fun r M1 hp => ?_)
      obtain ⟨rfl, oc, fc⟩ := hp
      refine g_s0 ?_
      obtain ⟨h1, m1⟩ := h.cp fc oc
      have e1 : ∀ t, c + 24 ≤ t → M1.1 t = M.1 t := fun t ht => fc.2 t (by omega)
      refine g_aload_n hC rfl d_Comp_prism_103 ?_
      refine g_get hC fb_Comp_29 h1.o rfl d_Comp_prism_104 ?_
      refine g_iconst hC d_Comp_prism_107 ?_
      refine g_callV1 hC (sp_Desk_timesI (k := 4) (i := 100) m1 (by decide) bx2 (by decide)) oc_Desk_timesI ov_Desk_timesI ml_Comp_132 h1.d.o rfl hR (Nat.le_of_ble_eq_true rfl) (Nat.le_of_ble_eq_true rfl) (Nat.le_of_ble_eq_true rfl) (Nat.le_of_ble_eq_true rfl) (Nat.le_of_ble_eq_true rfl) d_Comp_prism_108 (fun r M2 hp => ?_)
      obtain ⟨rfl, m2, f2⟩ := hp
      refine g_s0 ?_
      have h2 := h1.md f2 m2.x
      have e2 : ∀ t, c + 24 ≤ t → M2.1 t = M.1 t := fun t ht => (f2.2 t (by omega)).trans (e1 t ht)
      have by4 : bdq (y.1 * ((4 : Nat) : Rat)) 101 101 := bdq_mul bx2 (i' := 1) (j' := 1) (by unfold bdq; decide)
      refine g_aload_n hC rfl d_Comp_prism_111 ?_
      refine g_get hC fb_Comp_29 h2.o rfl d_Comp_prism_112 ?_
      refine g_aload hC rfl d_Comp_prism_115 ?_
      refine g_iconst hC d_Comp_prism_117 ?_
      refine g_callV2 hC (sp_Desk_add (less := false) (m := 201) m2 (o1.eq (fun t _ _ => e2 t (by omega))) (by omega) (by decide) by4 bx1 (by decide) (by decide) (by decide) (by decide)) oc_Desk_add ov_Desk_add ml_Comp_112 h2.d.o rfl hR (Nat.le_of_ble_eq_true rfl) (Nat.le_of_ble_eq_true rfl) (Nat.le_of_ble_eq_true rfl) (Nat.le_of_ble_eq_true rfl) (Nat.le_of_ble_eq_true rfl) d_Comp_prism_118 (fun r M3 hp => ?_)
      obtain ⟨rfl, m3, f3⟩ := hp
      refine g_s0 ?_
      have h3 := h2.md f3 m3.x
      have e3 : ∀ t, c + 24 ≤ t → M3.1 t = M.1 t := fun t ht => (f3.2 t (by omega)).trans (e2 t ht)
      have b3' := bdq_add by4 bx1 (m := 201) (by decide) (by decide) false
      rw [lsq_f] at m3 b3'
      refine g_aload_n hC rfl d_Comp_prism_121 ?_
      refine g_get hC fb_Comp_29 h3.o rfl d_Comp_prism_122 ?_
      refine g_aload hC rfl d_Comp_prism_125 ?_
      refine g_iconst hC d_Comp_prism_127 ?_
      refine g_callV2 hC (sp_Desk_add (less := false) (m := 302) m3 (o3.eq (fun t _ _ => e3 t (by omega))) (by omega) (by decide) b3' bx3 (by decide) (by decide) (by decide) (by decide)) oc_Desk_add ov_Desk_add ml_Comp_112 h3.d.o rfl hR (Nat.le_of_ble_eq_true rfl) (Nat.le_of_ble_eq_true rfl) (Nat.le_of_ble_eq_true rfl) (Nat.le_of_ble_eq_true rfl) (Nat.le_of_ble_eq_true rfl) d_Comp_prism_128 (fun r M4 hp => ?_)
      obtain ⟨rfl, m4, f4⟩ := hp
      refine g_s0 ?_
      have h4 := h3.md f4 m4.x
      have e4 : ∀ t, c + 24 ≤ t → M4.1 t = M.1 t := fun t ht => (f4.2 t (by omega)).trans (e3 t ht)
      have b4' := bdq_add b3' bx3 (m := 302) (by decide) (by decide) false
      rw [lsq_f] at m4 b4'
      refine g_aload_n hC rfl d_Comp_prism_131 ?_
      refine g_get hC fb_Comp_29 h4.o rfl d_Comp_prism_132 ?_
      refine g_aload hC rfl d_Comp_prism_135 ?_
      refine g_callV1 hC (sp_Desk_times (m := 410) m4 (o4.eq (fun t _ _ => e4 t (by omega))) (by omega) (by decide) b4' bx4 (by decide) (by decide) (by decide)) oc_Desk_times ov_Desk_times ml_Comp_115 h4.d.o rfl hR (Nat.le_of_ble_eq_true rfl) (Nat.le_of_ble_eq_true rfl) (Nat.le_of_ble_eq_true rfl) (Nat.le_of_ble_eq_true rfl) (Nat.le_of_ble_eq_true rfl) d_Comp_prism_137 (fun r M5 hp => ?_)
      obtain ⟨rfl, m5, f5⟩ := hp
      refine g_s0 ?_
      have h5 := h4.md f5 m5.x
      have b5' := bdq_mul b4' bx4
      clear m1 m2 m3 m4 h1 h2 h3 h4 e1 e2 e3 f2 f3 f4
      obtain ⟨mi, av, bv, D5, hA5, hB5, q5⟩ := m5
      have bb := q5.bd b5'
      have t6 := mul_lt_pw bb.2 (show ((6 : Nat) : Int) < pw 1 by decide)
      refine g_aload_n hC rfl d_Comp_prism_140 ?_
      refine g_get hC fb_Comp_29 h5.o rfl d_Comp_prism_141 ?_
      refine g_get hC fb_Comp_63 D5.o rfl d_Comp_prism_144 ?_
      refine g_get hC fb_Comp_134 D5.m rfl d_Comp_prism_147 ?_
      refine g_bipush hC (by decide) d_Comp_prism_150 ?_
      refine g_callV1 hC (sp_Whole_times (b := 6) hB5 (by decide) (Int.lt_of_lt_of_le t6 (pow_le (by decide))) (by decide)) oc_Whole_times ov_Whole_times ml_Comp_138 hB5.rc.choose_spec rfl hR (Nat.le_of_ble_eq_true rfl) (Nat.le_of_ble_eq_true rfl) (Nat.le_of_ble_eq_true rfl) (Nat.le_of_ble_eq_true rfl) (Nat.le_of_ble_eq_true rfl) d_Comp_prism_152 (fun r M6 hp => ?_)
      obtain ⟨rfl, hB6, f6⟩ := hp
      refine g_s0 ?_
      have D6 := D5.fw i4 f6 hB6.tox
      have F6 := (frM.rf).fw i4 f6
      have h6 := h5.md F6 ⟨_, _, D6⟩
      have hA6 := hA5.fr f6 (by omega) (by omega) (by omega)
      have hp6 : 0 < bv * 6 := Nat.mul_pos q5.pos (by decide)
      refine g_aload_n hC rfl d_Comp_prism_155 ?_
      refine g_get hC fb_Comp_29 h6.o rfl d_Comp_prism_156 ?_
      refine g_callVN0 hC (sp_Desk_reduce (i := 410) D6 hA6 hB6 hp6 (Int.lt_of_lt_of_le bb.1 (pow_le (by decide))) (Int.lt_of_lt_of_le t6 (pow_le (by decide))) (by decide)) oc_Desk_reduce ov_Desk_reduce mn_Comp_141 D6.o rfl hR (Nat.le_of_ble_eq_true rfl) (Nat.le_of_ble_eq_true rfl) (Nat.le_of_ble_eq_true rfl) (Nat.le_of_ble_eq_true rfl) (Nat.le_of_ble_eq_true rfl) d_Comp_prism_159 (fun r M7 hp => ?_)
      obtain ⟨rfl, m7, f7⟩ := hp
      refine g_s0 ?_
      rw [← ovr_eq q5 (by decide)] at m7
      have h7 := h6.md f7 m7.x
      refine g_aload_n hC rfl d_Comp_prism_162 ?_
      refine g_callV0 hC (sp_Comp_keep ⟨vs, ss, rs, h7⟩ hms (hx200 hms.1.1 c9) m7) oc_Comp_keep ov_Comp_keep ml_Comp_97 h7.o rfl hR (Nat.le_of_ble_eq_true rfl) (Nat.le_of_ble_eq_true rfl) (Nat.le_of_ble_eq_true rfl) (Nat.le_of_ble_eq_true rfl) (Nat.le_of_ble_eq_true rfl) d_Comp_prism_163 (fun r M8 hp => ?_)
      obtain ⟨rfl, h8⟩ := hp
      refine g_sv ?_
      refine g_iret hC hQ (by decide) (by decide) d_Comp_prism_166 ⟨rfl, h8⟩
    · rw [if_neg c9, if_neg c9] at hQ
      refine g_iload hC rfl d_Comp_prism_88 ?_
      refine g_iret hC hQ (by decide) (by decide) d_Comp_prism_90 ⟨rfl, vs, ss, rs, h⟩
  first | refine g_ast8 hC d_Comp_prism_27 rfl (hN 8 rfl) ?_ | (refine g_fg7 ?_; refine g_ast8 hC d_Comp_prism_27 rfl (hN 8 rfl) ?_)
  refine g_aload_n hC rfl d_Comp_prism_29 ?_
  refine g_aload hC rfl d_Comp_prism_30 ?_
  refine g_get hC fb_Comp_104 hF1.1 rfl d_Comp_prism_32 ?_
  refine g_aload hC rfl d_Comp_prism_35 ?_
  refine g_get hC fb_Comp_104 hF2.1 rfl d_Comp_prism_37 ?_
  have F : pal x y z w = false → G X 0 0 M 77 [some (.ref c), some (iv (k1 : Int)), some (iv (k2 : Int)), some (iv (k3 : Int)), some (iv (k4 : Int)), some (.ref p1), some (.ref p2), some (.ref p3), some (.ref p4), none] [.ref c] := by
    intro q
    refine g_iconst hC d_Comp_prism_77 ?_
    exact J false q.symm
  refine g_icmp_ne hC (by unfold I32; omega) (by unfold I32; omega) d_Comp_prism_40 (fun c1 => ?_) (fun c1 => ?_)
  · exact F (by unfold pal; rw [decide_eq_false c1]; rfl)
  · refine g_aload hC rfl d_Comp_prism_43 ?_
    refine g_get hC fb_Comp_104 hF1.1 rfl d_Comp_prism_45 ?_
    refine g_aload hC rfl d_Comp_prism_48 ?_
    refine g_get hC fb_Comp_104 hF3.1 rfl d_Comp_prism_50 ?_
    refine g_icmp_ne hC (by unfold I32; omega) (by unfold I32; omega) d_Comp_prism_53 (fun c2 => ?_) (fun c2 => ?_)
    · exact F (by unfold pal; rw [decide_eq_false c2, Bool.and_false]; rfl)
    · refine g_aload hC rfl d_Comp_prism_56 ?_
      refine g_get hC fb_Comp_104 hF1.1 rfl d_Comp_prism_58 ?_
      refine g_aload hC rfl d_Comp_prism_61 ?_
      refine g_get hC fb_Comp_104 hF4.1 rfl d_Comp_prism_63 ?_
      refine g_iadd hC d_Comp_prism_66 ?_
      refine g_callS1 hC (sp_Comp_isUnit (by unfold I32; omega)) oc_Comp_isUnit os_Comp_isUnit ml_Comp_85 hR (Nat.le_of_ble_eq_true rfl) (Nat.le_of_ble_eq_true rfl) (Nat.le_of_ble_eq_true rfl) (Nat.le_of_ble_eq_true rfl) (Nat.le_of_ble_eq_true rfl) d_Comp_prism_67 (fun r M hp => ?_)
      obtain ⟨rfl, rfl⟩ := hp
      refine g_sv ?_
      refine g_if_eq hC (bz_I _) d_Comp_prism_70 (fun c3 => ?_) (fun c3 => ?_)
      · exact F (by
          unfold pal
          cases q : isU (x.2 + w.2) with
          | false => rw [Bool.and_false]
          | true => rw [q] at c3; exact absurd c3 (by decide))
      · refine g_iconst hC d_Comp_prism_73 ?_
        refine g_goto hC d_Comp_prism_74 ?_
        refine J true ?_
        unfold pal
        rw [decide_eq_true c1, decide_eq_true c2]
        cases q : isU (x.2 + w.2) with
        | true => rfl
        | false => rw [q] at c3; exact absurd rfl c3
theorem st_Comp_prism {a b e d : Int} (htr : l.stackTraces = false) (hcx : CX K M c xs ws wl) (ha : I32 a) (hb : I32 b) (he : I32 e) (hd : I32 d) (hv : vat xs a = none ∨ vat xs b = none ∨ vat xs e = none ∨ vat xs d = none) : St l K m_Comp_prism 8 6 508 [.ref c, iv a, iv b, iv e, iv d] M R_IoE := by
  refine St.ofG R_Comp rfl (by decide) [some (.ref c), some (iv a), some (iv b), some (iv e), some (iv d), none, none, none, none, none] rfl (Nat.le_of_ble_eq_true rfl) ?_
  intro X hl hK hN hR hC hQ
  subst hl hK
  obtain ⟨vs, ss, rs, h⟩ := hcx
  refine g_aload_n hC rfl d_Comp_prism_0 ?_
  refine g_iload_n hC rfl d_Comp_prism_1 ?_
  cases hx : vat xs a with
  | none => exact g_callVT hC hQ rfl (st_Comp_of htr h ha (vat_none hx)) oc_Comp_of ov_Comp_of ml_Comp_100 h.o rfl rfl (st := []) rfl hR (by decide) (by decide) (by decide) (by decide) (by decide) d_Comp_prism_2
  | some x =>
    obtain ⟨k1, p1, mi1, a1, b1, rfl, hk1, hv1, hc1, hF1, q1⟩ := h.at hx
    refine g_callV1 hC (sp_Comp_of h hv1 hF1.1) oc_Comp_of ov_Comp_of ml_Comp_100 h.o rfl hR (Nat.le_of_ble_eq_true rfl) (Nat.le_of_ble_eq_true rfl) (Nat.le_of_ble_eq_true rfl) (Nat.le_of_ble_eq_true rfl) (Nat.le_of_ble_eq_true rfl) d_Comp_prism_2 (fun r M hp => ?_)
    obtain ⟨rfl, rfl⟩ := hp
    refine g_sv ?_
    first | refine g_ast5 hC d_Comp_prism_5 rfl (hN 5 rfl) ?_ | (refine g_fg4 ?_; refine g_ast5 hC d_Comp_prism_5 rfl (hN 5 rfl) ?_)
    refine g_aload_n hC rfl d_Comp_prism_7 ?_
    refine g_iload_n hC rfl d_Comp_prism_8 ?_
    cases hy : vat xs b with
    | none => exact g_callVT hC hQ rfl (st_Comp_of htr h hb (vat_none hy)) oc_Comp_of ov_Comp_of ml_Comp_100 h.o rfl rfl (st := []) rfl hR (by decide) (by decide) (by decide) (by decide) (by decide) d_Comp_prism_9
    | some y =>
      obtain ⟨k2, p2, mi2, a2, b2, rfl, hk2, hv2, hc2, hF2, q2⟩ := h.at hy
      refine g_callV1 hC (sp_Comp_of h hv2 hF2.1) oc_Comp_of ov_Comp_of ml_Comp_100 h.o rfl hR (Nat.le_of_ble_eq_true rfl) (Nat.le_of_ble_eq_true rfl) (Nat.le_of_ble_eq_true rfl) (Nat.le_of_ble_eq_true rfl) (Nat.le_of_ble_eq_true rfl) d_Comp_prism_9 (fun r M hp => ?_)
      obtain ⟨rfl, rfl⟩ := hp
      refine g_sv ?_
      first | refine g_ast6 hC d_Comp_prism_12 rfl (hN 6 rfl) ?_ | (refine g_fg5 ?_; refine g_ast6 hC d_Comp_prism_12 rfl (hN 6 rfl) ?_)
      refine g_aload_n hC rfl d_Comp_prism_14 ?_
      refine g_iload_n hC rfl d_Comp_prism_15 ?_
      cases hz : vat xs e with
      | none => exact g_callVT hC hQ rfl (st_Comp_of htr h he (vat_none hz)) oc_Comp_of ov_Comp_of ml_Comp_100 h.o rfl rfl (st := []) rfl hR (by decide) (by decide) (by decide) (by decide) (by decide) d_Comp_prism_16
      | some z =>
        obtain ⟨k3, p3, mi3, a3, b3, rfl, hk3, hv3, hc3, hF3, q3⟩ := h.at hz
        refine g_callV1 hC (sp_Comp_of h hv3 hF3.1) oc_Comp_of ov_Comp_of ml_Comp_100 h.o rfl hR (Nat.le_of_ble_eq_true rfl) (Nat.le_of_ble_eq_true rfl) (Nat.le_of_ble_eq_true rfl) (Nat.le_of_ble_eq_true rfl) (Nat.le_of_ble_eq_true rfl) d_Comp_prism_16 (fun r M hp => ?_)
        obtain ⟨rfl, rfl⟩ := hp
        refine g_sv ?_
        first | refine g_ast7 hC d_Comp_prism_19 rfl (hN 7 rfl) ?_ | (refine g_fg6 ?_; refine g_ast7 hC d_Comp_prism_19 rfl (hN 7 rfl) ?_)
        refine g_aload_n hC rfl d_Comp_prism_21 ?_
        refine g_iload hC rfl d_Comp_prism_22 ?_
        have hw : vat xs d = none := by
          rcases hv with q | q | q | q
          · rw [hx] at q; cases q
          · rw [hy] at q; cases q
          · rw [hz] at q; cases q
          · exact q
        exact g_callVT hC hQ rfl (st_Comp_of htr h hd (vat_none hw)) oc_Comp_of ov_Comp_of ml_Comp_100 h.o rfl rfl (st := []) rfl hR (by decide) (by decide) (by decide) (by decide) (by decide) d_Comp_prism_24
end Cprism
