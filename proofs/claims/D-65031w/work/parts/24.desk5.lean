/-! Desk: strip, line, init -/
theorem fx.eq {K : KC} {M M' : AH} {p cap : Nat} (h : fx K M p cap) (he : ∀ x, p ≤ x → x < p + 5 → M'.1 x = M.1 x) : fx K M' p cap := by
  obtain ⟨mi, un, h1, h2, h3⟩ := h
  exact ⟨mi, un, (he p (by omega) (by omega)).trans h1, h2.eq (he _ (by omega) (by omega)) (he _ (by omega) (by omega)), h3.eq (he _ (by omega) (by omega)) (he _ (by omega) (by omega))⟩
theorem opx.fx {K : KC} {M : AH} {p cap : Nat} {x : Rat} {un : Int} (h : opx K M p cap x un) : fx K M p cap := by
  obtain ⟨mi, a, b, h1, h2⟩ := h
  exact h1.fx
theorem opx.rc {K : KC} {M : AH} {p cap : Nat} {x : Rat} {un : Int} (h : opx K M p cap x un) : ∃ fs, M.1 p = some (oO 1 fs) := by
  obtain ⟨mi, a, b, h1, h2⟩ := h
  exact h1.rc
theorem fx.rc {K : KC} {M : AH} {p cap : Nat} (h : fx K M p cap) : ∃ fs, M.1 p = some (oO 1 fs) := by
  obtain ⟨mi, un, h1, _⟩ := h
  exact ⟨_, h1⟩
theorem mdx.op {K : KC} {M : AH} {d : Nat} {x : Rat} {un : Int} (h : mdx K M d x un) : opx K M (d + 1) 740 x un := by
  obtain ⟨mi, a, b, hD, hA, hB, q⟩ := h
  exact ⟨mi, a, b, ⟨hD.m, hA, hB⟩, q⟩
theorem DK.fxm {K : KC} {M : AH} {d : Nat} {mi : Bool} {un : Int} (hD : DK K M d mi un) : fx K M (d + 1) 740 := ⟨mi, un, hD.m, hD.a, hD.b⟩
theorem dkx.fxm {K : KC} {M : AH} {d : Nat} (hD : dkx K M d) : fx K M (d + 1) 740 := by
  obtain ⟨mi, un, hD⟩ := hD
  exact hD.fxm
theorem dkx.o {K : KC} {M : AH} {d : Nat} (h : dkx K M d) : M.1 d = some (oO 2 [.ref (d + 1), .ref (d + 6), .ref (d + 8), .ref (d + 10), .ref (d + 12), .ref (d + 14)]) := by
  obtain ⟨mi, un, hD⟩ := h
  exact hD.o
theorem mdx_cp {K : KC} {M M' : AH} {d : Nat} {x : Rat} {un : Int} (hD : dkx K M d) (h : opx K M' (d + 1) 740 x un) (hf : frF M M' (d + 1)) : mdx K M' d x un := by
  obtain ⟨mi0, un0, hD⟩ := hD
  obtain ⟨mi, a, b, h1, q⟩ := h
  have e : ∀ p, p ≤ d ∨ d + 6 ≤ p → M'.1 p = M.1 p := fun p hp => hf.2 p (by omega)
  exact ⟨mi, a, b, ⟨(e _ (by omega)).trans hD.o, h1.1, h1.2.1.tox, h1.2.2.tox, hD.x.eq (e _ (by omega)) (e _ (by omega)), hD.y.eq (e _ (by omega)) (e _ (by omega)), hD.q.eq (e _ (by omega)) (e _ (by omega)), hD.s.eq (e _ (by omega)) (e _ (by omega))⟩, h1.2.1, h1.2.2, q⟩
theorem dkx.eq {K : KC} {M M' : AH} {d : Nat} (h : dkx K M d) (he : ∀ p, d ≤ p → p < d + 14 → M'.1 p = M.1 p) : dkx K M' d := by
  obtain ⟨mi, un, hD⟩ := h
  have e : ∀ p, d ≤ p ∧ p < d + 14 → M'.1 p = M.1 p := fun p hp => he p hp.1 hp.2
  exact ⟨mi, un, (e _ (by omega)).trans hD.o, (e _ (by omega)).trans hD.m, hD.a.eq (e _ (by omega)) (e _ (by omega)), hD.b.eq (e _ (by omega)) (e _ (by omega)), hD.x.eq (e _ (by omega)) (e _ (by omega)), hD.y.eq (e _ (by omega)) (e _ (by omega)), hD.q.eq (e _ (by omega)) (e _ (by omega)), hD.s.eq (e _ (by omega)) (e _ (by omega))⟩
theorem mdx.eq {K : KC} {M M' : AH} {d : Nat} {x : Rat} {un : Int} (h : mdx K M d x un) (he : ∀ p, d ≤ p → p < d + 14 → M'.1 p = M.1 p) : mdx K M' d x un := by
  obtain ⟨mi, a, b, hD, hA, hB, q⟩ := h
  have e : ∀ p, d ≤ p ∧ p < d + 14 → M'.1 p = M.1 p := fun p hp => he p hp.1 hp.2
  exact ⟨mi, a, b, ⟨(e _ (by omega)).trans hD.o, (e _ (by omega)).trans hD.m, hD.a.eq (e _ (by omega)) (e _ (by omega)), hD.b.eq (e _ (by omega)) (e _ (by omega)), hD.x.eq (e _ (by omega)) (e _ (by omega)), hD.y.eq (e _ (by omega)) (e _ (by omega)), hD.q.eq (e _ (by omega)) (e _ (by omega)), hD.s.eq (e _ (by omega)) (e _ (by omega))⟩, hA.eq (e _ (by omega)) (e _ (by omega)), hB.eq (e _ (by omega)) (e _ (by omega)), q⟩
theorem sp_copyQ {l : Launch} {K : KC} {M : AH} {p r cap c2 : Nat} {x : Rat} {un : Int} (hP : fx K M p cap) (hF : opx K M r c2 x un) (hd : r + 5 ≤ p ∨ p + 5 ≤ r) (hb : bdq x cap cap) (hcap : cap ≤ 1000) (hc2 : c2 ≤ 1000) :
    Sp l K m_Frac_copy 2 0 0 [.ref p, .ref r] M (fun v M' => v = none ∧ opx K M' p cap x un ∧ frF M M' p) := by
  obtain ⟨mi, a, b, h1, q⟩ := hF
  have := q.bd hb
  refine Sp.mono (fun r M' h => ?_) (sp_Frac_copy hP h1 hd this.1 this.2 hcap hc2)
  exact ⟨h.1, ⟨mi, a, b, h.2.1, q⟩, h.2.2⟩
/-- nothing but what is within the Desk has changed -/
def frD (M M' : AH) (d : Nat) : Prop := M'.2 = M.2 ∧ ∀ p, p ≤ d ∨ d + 19 ≤ p → M'.1 p = M.1 p
theorem frD.rf {M : AH} {d : Nat} : frD M M d := ⟨rfl, fun _ _ => rfl⟩
theorem frD.m {M M1 M' : AH} {d : Nat} (h : frD M M1 d) (hf : frM M1 M' d) : frD M M' d := ⟨hf.1.trans h.1, fun p hp => (hf.2 p (by omega)).trans (h.2 p hp)⟩
theorem frD.f {M M1 M' : AH} {d q : Nat} (h : frD M M1 d) (hf : frF M1 M' q) (h1 : d < q) (h2 : q + 5 ≤ d + 19) : frD M M' d := ⟨hf.1.trans h.1, fun p hp => (hf.2 p (by omega)).trans (h.2 p hp)⟩
theorem frD.trans {M M1 M' : AH} {d : Nat} (h : frD M M1 d) (hf : frD M1 M' d) : frD M M' d := ⟨hf.1.trans h.1, fun p hp => (hf.2 p hp).trans (h.2 p hp)⟩
theorem opx.d {K : KC} {M M' : AH} {d p cap : Nat} {x : Rat} {un : Int} (h : opx K M p cap x un) (hf : frD M M' d) (hd : p + 5 ≤ d ∨ d + 19 ≤ p) : opx K M' p cap x un := h.eq (fun z _ _ => hf.2 z (by omega))
theorem lsq_t (y : Rat) : lsq true y = -y := rfl
theorem lsq_f (y : Rat) : lsq false y = y := rfl
def dd (p d : Nat) : Prop := p + 5 ≤ d ∨ d + 19 ≤ p
theorem bd_sub {x y : Rat} (hx : bdq x 100 100) (hy : bdq y 100 100) (less : Bool) : bdq (x + lsq less y) 201 200 := bdq_add hx hy (m := 200) (by decide) (by decide) less
theorem b740 {x : Rat} {i j : Nat} (h : bdq x i j) (h1 : i ≤ 740) (h2 : j ≤ 740) : bdq x 740 740 := bdq_le h h1 h2
theorem bdq_div {x y : Rat} {i j i' j' : Nat} (hx : bdq x i j) (hy : bdq y i' j') (h0 : y ≠ 0) : bdq (x / y) (i + j') (j + i') := by
  have hq : ∀ z : Rat, isQ (decide (z.num < 0)) z.num.natAbs z.den z := fun z => ⟨rfl, rfl, fun _ => ⟨of_decide_eq_true, fun h => decide_eq_true h⟩⟩
  have hn : y.num.natAbs ≠ 0 := fun h => h0 (Rat.num_eq_zero.mp (by omega))
  rw [div_eq (hq x) (hq y) hn]
  refine bdq_mk ?_ (mul_lt_pw hx.2 hy.1) (Nat.mul_pos x.den_pos (by omega))
  rw [sg_abs]
  exact mul_lt_pw hx.1 hy.2
theorem d_Desk_strip_0 : dn m_Desk_strip.2.1 0 (.aload_n 0) 1 1 := ⟨by decide +kernel, rfl⟩
theorem d_Desk_strip_1 : dn m_Desk_strip.2.1 1 (.getfield 14) 3 4 := ⟨by decide +kernel, rfl⟩
theorem d_Desk_strip_4 : dn m_Desk_strip.2.1 4 (.aload_n 3) 1 5 := ⟨by decide +kernel, rfl⟩
theorem d_Desk_strip_5 : dn m_Desk_strip.2.1 5 (.invokevirtual 102) 3 8 := ⟨by decide +kernel, rfl⟩
theorem d_Desk_strip_8 : dn m_Desk_strip.2.1 8 (.aload_n 0) 1 9 := ⟨by decide +kernel, rfl⟩
theorem d_Desk_strip_9 : dn m_Desk_strip.2.1 9 (.aload_n 1) 1 10 := ⟨by decide +kernel, rfl⟩
theorem d_Desk_strip_10 : dn m_Desk_strip.2.1 10 (.iconst 1) 1 11 := ⟨by decide +kernel, rfl⟩
theorem d_Desk_strip_11 : dn m_Desk_strip.2.1 11 (.invokevirtual 105) 3 14 := ⟨by decide +kernel, rfl⟩
theorem d_Desk_strip_14 : dn m_Desk_strip.2.1 14 (.aload_n 0) 1 15 := ⟨by decide +kernel, rfl⟩
theorem d_Desk_strip_15 : dn m_Desk_strip.2.1 15 (.getfield 36) 3 18 := ⟨by decide +kernel, rfl⟩
theorem d_Desk_strip_18 : dn m_Desk_strip.2.1 18 (.aload_n 0) 1 19 := ⟨by decide +kernel, rfl⟩
theorem d_Desk_strip_19 : dn m_Desk_strip.2.1 19 (.getfield 14) 3 22 := ⟨by decide +kernel, rfl⟩
theorem d_Desk_strip_22 : dn m_Desk_strip.2.1 22 (.invokevirtual 102) 3 25 := ⟨by decide +kernel, rfl⟩
theorem d_Desk_strip_25 : dn m_Desk_strip.2.1 25 (.aload_n 0) 1 26 := ⟨by decide +kernel, rfl⟩
theorem d_Desk_strip_26 : dn m_Desk_strip.2.1 26 (.getfield 14) 3 29 := ⟨by decide +kernel, rfl⟩
theorem d_Desk_strip_29 : dn m_Desk_strip.2.1 29 (.aload 4) 2 31 := ⟨by decide +kernel, rfl⟩
theorem d_Desk_strip_31 : dn m_Desk_strip.2.1 31 (.invokevirtual 102) 3 34 := ⟨by decide +kernel, rfl⟩
theorem d_Desk_strip_34 : dn m_Desk_strip.2.1 34 (.aload_n 0) 1 35 := ⟨by decide +kernel, rfl⟩
theorem d_Desk_strip_35 : dn m_Desk_strip.2.1 35 (.aload_n 2) 1 36 := ⟨by decide +kernel, rfl⟩
theorem d_Desk_strip_36 : dn m_Desk_strip.2.1 36 (.iconst 0) 1 37 := ⟨by decide +kernel, rfl⟩
theorem d_Desk_strip_37 : dn m_Desk_strip.2.1 37 (.invokevirtual 105) 3 40 := ⟨by decide +kernel, rfl⟩
theorem d_Desk_strip_40 : dn m_Desk_strip.2.1 40 (.aload_n 0) 1 41 := ⟨by decide +kernel, rfl⟩
theorem d_Desk_strip_41 : dn m_Desk_strip.2.1 41 (.aload_n 0) 1 42 := ⟨by decide +kernel, rfl⟩
theorem d_Desk_strip_42 : dn m_Desk_strip.2.1 42 (.getfield 36) 3 45 := ⟨by decide +kernel, rfl⟩
theorem d_Desk_strip_45 : dn m_Desk_strip.2.1 45 (.invokevirtual 108) 3 48 := ⟨by decide +kernel, rfl⟩
theorem d_Desk_strip_48 : dn m_Desk_strip.2.1 48 (.aload_n 0) 1 49 := ⟨by decide +kernel, rfl⟩
theorem d_Desk_strip_49 : dn m_Desk_strip.2.1 49 (.getfield 14) 3 52 := ⟨by decide +kernel, rfl⟩
theorem d_Desk_strip_52 : dn m_Desk_strip.2.1 52 (.getfield 46) 3 55 := ⟨by decide +kernel, rfl⟩
theorem d_Desk_strip_55 : dn m_Desk_strip.2.1 55 (.iconst 2) 1 56 := ⟨by decide +kernel, rfl⟩
theorem d_Desk_strip_56 : dn m_Desk_strip.2.1 56 (.invokevirtual 86) 3 59 := ⟨by decide +kernel, rfl⟩
theorem d_Desk_strip_59 : dn m_Desk_strip.2.1 59 (.aload_n 0) 1 60 := ⟨by decide +kernel, rfl⟩
theorem d_Desk_strip_60 : dn m_Desk_strip.2.1 60 (.invokevirtual 57) 3 63 := ⟨by decide +kernel, rfl⟩
theorem d_Desk_strip_63 : dn m_Desk_strip.2.1 63 (.return_) 1 64 := ⟨by decide +kernel, rfl⟩
theorem sp_Desk_strip {l : Launch} {K : KC} {M : AH} {d p0 q0 p1 q1 c0 e0 c1 e1 : Nat} {x0 y0 x1 y1 : Rat} {u0 v0 u1 v1 : Int} (hD : dkx K M d) (hH : fx K M (d + 14) 740) (h1 : opx K M p0 c0 x0 u0) (h2 : opx K M q0 e0 y0 v0) (h3 : opx K M p1 c1 x1 u1) (h4 : opx K M q1 e1 y1 v1)
    (d1 : dd p0 d) (d2 : dd q0 d) (d3 : dd p1 d) (d4 : dd q1 d) (k1 : c0 ≤ 1000) (k2 : e0 ≤ 1000) (k3 : c1 ≤ 1000) (k4 : e1 ≤ 1000) (b1 : bdq x0 100 100) (b2 : bdq y0 100 100) (b3 : bdq x1 100 100) (b4 : bdq y1 100 100) :
    Sp l K m_Desk_strip 5 0 0 [.ref d, .ref p0, .ref q0, .ref p1, .ref q1] M (fun r M' => r = none ∧ (∃ un, mdx K M' d ((y1 + y0) * (x1 - x0) / (2 : Nat)) un) ∧ fx K M' (d + 14) 740 ∧ frD M M' d) := by
  refine Sp.ofG R_Desk rfl (by decide) [some (.ref d), some (.ref p0), some (.ref q0), some (.ref p1), some (.ref q1)] rfl (Nat.le_of_ble_eq_true rfl) ?_
  intro X hl hK hN hR hC hQ
  subst hl hK
  unfold dd at *
  refine g_aload_n hC rfl d_Desk_strip_0 ?_
  refine g_get hC fb_Desk_14 hD.o rfl d_Desk_strip_1 ?_
  refine g_aload_n hC rfl d_Desk_strip_4 ?_
  refine g_callV1 hC (sp_copyQ hD.fxm h3 (by omega) (b740 b3 (by decide) (by decide)) (by decide) k3) oc_Frac_copy ov_Frac_copy ml_Desk_102 hD.fxm.rc.choose_spec rfl hR (Nat.le_of_ble_eq_true rfl) (Nat.le_of_ble_eq_true rfl) (Nat.le_of_ble_eq_true rfl) (Nat.le_of_ble_eq_true rfl) (Nat.le_of_ble_eq_true rfl) d_Desk_strip_5 (fun r M1 hp => ?_)
  obtain ⟨rfl, o1, f1⟩ := hp
  refine g_s0 ?_
  have m1 := mdx_cp hD o1 f1
  have F1 := (frD.rf (d := d)).f f1 (by omega) (by omega)
  have H1 := hH.eq (M' := M1) (fun z z1 z2 => f1.2 z (by omega))
  refine g_aload_n hC rfl d_Desk_strip_8 ?_
  refine g_aload_n hC rfl d_Desk_strip_9 ?_
  refine g_iconst hC d_Desk_strip_10 ?_
  refine g_callV2 hC (sp_Desk_add (less := true) (m := 200) m1 (h1.d F1 (by omega)) (by omega) k1 b3 b1 (by decide) (by decide) (by decide) (by decide)) oc_Desk_add ov_Desk_add ml_Desk_105 m1.x.o rfl hR (Nat.le_of_ble_eq_true rfl) (Nat.le_of_ble_eq_true rfl) (Nat.le_of_ble_eq_true rfl) (Nat.le_of_ble_eq_true rfl) (Nat.le_of_ble_eq_true rfl) d_Desk_strip_11 (fun r M2 hp => ?_)
  obtain ⟨rfl, m2, f2⟩ := hp
  refine g_s0 ?_
  have F2 := F1.m f2
  have H2 := H1.eq (M' := M2) (fun z z1 z2 => f2.2 z (by omega))
  have bx := bd_sub b3 b1 true
  rw [lsq_t, ← Rat.sub_eq_add_neg] at m2 bx
  refine g_aload_n hC rfl d_Desk_strip_14 ?_
  refine g_get hC fb_Desk_36 m2.x.o rfl d_Desk_strip_15 ?_
  refine g_aload_n hC rfl d_Desk_strip_18 ?_
  refine g_get hC fb_Desk_14 m2.x.o rfl d_Desk_strip_19 ?_
  refine g_callV1 hC (sp_copyQ H2 m2.op (by omega) (b740 bx (by decide) (by decide)) (by decide) (by decide)) oc_Frac_copy ov_Frac_copy ml_Desk_102 H2.rc.choose_spec rfl hR (Nat.le_of_ble_eq_true rfl) (Nat.le_of_ble_eq_true rfl) (Nat.le_of_ble_eq_true rfl) (Nat.le_of_ble_eq_true rfl) (Nat.le_of_ble_eq_true rfl) d_Desk_strip_22 (fun r M3 hp => ?_)
  obtain ⟨rfl, o3, f3⟩ := hp
  refine g_s0 ?_
  have F3 := F2.f f3 (by omega) (by omega)
  have D3 := m2.x.eq (M' := M3) (fun z z1 z2 => f3.2 z (by omega))
  refine g_aload_n hC rfl d_Desk_strip_25 ?_
  refine g_get hC fb_Desk_14 D3.o rfl d_Desk_strip_26 ?_
  refine g_aload hC rfl d_Desk_strip_29 ?_
  refine g_callV1 hC (sp_copyQ D3.fxm (h4.d F3 (by omega)) (by omega) (b740 b4 (by decide) (by decide)) (by decide) k4) oc_Frac_copy ov_Frac_copy ml_Desk_102 D3.fxm.rc.choose_spec rfl hR (Nat.le_of_ble_eq_true rfl) (Nat.le_of_ble_eq_true rfl) (Nat.le_of_ble_eq_true rfl) (Nat.le_of_ble_eq_true rfl) (Nat.le_of_ble_eq_true rfl) d_Desk_strip_31 (fun r M4 hp => ?_)
  obtain ⟨rfl, o4, f4⟩ := hp
  refine g_s0 ?_
  have m4 := mdx_cp D3 o4 f4
  have F4 := F3.f f4 (by omega) (by omega)
  have H4 := o3.eq (M' := M4) (fun z z1 z2 => f4.2 z (by omega))
  refine g_aload_n hC rfl d_Desk_strip_34 ?_
  refine g_aload_n hC rfl d_Desk_strip_35 ?_
  refine g_iconst hC d_Desk_strip_36 ?_
  refine g_callV2 hC (sp_Desk_add (less := false) (m := 200) m4 (h2.d F4 (by omega)) (by omega) k2 b4 b2 (by decide) (by decide) (by decide) (by decide)) oc_Desk_add ov_Desk_add ml_Desk_105 m4.x.o rfl hR (Nat.le_of_ble_eq_true rfl) (Nat.le_of_ble_eq_true rfl) (Nat.le_of_ble_eq_true rfl) (Nat.le_of_ble_eq_true rfl) (Nat.le_of_ble_eq_true rfl) d_Desk_strip_37 (fun r M5 hp => ?_)
  obtain ⟨rfl, m5, f5⟩ := hp
  refine g_s0 ?_
  have F5 := F4.m f5
  have H5 := H4.eq (M' := M5) (fun z z1 z2 => f5.2 z (by omega))
  have bY := bd_sub b4 b2 false
  rw [lsq_f] at m5 bY
  refine g_aload_n hC rfl d_Desk_strip_40 ?_
  refine g_aload_n hC rfl d_Desk_strip_41 ?_
  refine g_get hC fb_Desk_36 m5.x.o rfl d_Desk_strip_42 ?_
  refine g_callV1 hC (sp_Desk_times (m := 402) m5 H5 (by omega) (by decide) bY bx (by decide) (by decide) (by decide)) oc_Desk_times ov_Desk_times ml_Desk_108 m5.x.o rfl hR (Nat.le_of_ble_eq_true rfl) (Nat.le_of_ble_eq_true rfl) (Nat.le_of_ble_eq_true rfl) (Nat.le_of_ble_eq_true rfl) (Nat.le_of_ble_eq_true rfl) d_Desk_strip_45 (fun r M6 hp => ?_)
  obtain ⟨rfl, m6, f6⟩ := hp
  refine g_s0 ?_
  have F6 := F5.m f6
  have H6 := H5.eq (M' := M6) (fun z z1 z2 => f6.2 z (by omega))
  have bz := bdq_mul bY bx
  clear m1 m2 m4 m5
  obtain ⟨mi, a, b, D6, hA6, hB6, q6⟩ := m6
  have b6 := q6.bd bz
  refine g_aload_n hC rfl d_Desk_strip_48 ?_
  refine g_get hC fb_Desk_14 D6.o rfl d_Desk_strip_49 ?_
  refine g_get hC fb_Desk_46 D6.m rfl d_Desk_strip_52 ?_
  refine g_iconst hC d_Desk_strip_55 ?_
  have t6 := mul_lt_pw b6.2 (show ((2 : Nat) : Int) < pw 1 by decide)
  refine g_callV1 hC (sp_Whole_times (b := 2) hB6 (by decide) (Int.lt_of_lt_of_le t6 (pow_le (by decide))) (by decide)) oc_Whole_times ov_Whole_times ml_Desk_86 hB6.rc.choose_spec rfl hR (Nat.le_of_ble_eq_true rfl) (Nat.le_of_ble_eq_true rfl) (Nat.le_of_ble_eq_true rfl) (Nat.le_of_ble_eq_true rfl) (Nat.le_of_ble_eq_true rfl) d_Desk_strip_56 (fun r M7 hp => ?_)
  obtain ⟨rfl, hB7, f7⟩ := hp
  refine g_s0 ?_
  have D7 := D6.fw i4 f7 hB7.tox
  have F7 := F6.m ((frM.rf).fw i4 f7)
  have H7 := H6.eq (M' := M7) (fun z z1 z2 => f7.2 z (by omega) (by omega))
  have hA7 := hA6.fr f7 (by omega) (by omega) (by omega)
  have hp2 : 0 < b * 2 := Nat.mul_pos q6.pos (by decide)
  refine g_aload_n hC rfl d_Desk_strip_59 ?_
  refine g_callV0 hC (sp_Desk_reduce (i := 402) D7 hA7 hB7 hp2 b6.1 (Int.lt_of_lt_of_le t6 (pow_le (by decide))) (by decide)) oc_Desk_reduce ov_Desk_reduce ml_Desk_57 D7.o rfl hR (Nat.le_of_ble_eq_true rfl) (Nat.le_of_ble_eq_true rfl) (Nat.le_of_ble_eq_true rfl) (Nat.le_of_ble_eq_true rfl) (Nat.le_of_ble_eq_true rfl) d_Desk_strip_60 (fun r M8 hp => ?_)
  obtain ⟨rfl, m8, f8⟩ := hp
  refine g_s0 ?_
  rw [← ovr_eq q6 (by decide)] at m8
  have H8 := H7.eq (M' := M8) (fun z z1 z2 => f8.2 z (by omega))
  refine g_vret hC hQ (by decide) (by decide) d_Desk_strip_63 ⟨rfl, ⟨_, m8⟩, H8.fx, F7.m f8⟩
theorem d_Desk_line_0 : dn m_Desk_line.2.1 0 (.aload_n 0) 1 1 := ⟨by decide +kernel, rfl⟩
theorem d_Desk_line_1 : dn m_Desk_line.2.1 1 (.getfield 14) 3 4 := ⟨by decide +kernel, rfl⟩
theorem d_Desk_line_4 : dn m_Desk_line.2.1 4 (.aload_n 3) 1 5 := ⟨by decide +kernel, rfl⟩
theorem d_Desk_line_5 : dn m_Desk_line.2.1 5 (.invokevirtual 102) 3 8 := ⟨by decide +kernel, rfl⟩
theorem d_Desk_line_8 : dn m_Desk_line.2.1 8 (.aload_n 0) 1 9 := ⟨by decide +kernel, rfl⟩
theorem d_Desk_line_9 : dn m_Desk_line.2.1 9 (.aload_n 1) 1 10 := ⟨by decide +kernel, rfl⟩
theorem d_Desk_line_10 : dn m_Desk_line.2.1 10 (.iconst 1) 1 11 := ⟨by decide +kernel, rfl⟩
theorem d_Desk_line_11 : dn m_Desk_line.2.1 11 (.invokevirtual 105) 3 14 := ⟨by decide +kernel, rfl⟩
theorem d_Desk_line_14 : dn m_Desk_line.2.1 14 (.aload_n 0) 1 15 := ⟨by decide +kernel, rfl⟩
theorem d_Desk_line_15 : dn m_Desk_line.2.1 15 (.getfield 36) 3 18 := ⟨by decide +kernel, rfl⟩
theorem d_Desk_line_18 : dn m_Desk_line.2.1 18 (.aload_n 0) 1 19 := ⟨by decide +kernel, rfl⟩
theorem d_Desk_line_19 : dn m_Desk_line.2.1 19 (.getfield 14) 3 22 := ⟨by decide +kernel, rfl⟩
theorem d_Desk_line_22 : dn m_Desk_line.2.1 22 (.invokevirtual 102) 3 25 := ⟨by decide +kernel, rfl⟩
theorem d_Desk_line_25 : dn m_Desk_line.2.1 25 (.aload_n 0) 1 26 := ⟨by decide +kernel, rfl⟩
theorem d_Desk_line_26 : dn m_Desk_line.2.1 26 (.getfield 14) 3 29 := ⟨by decide +kernel, rfl⟩
theorem d_Desk_line_29 : dn m_Desk_line.2.1 29 (.aload 4) 2 31 := ⟨by decide +kernel, rfl⟩
theorem d_Desk_line_31 : dn m_Desk_line.2.1 31 (.invokevirtual 102) 3 34 := ⟨by decide +kernel, rfl⟩
theorem d_Desk_line_34 : dn m_Desk_line.2.1 34 (.aload_n 0) 1 35 := ⟨by decide +kernel, rfl⟩
theorem d_Desk_line_35 : dn m_Desk_line.2.1 35 (.aload_n 2) 1 36 := ⟨by decide +kernel, rfl⟩
theorem d_Desk_line_36 : dn m_Desk_line.2.1 36 (.iconst 1) 1 37 := ⟨by decide +kernel, rfl⟩
theorem d_Desk_line_37 : dn m_Desk_line.2.1 37 (.invokevirtual 105) 3 40 := ⟨by decide +kernel, rfl⟩
theorem d_Desk_line_40 : dn m_Desk_line.2.1 40 (.aload_n 0) 1 41 := ⟨by decide +kernel, rfl⟩
theorem d_Desk_line_41 : dn m_Desk_line.2.1 41 (.aload_n 0) 1 42 := ⟨by decide +kernel, rfl⟩
theorem d_Desk_line_42 : dn m_Desk_line.2.1 42 (.getfield 36) 3 45 := ⟨by decide +kernel, rfl⟩
theorem d_Desk_line_45 : dn m_Desk_line.2.1 45 (.invokevirtual 110) 3 48 := ⟨by decide +kernel, rfl⟩
theorem d_Desk_line_48 : dn m_Desk_line.2.1 48 (.aload_n 0) 1 49 := ⟨by decide +kernel, rfl⟩
theorem d_Desk_line_49 : dn m_Desk_line.2.1 49 (.getfield 36) 3 52 := ⟨by decide +kernel, rfl⟩
theorem d_Desk_line_52 : dn m_Desk_line.2.1 52 (.aload_n 0) 1 53 := ⟨by decide +kernel, rfl⟩
theorem d_Desk_line_53 : dn m_Desk_line.2.1 53 (.getfield 14) 3 56 := ⟨by decide +kernel, rfl⟩
theorem d_Desk_line_56 : dn m_Desk_line.2.1 56 (.invokevirtual 102) 3 59 := ⟨by decide +kernel, rfl⟩
theorem d_Desk_line_59 : dn m_Desk_line.2.1 59 (.aload_n 0) 1 60 := ⟨by decide +kernel, rfl⟩
theorem d_Desk_line_60 : dn m_Desk_line.2.1 60 (.getfield 14) 3 63 := ⟨by decide +kernel, rfl⟩
theorem d_Desk_line_63 : dn m_Desk_line.2.1 63 (.aload 5) 2 65 := ⟨by decide +kernel, rfl⟩
theorem d_Desk_line_65 : dn m_Desk_line.2.1 65 (.invokevirtual 102) 3 68 := ⟨by decide +kernel, rfl⟩
theorem d_Desk_line_68 : dn m_Desk_line.2.1 68 (.aload_n 0) 1 69 := ⟨by decide +kernel, rfl⟩
theorem d_Desk_line_69 : dn m_Desk_line.2.1 69 (.aload_n 1) 1 70 := ⟨by decide +kernel, rfl⟩
theorem d_Desk_line_70 : dn m_Desk_line.2.1 70 (.iconst 1) 1 71 := ⟨by decide +kernel, rfl⟩
theorem d_Desk_line_71 : dn m_Desk_line.2.1 71 (.invokevirtual 105) 3 74 := ⟨by decide +kernel, rfl⟩
theorem d_Desk_line_74 : dn m_Desk_line.2.1 74 (.aload_n 0) 1 75 := ⟨by decide +kernel, rfl⟩
theorem d_Desk_line_75 : dn m_Desk_line.2.1 75 (.aload_n 0) 1 76 := ⟨by decide +kernel, rfl⟩
theorem d_Desk_line_76 : dn m_Desk_line.2.1 76 (.getfield 36) 3 79 := ⟨by decide +kernel, rfl⟩
theorem d_Desk_line_79 : dn m_Desk_line.2.1 79 (.invokevirtual 108) 3 82 := ⟨by decide +kernel, rfl⟩
theorem d_Desk_line_82 : dn m_Desk_line.2.1 82 (.aload_n 0) 1 83 := ⟨by decide +kernel, rfl⟩
theorem d_Desk_line_83 : dn m_Desk_line.2.1 83 (.aload_n 2) 1 84 := ⟨by decide +kernel, rfl⟩
theorem d_Desk_line_84 : dn m_Desk_line.2.1 84 (.iconst 0) 1 85 := ⟨by decide +kernel, rfl⟩
theorem d_Desk_line_85 : dn m_Desk_line.2.1 85 (.invokevirtual 105) 3 88 := ⟨by decide +kernel, rfl⟩
theorem d_Desk_line_88 : dn m_Desk_line.2.1 88 (.aload_n 0) 1 89 := ⟨by decide +kernel, rfl⟩
theorem d_Desk_line_89 : dn m_Desk_line.2.1 89 (.getfield 14) 3 92 := ⟨by decide +kernel, rfl⟩
theorem d_Desk_line_92 : dn m_Desk_line.2.1 92 (.aload_n 2) 1 93 := ⟨by decide +kernel, rfl⟩
theorem d_Desk_line_93 : dn m_Desk_line.2.1 93 (.getfield 53) 3 96 := ⟨by decide +kernel, rfl⟩
theorem d_Desk_line_96 : dn m_Desk_line.2.1 96 (.putfield 53) 3 99 := ⟨by decide +kernel, rfl⟩
theorem d_Desk_line_99 : dn m_Desk_line.2.1 99 (.return_) 1 100 := ⟨by decide +kernel, rfl⟩
theorem sp_Desk_line {l : Launch} {K : KC} {M : AH} {d p0 q0 p1 q1 p2 c0 e0 c1 e1 c2 : Nat} {x0 y0 x1 y1 x2 : Rat} {u0 v0 u1 v1 u2 : Int} (hD : dkx K M d) (hH : fx K M (d + 14) 740) (h1 : opx K M p0 c0 x0 u0) (h2 : opx K M q0 e0 y0 v0) (h3 : opx K M p1 c1 x1 u1) (h4 : opx K M q1 e1 y1 v1) (h5 : opx K M p2 c2 x2 u2)
    (d1 : dd p0 d) (d2 : dd q0 d) (d3 : dd p1 d) (d4 : dd q1 d) (d5 : dd p2 d) (k1 : c0 ≤ 1000) (k2 : e0 ≤ 1000) (k3 : c1 ≤ 1000) (k4 : e1 ≤ 1000) (k5 : c2 ≤ 1000) (b1 : bdq x0 100 100) (b2 : bdq y0 100 100) (b3 : bdq x1 100 100) (b4 : bdq y1 100 100) (b5 : bdq x2 100 100) (hne : x1 - x0 ≠ 0) :
    Sp l K m_Desk_line 5 0 0 [.ref d, .ref p0, .ref q0, .ref p1, .ref q1, .ref p2] M (fun r M' => r = none ∧ mdx K M' d ((x2 - x0) * ((y1 - y0) / (x1 - x0)) + y0) v0 ∧ fx K M' (d + 14) 740 ∧ frD M M' d) := by
  refine Sp.ofG R_Desk rfl (by decide) [some (.ref d), some (.ref p0), some (.ref q0), some (.ref p1), some (.ref q1), some (.ref p2)] rfl (Nat.le_of_ble_eq_true rfl) ?_
  intro X hl hK hN hR hC hQ
  subst hl hK
  unfold dd at *
  refine g_aload_n hC rfl d_Desk_line_0 ?_
  refine g_get hC fb_Desk_14 hD.o rfl d_Desk_line_1 ?_
  refine g_aload_n hC rfl d_Desk_line_4 ?_
  refine g_callV1 hC (sp_copyQ hD.fxm h3 (by omega) (b740 b3 (by decide) (by decide)) (by decide) k3) oc_Frac_copy ov_Frac_copy ml_Desk_102 hD.fxm.rc.choose_spec rfl hR (Nat.le_of_ble_eq_true rfl) (Nat.le_of_ble_eq_true rfl) (Nat.le_of_ble_eq_true rfl) (Nat.le_of_ble_eq_true rfl) (Nat.le_of_ble_eq_true rfl) d_Desk_line_5 (fun r M1 hp => ?_)
  obtain ⟨rfl, o1, f1⟩ := hp
  refine g_s0 ?_
  have m1 := mdx_cp hD o1 f1
  have F1 := (frD.rf (d := d)).f f1 (by omega) (by omega)
  have H1 := hH.eq (M' := M1) (fun z z1 z2 => f1.2 z (by omega))
  refine g_aload_n hC rfl d_Desk_line_8 ?_
  refine g_aload_n hC rfl d_Desk_line_9 ?_
  refine g_iconst hC d_Desk_line_10 ?_
  refine g_callV2 hC (sp_Desk_add (less := true) (m := 200) m1 (h1.d F1 (by omega)) (by omega) k1 b3 b1 (by decide) (by decide) (by decide) (by decide)) oc_Desk_add ov_Desk_add ml_Desk_105 m1.x.o rfl hR (Nat.le_of_ble_eq_true rfl) (Nat.le_of_ble_eq_true rfl) (Nat.le_of_ble_eq_true rfl) (Nat.le_of_ble_eq_true rfl) (Nat.le_of_ble_eq_true rfl) d_Desk_line_11 (fun r M2 hp => ?_)
  obtain ⟨rfl, m2, f2⟩ := hp
  refine g_s0 ?_
  have F2 := F1.m f2
  have H2 := H1.eq (M' := M2) (fun z z1 z2 => f2.2 z (by omega))
  have bx := bd_sub b3 b1 true
  rw [lsq_t, ← Rat.sub_eq_add_neg] at m2 bx
  refine g_aload_n hC rfl d_Desk_line_14 ?_
  refine g_get hC fb_Desk_36 m2.x.o rfl d_Desk_line_15 ?_
  refine g_aload_n hC rfl d_Desk_line_18 ?_
  refine g_get hC fb_Desk_14 m2.x.o rfl d_Desk_line_19 ?_
  refine g_callV1 hC (sp_copyQ H2 m2.op (by omega) (b740 bx (by decide) (by decide)) (by decide) (by decide)) oc_Frac_copy ov_Frac_copy ml_Desk_102 H2.rc.choose_spec rfl hR (Nat.le_of_ble_eq_true rfl) (Nat.le_of_ble_eq_true rfl) (Nat.le_of_ble_eq_true rfl) (Nat.le_of_ble_eq_true rfl) (Nat.le_of_ble_eq_true rfl) d_Desk_line_22 (fun r M3 hp => ?_)
  obtain ⟨rfl, o3, f3⟩ := hp
  refine g_s0 ?_
  have F3 := F2.f f3 (by omega) (by omega)
  have D3 := m2.x.eq (M' := M3) (fun z z1 z2 => f3.2 z (by omega))
  refine g_aload_n hC rfl d_Desk_line_25 ?_
  refine g_get hC fb_Desk_14 D3.o rfl d_Desk_line_26 ?_
  refine g_aload hC rfl d_Desk_line_29 ?_
  refine g_callV1 hC (sp_copyQ D3.fxm (h4.d F3 (by omega)) (by omega) (b740 b4 (by decide) (by decide)) (by decide) k4) oc_Frac_copy ov_Frac_copy ml_Desk_102 D3.fxm.rc.choose_spec rfl hR (Nat.le_of_ble_eq_true rfl) (Nat.le_of_ble_eq_true rfl) (Nat.le_of_ble_eq_true rfl) (Nat.le_of_ble_eq_true rfl) (Nat.le_of_ble_eq_true rfl) d_Desk_line_31 (fun r M4 hp => ?_)
  obtain ⟨rfl, o4, f4⟩ := hp
  refine g_s0 ?_
  have m4 := mdx_cp D3 o4 f4
  have F4 := F3.f f4 (by omega) (by omega)
  have H4 := o3.eq (M' := M4) (fun z z1 z2 => f4.2 z (by omega))
  refine g_aload_n hC rfl d_Desk_line_34 ?_
  refine g_aload_n hC rfl d_Desk_line_35 ?_
  refine g_iconst hC d_Desk_line_36 ?_
  refine g_callV2 hC (sp_Desk_add (less := true) (m := 200) m4 (h2.d F4 (by omega)) (by omega) k2 b4 b2 (by decide) (by decide) (by decide) (by decide)) oc_Desk_add ov_Desk_add ml_Desk_105 m4.x.o rfl hR (Nat.le_of_ble_eq_true rfl) (Nat.le_of_ble_eq_true rfl) (Nat.le_of_ble_eq_true rfl) (Nat.le_of_ble_eq_true rfl) (Nat.le_of_ble_eq_true rfl) d_Desk_line_37 (fun r M5 hp => ?_)
  obtain ⟨rfl, m5, f5⟩ := hp
  refine g_s0 ?_
  have F5 := F4.m f5
  have H5 := H4.eq (M' := M5) (fun z z1 z2 => f5.2 z (by omega))
  have bY := bd_sub b4 b2 true
  rw [lsq_t, ← Rat.sub_eq_add_neg] at m5 bY
  refine g_aload_n hC rfl d_Desk_line_40 ?_
  refine g_aload_n hC rfl d_Desk_line_41 ?_
  refine g_get hC fb_Desk_36 m5.x.o rfl d_Desk_line_42 ?_
  refine g_callV1 hC (sp_Desk_over (m := 402) m5 H5 hne (by omega) (by decide) bY bx (by decide) (by decide) (by decide)) oc_Desk_over ov_Desk_over ml_Desk_110 m5.x.o rfl hR (Nat.le_of_ble_eq_true rfl) (Nat.le_of_ble_eq_true rfl) (Nat.le_of_ble_eq_true rfl) (Nat.le_of_ble_eq_true rfl) (Nat.le_of_ble_eq_true rfl) d_Desk_line_45 (fun r M6 hp => ?_)
  obtain ⟨rfl, m6, f6⟩ := hp
  refine g_s0 ?_
  have F6 := F5.m f6
  have H6 := H5.eq (M' := M6) (fun z z1 z2 => f6.2 z (by omega))
  have bz := bdq_div bY bx hne
  refine g_aload_n hC rfl d_Desk_line_48 ?_
  refine g_get hC fb_Desk_36 m6.x.o rfl d_Desk_line_49 ?_
  refine g_aload_n hC rfl d_Desk_line_52 ?_
  refine g_get hC fb_Desk_14 m6.x.o rfl d_Desk_line_53 ?_
  refine g_callV1 hC (sp_copyQ H6.fx m6.op (by omega) (b740 bz (by decide) (by decide)) (by decide) (by decide)) oc_Frac_copy ov_Frac_copy ml_Desk_102 H6.rc.choose_spec rfl hR (Nat.le_of_ble_eq_true rfl) (Nat.le_of_ble_eq_true rfl) (Nat.le_of_ble_eq_true rfl) (Nat.le_of_ble_eq_true rfl) (Nat.le_of_ble_eq_true rfl) d_Desk_line_56 (fun r M7 hp => ?_)
  obtain ⟨rfl, o7, f7⟩ := hp
  refine g_s0 ?_
  have F7 := F6.f f7 (by omega) (by omega)
  have D7 := m6.x.eq (M' := M7) (fun z z1 z2 => f7.2 z (by omega))
  clear m1 m2 m4 m5 F1 F2 F3 F4 F5 F6
  refine g_aload_n hC rfl d_Desk_line_59 ?_
  refine g_get hC fb_Desk_14 D7.o rfl d_Desk_line_60 ?_
  refine g_aload hC rfl d_Desk_line_63 ?_
  refine g_callV1 hC (sp_copyQ D7.fxm (h5.d F7 (by omega)) (by omega) (b740 b5 (by decide) (by decide)) (by decide) k5) oc_Frac_copy ov_Frac_copy ml_Desk_102 D7.fxm.rc.choose_spec rfl hR (Nat.le_of_ble_eq_true rfl) (Nat.le_of_ble_eq_true rfl) (Nat.le_of_ble_eq_true rfl) (Nat.le_of_ble_eq_true rfl) (Nat.le_of_ble_eq_true rfl) d_Desk_line_65 (fun r M8 hp => ?_)
  obtain ⟨rfl, o8, f8⟩ := hp
  refine g_s0 ?_
  have m8 := mdx_cp D7 o8 f8
  have F8 := F7.f f8 (by omega) (by omega)
  have H8 := o7.eq (M' := M8) (fun z z1 z2 => f8.2 z (by omega))
  refine g_aload_n hC rfl d_Desk_line_68 ?_
  refine g_aload_n hC rfl d_Desk_line_69 ?_
  refine g_iconst hC d_Desk_line_70 ?_
  refine g_callV2 hC (sp_Desk_add (less := true) (m := 200) m8 (h1.d F8 (by omega)) (by omega) k1 b5 b1 (by decide) (by decide) (by decide) (by decide)) oc_Desk_add ov_Desk_add ml_Desk_105 m8.x.o rfl hR (Nat.le_of_ble_eq_true rfl) (Nat.le_of_ble_eq_true rfl) (Nat.le_of_ble_eq_true rfl) (Nat.le_of_ble_eq_true rfl) (Nat.le_of_ble_eq_true rfl) d_Desk_line_71 (fun r M9 hp => ?_)
  obtain ⟨rfl, m9, f9⟩ := hp
  refine g_s0 ?_
  have F9 := F8.m f9
  have H9 := H8.eq (M' := M9) (fun z z1 z2 => f9.2 z (by omega))
  have bw := bd_sub b5 b1 true
  rw [lsq_t, ← Rat.sub_eq_add_neg] at m9 bw
  refine g_aload_n hC rfl d_Desk_line_74 ?_
  refine g_aload_n hC rfl d_Desk_line_75 ?_
  refine g_get hC fb_Desk_36 m9.x.o rfl d_Desk_line_76 ?_
  refine g_callV1 hC (sp_Desk_times (m := 602) m9 H9 (by omega) (by decide) bw bz (by decide) (by decide) (by decide)) oc_Desk_times ov_Desk_times ml_Desk_108 m9.x.o rfl hR (Nat.le_of_ble_eq_true rfl) (Nat.le_of_ble_eq_true rfl) (Nat.le_of_ble_eq_true rfl) (Nat.le_of_ble_eq_true rfl) (Nat.le_of_ble_eq_true rfl) d_Desk_line_79 (fun r Ma hp => ?_)
  obtain ⟨rfl, ma, fa⟩ := hp
  refine g_s0 ?_
  have Fa := F9.m fa
  have Ha := H9.eq (M' := Ma) (fun z z1 z2 => fa.2 z (by omega))
  have ba := bdq_mul bw bz
  refine g_aload_n hC rfl d_Desk_line_82 ?_
  refine g_aload_n hC rfl d_Desk_line_83 ?_
  refine g_iconst hC d_Desk_line_84 ?_
  refine g_callV2 hC (sp_Desk_add (less := false) (m := 710) ma (h2.d Fa (by omega)) (by omega) k2 ba b2 (by decide) (by decide) (by decide) (by decide)) oc_Desk_add ov_Desk_add ml_Desk_105 ma.x.o rfl hR (Nat.le_of_ble_eq_true rfl) (Nat.le_of_ble_eq_true rfl) (Nat.le_of_ble_eq_true rfl) (Nat.le_of_ble_eq_true rfl) (Nat.le_of_ble_eq_true rfl) d_Desk_line_85 (fun r Mb hp => ?_)
  obtain ⟨rfl, mb, fb⟩ := hp
  refine g_s0 ?_
  rw [lsq_f] at mb
  have Fb := Fa.m fb
  have Hb := Ha.eq (M' := Mb) (fun z z1 z2 => fb.2 z (by omega))
  obtain ⟨mi, a, b, Db, hAb, hBb, qb⟩ := mb
  obtain ⟨mo, c, e, hE, qe⟩ := h2.d Fb (by omega)
  refine g_aload_n hC rfl d_Desk_line_88 ?_
  refine g_get hC fb_Desk_14 Db.o rfl d_Desk_line_89 ?_
  refine g_aload_n hC rfl d_Desk_line_92 ?_
  refine g_get hC fb_Desk_53 hE.1 rfl d_Desk_line_93 ?_
  refine g_put hC fb_Desk_53 Db.m rfl rfl (Nat.le_of_ble_eq_true rfl) d_Desk_line_96 ?_
  have Dc := Db.sm (mi' := mi) (un' := v0)
  refine g_vret hC hQ (by decide) (by decide) d_Desk_line_99 ⟨rfl, ⟨mi, a, b, Dc, hAb.sm (by omega) (by omega), hBb.sm (by omega) (by omega), qb⟩, (Hb.eq (fun z z1 z2 => ups_n (by omega))).fx, Fb.m (frM.rf.sm)⟩
