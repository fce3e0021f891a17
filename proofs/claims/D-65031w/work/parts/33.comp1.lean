/-! the component under changes of a list, or of nothing known -/
def kpO (K : KC) (M M' : AH) : Prop := ∀ z v, M.1 z = some v → (∀ fs, v ≠ oO 6 fs) → (∀ n g, v ≠ oR K n g) → M'.1 z = some v
section KPs
variable {K : KC} {M M' : AH}
theorem kpO.o (h : kpO K M M') {z ci : Nat} {fs : List Value} (hz : M.1 z = some (oO ci fs)) (hc : ci ≠ 6) : M'.1 z = some (oO ci fs) := h z _ hz (fun fs' q => hc (by injection q with q; exact congrArg Prod.fst q)) (fun n g q => by simp [oR] at q)
theorem kpO.i (h : kpO K M M') {z n : Nat} {f : Int → Int} (hz : M.1 z = some (oI K n f)) : M'.1 z = some (oI K n f) := h z _ hz (fun fs' q => by simp [oI] at q) (fun n g q => by simp [oI, oR] at q)
theorem isW.kp {q cap n : Nat} {f : Int → Int} (h : isW K M q cap n f) (hk : kpO K M M') : isW K M' q cap n f := ⟨hk.o h.1 (by decide), hk.i h.2⟩
theorem wx.kp {q cap : Nat} (h : wx K M q cap) (hk : kpO K M M') : wx K M' q cap := by
  obtain ⟨n, f, h⟩ := h
  exact ⟨n, f, h.kp hk⟩
theorem wv.kp {q cap v : Nat} (h : wv K M q cap v) (hk : kpO K M M') : wv K M' q cap v := by
  obtain ⟨n, f, h, h'⟩ := h
  exact ⟨n, f, h.kp hk, h'⟩
theorem fx.kp {p cap : Nat} (h : fx K M p cap) (hk : kpO K M M') : fx K M' p cap := by
  obtain ⟨mi, un, h1, h2, h3⟩ := h
  exact ⟨mi, un, hk.o h1 (by decide), h2.kp hk, h3.kp hk⟩
theorem opx.kp {p cap : Nat} {x : Rat} {un : Int} (h : opx K M p cap x un) (hk : kpO K M M') : opx K M' p cap x un := by
  obtain ⟨mi, a, b, ⟨h1, h2, h3⟩, q⟩ := h
  exact ⟨mi, a, b, ⟨hk.o h1 (by decide), h2.kp hk, h3.kp hk⟩, q⟩
theorem dkx.kp {d : Nat} (h : dkx K M d) (hk : kpO K M M') : dkx K M' d := by
  obtain ⟨mi, un, h1, h2, h3, h4, h5, h6, h7, h8⟩ := h
  exact ⟨mi, un, hk.o h1 (by decide), hk.o h2 (by decide), h3.kp hk, h4.kp hk, h5.kp hk, h6.kp hk, h7.kp hk, h8.kp hk⟩
theorem mdx.kp {d : Nat} {x : Rat} {un : Int} (h : mdx K M d x un) (hk : kpO K M M') : mdx K M' d x un := by
  obtain ⟨mi, a, b, ⟨h1, h2, h3, h4, h5, h6, h7, h8⟩, hA, hB, q⟩ := h
  exact ⟨mi, a, b, ⟨hk.o h1 (by decide), hk.o h2 (by decide), h3.kp hk, h4.kp hk, h5.kp hk, h6.kp hk, h7.kp hk, h8.kp hk⟩, hA.kp hk, hB.kp hk, q⟩
/-- a list's change keeps all that is no list -/
theorem frA.kp {a e cap : Nat} {els : List Nat} (hL : isL K M a e cap els) (hlt : hlt M) (hf : frA M M' a e cap) : kpO K M M' := by
  obtain ⟨⟨mc, h1⟩, ⟨g, h2, _⟩, _⟩ := hL
  intro z v hz n1 n2
  refine (hf z (hlt z v hz) (fun q => ?_) (fun q => ?_)).trans hz
  · subst q
    rw [h1] at hz
    exact absurd (Option.some.inj hz).symm (n1 _)
  · subst q
    rw [h2] at hz
    exact absurd (Option.some.inj hz).symm (n2 _ _)
theorem kpO.rf : kpO K M M := fun _ _ h _ _ => h
variable {c : Nat} {vs ss rs : List Nat} {xs : List (Rat × Int)} {ws : List (List (Nat × Nat))} {wl : List Int}
theorem CI.lsL (h : CI K M c vs ss rs xs ws wl) {b : Nat} (hb : Ls c rs b) : ∃ els, lst K M c b els := by
  obtain ⟨_, _, ⟨h4, h5, h6⟩, _, _, ⟨h10, h11⟩, _⟩ := h
  rcases hb with rfl | rfl | rfl | ⟨r, hr, hb⟩
  · exact ⟨_, h4⟩
  · exact ⟨_, h5⟩
  · exact ⟨_, h6⟩
  · obtain ⟨k, hk⟩ := List.getElem?_of_mem hr
    have hkl : k < ws.length := by rw [← h10]; exact (List.getElem?_eq_some_iff.mp hk).1
    obtain ⟨q1, q2, q3⟩ := h11 k r _ hk (List.getElem?_eq_getElem hkl)
    rcases hb with rfl | rfl
    · exact ⟨_, q2⟩
    · exact ⟨_, q3⟩
/-- another list is kept -/
theorem lst.fr {a e cap b : Nat} {els els' : List Nat} (hb : lst K M c b els') (hL : isL K M a e cap els) (hG : Gi K M c rs) (ha : Ls c rs a) (hbl : Ls c rs b) (hne : b ≠ a) (hlt : hlt M) (hf : frA M M' a e cap) : lst K M' c b els' := by
  obtain ⟨e2, cap2, q1, q2, q3⟩ := hb
  refine ⟨e2, cap2, q1, q2, ?_⟩
  obtain ⟨⟨mc, h1⟩, ⟨g, h2, _⟩, _, h5, h6⟩ := hL
  obtain ⟨⟨mc2, k1⟩, ⟨g2, k2, k3⟩, k4, k5, k6⟩ := q3
  have hb1 : M'.1 b = M.1 b := hf b (hlt b _ k1) hne (fun q => by subst q; rw [k1] at h2; simp [oR] at h2)
  have he1 : M'.1 e2 = M.1 e2 := hf e2 (hlt e2 _ k2) (fun q => by subst q; rw [h1] at k2; simp [oR] at k2) (fun q => by
    subst q
    rcases hG b a e2 _ _ _ _ hbl ha k1 h1 with h | h
    · exact absurd h hne
    · rcases Nat.eq_zero_or_pos cap with h0 | h0
      · exact h0
      · exact absurd h (h6 h0))
  exact ⟨⟨mc2, hb1.trans k1⟩, ⟨g2, he1.trans k2, k3⟩, k4, k5, k6⟩
theorem Gi.upd {a e cap e' cap' : Nat} {els els' : List Nat} (hG : Gi K M c rs) (hk : ∀ b, Ls c rs b → ∃ els, lst K M c b els) (hL : isL K M a e cap els) (hL' : isL K M' a e' cap' els') (ha : Ls c rs a) (he : e' = e ∨ M.2 ≤ e') (hlt : hlt M) (hf : frA M M' a e cap) : Gi K M' c rs := by
  have key : ∀ (b f : Nat) (n m : Value), Ls c rs b → b ≠ a → M'.1 b = some (oO 6 [.ref f, n, m]) → M.1 b = some (oO 6 [.ref f, n, m]) ∧ f < M.2 := by
    intro b f n m hb hne hq
    obtain ⟨elsb, e2, cap2, _, _, ⟨⟨mc2, k1⟩, ⟨g2, k2, k3⟩, _⟩⟩ := hk b hb
    have hL2 := hL
    obtain ⟨⟨mc, h1⟩, ⟨g, h2, _⟩, _⟩ := hL2
    have hb1 : M'.1 b = M.1 b := hf b (hlt b _ k1) hne (fun q => by subst q; rw [k1] at h2; simp [oR] at h2)
    rw [hb1] at hq
    have : f = e2 := by
      rw [k1] at hq
      simp at hq
      exact hq.1.symm
    subst this
    exact ⟨hq, hlt _ _ k2⟩
  obtain ⟨⟨mc, h1⟩, ⟨g, h2, _⟩, _⟩ := hL
  obtain ⟨⟨mc', h1'⟩, _⟩ := hL'
  intro b1 b2 f n m n' m' hb1 hb2 g1 g2
  by_cases q1 : b1 = a
  · by_cases q2 : b2 = a
    · exact Or.inl (q1.trans q2.symm)
    · obtain ⟨g3, g4⟩ := key b2 f n' m' hb2 q2 g2
      subst q1
      rw [h1'] at g1
      have hf' : e' = f := by simp at g1; exact g1.1
      subst hf'
      rcases he with rfl | he
      · exact hG b1 b2 e' _ _ _ _ hb1 hb2 h1 g3
      · omega
  · obtain ⟨g3, g4⟩ := key b1 f n m hb1 q1 g1
    by_cases q2 : b2 = a
    · subst q2
      rw [h1'] at g2
      have hf' : e' = f := by simp at g2; exact g2.1
      subst hf'
      rcases he with rfl | he
      · exact hG b1 b2 e' _ _ _ _ hb1 hb2 g3 h1
      · omega
    · obtain ⟨g5, g6⟩ := key b2 f n' m' hb2 q2 g2
      exact hG b1 b2 f _ _ _ _ hb1 hb2 g3 g5
/-- new cells alone -/
theorem CI.mono (h : CI K M c vs ss rs xs ws wl) (he : ∀ x v, M.1 x = some v → M'.1 x = some v) : CI K M' c vs ss rs xs ws wl := by
  have hk : kpO K M M' := fun z v hz _ _ => he z v hz
  have hl : ∀ a els, lst K M c a els → lst K M' c a els := by
    intro a els hl
    obtain ⟨e, cap, q1, q2, ⟨mc, k1⟩, ⟨g, k2, k3⟩, k4⟩ := hl
    exact ⟨e, cap, q1, q2, ⟨mc, he _ _ k1⟩, ⟨g, he _ _ k2, k3⟩, k4⟩
  have hls := fun b hb => h.lsL (b := b) hb
  obtain ⟨⟨h1, wf, h2, h2'⟩, h3, ⟨h4, h5, h6⟩, ⟨h7, h8⟩, h9, ⟨h10, h11⟩, h12, h13, h14, h15⟩ := h
  refine ⟨⟨he _ _ h1, wf, he _ _ h2, h2'⟩, ⟨h3.1.kp hk, h3.2.kp hk⟩, ⟨hl _ _ h4, hl _ _ h5, hl _ _ h6⟩, ⟨h7, fun i p x hp hx => (h8 i p x hp hx).kp hk⟩, fun p hp => (h9 p hp).kp hk, ⟨h10, fun k r cs hr hc => ?_⟩, h12, ?_, he _ _ h14, h15⟩
  · obtain ⟨q1, q2, q3⟩ := h11 k r cs hr hc
    exact ⟨he _ _ q1, hl _ _ q2, hl _ _ q3⟩
  · refine h13.eq (fun a ha => ?_)
    obtain ⟨els, e, cap, _, _, ⟨mc, k1⟩, _⟩ := hls a ha
    rw [k1]
    exact he _ _ k1
end KPs
theorem d_Comp_fresh_0 : dn m_Comp_fresh.2.1 0 (.aload_n 0) 1 1 := ⟨by decide +kernel, rfl⟩
theorem d_Comp_fresh_1 : dn m_Comp_fresh.2.1 1 (.getfield 16) 3 4 := ⟨by decide +kernel, rfl⟩
theorem d_Comp_fresh_4 : dn m_Comp_fresh.2.1 4 (.invokevirtual 53) 3 7 := ⟨by decide +kernel, rfl⟩
theorem d_Comp_fresh_7 : db m_Comp_fresh.2.1 7 (.ifCond .eq) 22 10 := ⟨15, by decide +kernel, by decide, rfl⟩
theorem d_Comp_fresh_10 : dn m_Comp_fresh.2.1 10 (.new 51) 3 13 := ⟨by decide +kernel, rfl⟩
theorem d_Comp_fresh_13 : dn m_Comp_fresh.2.1 13 (.dup) 1 14 := ⟨by decide +kernel, rfl⟩
theorem d_Comp_fresh_14 : dn m_Comp_fresh.2.1 14 (.bipush 100) 2 16 := ⟨by decide +kernel, rfl⟩
theorem d_Comp_fresh_16 : dn m_Comp_fresh.2.1 16 (.invokespecial 57) 3 19 := ⟨by decide +kernel, rfl⟩
theorem d_Comp_fresh_19 : db m_Comp_fresh.2.1 19 (.goto) 41 22 := ⟨22, by decide +kernel, by decide, rfl⟩
theorem d_Comp_fresh_22 : dn m_Comp_fresh.2.1 22 (.aload_n 0) 1 23 := ⟨by decide +kernel, rfl⟩
theorem d_Comp_fresh_23 : dn m_Comp_fresh.2.1 23 (.getfield 16) 3 26 := ⟨by decide +kernel, rfl⟩
theorem d_Comp_fresh_26 : dn m_Comp_fresh.2.1 26 (.aload_n 0) 1 27 := ⟨by decide +kernel, rfl⟩
theorem d_Comp_fresh_27 : dn m_Comp_fresh.2.1 27 (.getfield 16) 3 30 := ⟨by decide +kernel, rfl⟩
theorem d_Comp_fresh_30 : dn m_Comp_fresh.2.1 30 (.invokevirtual 39) 3 33 := ⟨by decide +kernel, rfl⟩
theorem d_Comp_fresh_33 : dn m_Comp_fresh.2.1 33 (.iconst 1) 1 34 := ⟨by decide +kernel, rfl⟩
theorem d_Comp_fresh_34 : dn m_Comp_fresh.2.1 34 (.isub) 1 35 := ⟨by decide +kernel, rfl⟩
theorem d_Comp_fresh_35 : dn m_Comp_fresh.2.1 35 (.invokevirtual 60) 3 38 := ⟨by decide +kernel, rfl⟩
theorem d_Comp_fresh_38 : dn m_Comp_fresh.2.1 38 (.checkcast 51) 3 41 := ⟨by decide +kernel, rfl⟩
theorem d_Comp_fresh_41 : dn m_Comp_fresh.2.1 41 (.areturn) 1 42 := ⟨by decide +kernel, rfl⟩
theorem sp_Comp_fresh {l : Launch} {K : KC} {M : AH} {c : Nat} {vs ss rs : List Nat} {xs : List (Rat × Int)} {ws : List (List (Nat × Nat))} {wl : List Int} (h : CI K M c vs ss rs xs ws wl) (hn : xs.length < 200) :
    Sp l K m_Comp_fresh 3 5 208 [.ref c] M (fun r M' => ∃ (p : Nat) (ss' : List Nat), r = some (.ref p) ∧ CI K M' c vs ss' rs xs ws wl ∧ fx K M' p 100 ∧ c + 24 ≤ p ∧ p ∉ vs ++ ss' ∧ (vs ++ ss').length < 200 ∧ (∀ x, c + 4 < x → x < c + 24 → M'.1 x = M.1 x)) := by
  refine Sp.ofG R_Comp rfl (by decide) [some (.ref c)] rfl (Nat.le_of_ble_eq_true rfl) ?_
  intro X hl hK hN hR hC hQ
  subst hl hK
  refine g_hlt (fun hlt => ?_)
  obtain ⟨e, cap, q1, q2, q3⟩ := h.s
  have hln := h.len
  refine g_aload_n hC rfl d_Comp_fresh_0 ?_
  refine g_get hC fb_Comp_16 h.o rfl d_Comp_fresh_1 ?_
  refine g_callV0 hC (sp_AL_isEmpty q3 (by omega)) oc_AL_isEmpty ov_AL_isEmpty ml_Comp_53 q3.1.choose_spec rfl hR (Nat.le_of_ble_eq_true rfl) (Nat.le_of_ble_eq_true rfl) (Nat.le_of_ble_eq_true rfl) (Nat.le_of_ble_eq_true rfl) (Nat.le_of_ble_eq_true rfl) d_Comp_fresh_4 (fun r M hp => ?_)
  obtain ⟨rfl, rfl⟩ := hp
  refine g_sv ?_
  have hle := q3.2.2.1
  refine g_if_eq hC (by unfold I32; split <;> omega) d_Comp_fresh_7 (fun c1 => ?_) (fun c1 => ?_)
  · have hne : ss ≠ [] := fun q => by rw [q] at c1; simp at c1
    obtain ⟨ss', p, rfl⟩ : ∃ ss' p, ss = ss' ++ [p] := ⟨ss.dropLast, ss.getLast hne, (List.dropLast_concat_getLast hne).symm⟩
    refine g_aload_n hC rfl d_Comp_fresh_22 ?_
    refine g_get hC fb_Comp_16 h.o rfl d_Comp_fresh_23 ?_
    refine g_aload_n hC rfl d_Comp_fresh_26 ?_
    refine g_get hC fb_Comp_16 h.o rfl d_Comp_fresh_27 ?_
    refine g_callV0 hC (sp_AL_size q3) oc_AL_size ov_AL_size ml_Comp_39 q3.1.choose_spec rfl hR (Nat.le_of_ble_eq_true rfl) (Nat.le_of_ble_eq_true rfl) (Nat.le_of_ble_eq_true rfl) (Nat.le_of_ble_eq_true rfl) (Nat.le_of_ble_eq_true rfl) d_Comp_fresh_30 (fun r M hp => ?_)
    obtain ⟨rfl, rfl⟩ := hp
    refine g_sv ?_
    refine g_iconst hC d_Comp_fresh_33 ?_
    refine g_isub hC d_Comp_fresh_34 ?_
    rw [show ((ss' ++ [p]).length : Int) - 1 = (ss'.length : Int) by rw [List.length_append]; show ((ss'.length + 1 : Nat) : Int) - 1 = _; omega]
    refine g_callV1 hC (sp_AL_remove q3 q1) oc_AL_remove ov_AL_remove ml_Comp_60 q3.1.choose_spec rfl hR (Nat.le_of_ble_eq_true rfl) (Nat.le_of_ble_eq_true rfl) (Nat.le_of_ble_eq_true rfl) (Nat.le_of_ble_eq_true rfl) (Nat.le_of_ble_eq_true rfl) d_Comp_fresh_35 (fun r M1 hp => ?_)
    obtain ⟨rfl, hL1, z1, e1⟩ := hp
    refine g_sv ?_
    have hf : frA M M1 (c + 2) e cap := fun x _ x2 x3 => e1 x x2 x3
    have hk := frA.kp q3 hlt hf
    have hfx : fx X.K M1 p 100 := (h.2.2.2.2.1 p (List.mem_append_right _ (List.mem_singleton.mpr rfl))).kp hk
    refine g_castY hC ck_Frac cl_Comp_51 hfx.rc.choose_spec d_Comp_fresh_38 ?_
    have hls := fun b hb => h.lsL (b := b) hb
    obtain ⟨⟨h1, wf, h2, h2'⟩, h3, ⟨h4, h5, h6⟩, ⟨h7, h8⟩, h9, ⟨h10, h11⟩, ⟨m1, m2, m3, m4, m5⟩, h13, h14, h15⟩ := h
    have l2 : Ls c rs (c + 2) := Or.inr (Or.inl rfl)
    have oth := fun {b : Nat} {els : List Nat} (hb : lst X.K M c b els) (hbl : Ls c rs b) (hne : b ≠ c + 2) => hb.fr q3 h13 l2 hbl hne hlt hf
    have mnd : (vs ++ ss' ++ [p]).Nodup := by rw [List.append_assoc]; exact m1
    have mnd2 := List.nodup_append.mp mnd
    refine g_aret hC (Or.inl ⟨_, rfl⟩) hQ (by decide) (by decide) d_Comp_fresh_41 ⟨p, ss', rfl, ⟨⟨hk.o h1 (by decide), wf, hk.i h2, h2'⟩, ⟨h3.1.kp hk, h3.2.kp hk⟩, ⟨oth h4 (Or.inl rfl) (by omega), ⟨e, cap, q1, q2, hL1⟩, oth h6 (Or.inr (Or.inr (Or.inl rfl))) (by omega)⟩, ⟨h7, fun i p x hp hx => (h8 i p x hp hx).kp hk⟩, fun p hp => (h9 p (List.mem_append_left _ hp)).kp hk, ⟨h10, fun k r cs hr hc => ?_⟩, ⟨mnd2.1, ?_, fun q hq => m3 q ?_, m4, m5⟩, h13.upd hls q3 hL1 l2 (Or.inl rfl) hlt hf, (hf _ (hlt _ _ h14) (by omega) (fun q => ?_)).trans h14, h15⟩, hfx, m3 p ?_, ?_, ?_, fun x x1 x2 => ?_⟩
    · obtain ⟨r1, r2, r3⟩ := h11 k r cs hr hc
      have hrm : r ∈ rs := List.mem_of_getElem? hr
      have := m5 r hrm
      exact ⟨hk.o r1 (by decide), oth r2 (Or.inr (Or.inr (Or.inr ⟨r, hrm, Or.inl rfl⟩))) (by omega), oth r3 (Or.inr (Or.inr (Or.inr ⟨r, hrm, Or.inr rfl⟩))) (by omega)⟩
    · rw [List.length_append] at m2 ⊢; rw [List.length_append] at m2; simp at m2; omega
    · rcases List.mem_append.mp hq with h | h
      · exact List.mem_append_left _ h
      · exact List.mem_append_right _ (List.mem_append_left _ h)
    · rcases Nat.eq_zero_or_pos cap with h0 | h0
      · exact h0
      · exact absurd q.symm (q3.2.2.2.2 h0)
    · exact List.mem_append_right _ (List.mem_append_right _ (List.mem_singleton.mpr rfl))
    · intro hp
      exact mnd2.2.2 p hp p (List.mem_singleton.mpr rfl) rfl
    · rw [List.length_append] at m2 ⊢; rw [List.length_append] at m2; simp at m2; omega
    · exact e1 x (by omega) (fun q => by rcases q2 with h | h <;> omega)
  · have h0 : ss = [] := List.length_eq_zero_iff.mp (by
      by_cases h : ss.length = 0
      · exact h
      · rw [if_neg h] at c1; omega)
    subst h0
    have hcm : c + 24 ≤ M.2 := by
      obtain ⟨mi, un, h1, ⟨_, _, w1⟩, ⟨_, _, w2⟩⟩ := h.hx
      have := hlt _ _ w2.2
      omega
    refine g_new hC ck_Frac cl_Comp_51 in_Frac ii_Frac dv_Frac (by rw [hR]; exact Nat.le_of_ble_eq_true rfl) (by rw [hR]; exact Nat.le_of_ble_eq_true rfl) d_Comp_fresh_10 ?_
    obtain ⟨z, hz⟩ : ∃ z, M.2 = z := ⟨_, rfl⟩
    rw [hz]
    have hp1 : (nws M (oO 1 [.null, .null, iv 0, iv 0])).1 z = some (oO 1 [.null, .null, iv 0, iv 0]) := by rw [← hz]; exact nws_s
    refine g_dup hC rfl d_Comp_fresh_13 ?_
    refine g_bipush hC (by decide) d_Comp_fresh_14 ?_
    refine g_callI1 hC (sp_Frac_init (cap := 100) hp1 (by rw [nws_2, hz]) (by decide)) oc_Frac_init oi_Frac_init rfl ml_Comp_57 hR (Nat.le_of_ble_eq_true rfl) (Nat.le_of_ble_eq_true rfl) (Nat.le_of_ble_eq_true rfl) (Nat.le_of_ble_eq_true rfl) (Nat.le_of_ble_eq_true rfl) d_Comp_fresh_16 (fun r M1 hp => ?_)
    obtain ⟨rfl, hF, z1, e1⟩ := hp
    refine g_s0 ?_
    refine g_goto hC d_Comp_fresh_19 ?_
    have hold : ∀ x, x < M.2 → M1.1 x = M.1 x := fun x hx => by rw [e1 x (by omega), nws_n (by omega)]
    have hC1 := h.mono (M' := M1) (fun x v hx => (hold x (hlt x v hx)).trans hx)
    refine g_aret hC (Or.inl ⟨_, rfl⟩) hQ (by decide) (by decide) d_Comp_fresh_41 ⟨z, [], rfl, hC1, hF.fx, by omega, fun hm => ?_, ?_, fun x x1 x2 => hold x (by omega)⟩
    · have hm' : z ∈ vs := by simpa using hm
      obtain ⟨i, hi⟩ := List.getElem?_of_mem hm'
      have hil : i < xs.length := by rw [← hln]; exact (List.getElem?_eq_some_iff.mp hi).1
      obtain ⟨fs, hq⟩ := (h.2.2.2.1.2 i z _ hi (List.getElem?_eq_getElem hil)).rc
      have := hlt _ _ hq
      omega
    · rw [List.append_nil]; omega
