/-! Comp: need, there, isUnit -/
theorem z_of {z : Int} {P : Prop} [Decidable P] (h : z = bz (decide P)) : I32 z := by rw [h]; exact bz_I _
theorem d_Comp_need_0 : dn m_Comp_need.2.1 0 (.iload_n 0) 1 1 := ⟨by decide +kernel, rfl⟩
theorem d_Comp_need_1 : db m_Comp_need.2.1 1 (.ifCond .ne) 12 4 := ⟨11, by decide +kernel, by decide, rfl⟩
theorem d_Comp_need_4 : dn m_Comp_need.2.1 4 (.new 33) 3 7 := ⟨by decide +kernel, rfl⟩
theorem d_Comp_need_7 : dn m_Comp_need.2.1 7 (.dup) 1 8 := ⟨by decide +kernel, rfl⟩
theorem d_Comp_need_8 : dn m_Comp_need.2.1 8 (.invokespecial 35) 3 11 := ⟨by decide +kernel, rfl⟩
theorem d_Comp_need_11 : dn m_Comp_need.2.1 11 (.athrow) 1 12 := ⟨by decide +kernel, rfl⟩
theorem d_Comp_need_12 : dn m_Comp_need.2.1 12 (.return_) 1 13 := ⟨by decide +kernel, rfl⟩
theorem sp_Comp_need {l : Launch} {K : KC} {M : AH} : Sp l K m_Comp_need 0 0 0 [iv (bz true)] M (fun r M' => r = none ∧ M' = M) := by
  refine Sp.ofG R_Comp rfl (by decide) [some (iv (bz true))] rfl (Nat.le_of_ble_eq_true rfl) ?_
  intro X hl hK hN hR hC hQ
  subst hl hK
  refine g_iload_n hC rfl d_Comp_need_0 ?_
  refine g_if_ne hC (bz_I _) d_Comp_need_1 (fun c => ?_) (fun c => ?_)
  · refine g_vret hC hQ (by decide) (by decide) d_Comp_need_12 ⟨rfl, rfl⟩
  · exact absurd c (by decide)
theorem st_Comp_need {l : Launch} {K : KC} {M : AH} (htr : l.stackTraces = false) : St l K m_Comp_need 6 1 6 [iv (bz false)] M R_IaE := by
  refine St.ofG R_Comp rfl (by decide) [some (iv (bz false))] rfl (Nat.le_of_ble_eq_true rfl) ?_
  intro X hl hK hN hR hC hQ
  subst hl hK
  refine g_iload_n hC rfl d_Comp_need_0 ?_
  refine g_if_ne hC (bz_I _) d_Comp_need_1 (fun c => ?_) (fun c => ?_)
  · exact absurd rfl c
  · exact g_throw hC htr hQ rfl cl_Comp_33 in_IaE ii_IaE ex_IaE (by decide) hR (by decide) (by decide) (by decide) d_Comp_need_4 d_Comp_need_7 d_Comp_need_8 d_Comp_need_11
theorem d_Comp_there_0 : dn m_Comp_there.2.1 0 (.iload_n 0) 1 1 := ⟨by decide +kernel, rfl⟩
theorem d_Comp_there_1 : db m_Comp_there.2.1 1 (.ifCond .lt) 9 4 := ⟨8, by decide +kernel, by decide, rfl⟩
theorem d_Comp_there_4 : dn m_Comp_there.2.1 4 (.iload_n 0) 1 5 := ⟨by decide +kernel, rfl⟩
theorem d_Comp_there_5 : dn m_Comp_there.2.1 5 (.iload_n 1) 1 6 := ⟨by decide +kernel, rfl⟩
theorem d_Comp_there_6 : db m_Comp_there.2.1 6 (.if_icmp .lt) 17 9 := ⟨11, by decide +kernel, by decide, rfl⟩
theorem d_Comp_there_9 : dn m_Comp_there.2.1 9 (.new 36) 3 12 := ⟨by decide +kernel, rfl⟩
theorem d_Comp_there_12 : dn m_Comp_there.2.1 12 (.dup) 1 13 := ⟨by decide +kernel, rfl⟩
theorem d_Comp_there_13 : dn m_Comp_there.2.1 13 (.invokespecial 38) 3 16 := ⟨by decide +kernel, rfl⟩
theorem d_Comp_there_16 : dn m_Comp_there.2.1 16 (.athrow) 1 17 := ⟨by decide +kernel, rfl⟩
theorem d_Comp_there_17 : dn m_Comp_there.2.1 17 (.return_) 1 18 := ⟨by decide +kernel, rfl⟩
theorem sp_Comp_there {l : Launch} {K : KC} {M : AH} {i n : Int} (h0 : 0 ≤ i) (h1 : i < n) (hn : I32 n) : Sp l K m_Comp_there 0 0 0 [iv i, iv n] M (fun r M' => r = none ∧ M' = M) := by
  refine Sp.ofG R_Comp rfl (by decide) [some (iv i), some (iv n)] rfl (Nat.le_of_ble_eq_true rfl) ?_
  intro X hl hK hN hR hC hQ
  subst hl hK
  have hn2 := hn.2
  refine g_iload_n hC rfl d_Comp_there_0 ?_
  refine g_if_lt hC (by unfold I32; omega) d_Comp_there_1 (fun c => ?_) (fun c => ?_)
  · omega
  · refine g_iload_n hC rfl d_Comp_there_4 ?_
    refine g_iload_n hC rfl d_Comp_there_5 ?_
    refine g_icmp_lt hC (by unfold I32; omega) hn d_Comp_there_6 (fun c => ?_) (fun c => ?_)
    · refine g_vret hC hQ (by decide) (by decide) d_Comp_there_17 ⟨rfl, rfl⟩
    · omega
theorem st_Comp_there {l : Launch} {K : KC} {M : AH} (htr : l.stackTraces = false) {i n : Int} (hi : I32 i) (hn : I32 n) (h : i < 0 ∨ n ≤ i) : St l K m_Comp_there 6 1 6 [iv i, iv n] M R_IoE := by
  refine St.ofG R_Comp rfl (by decide) [some (iv i), some (iv n)] rfl (Nat.le_of_ble_eq_true rfl) ?_
  intro X hl hK hN hR hC hQ
  subst hl hK
  have E : G X 0 0 M 9 [some (iv i), some (iv n)] [] := g_throw hC htr hQ rfl cl_Comp_36 in_IoE ii_IoE ex_IoE (by decide) hR (by decide) (by decide) (by decide) d_Comp_there_9 d_Comp_there_12 d_Comp_there_13 d_Comp_there_16
  refine g_iload_n hC rfl d_Comp_there_0 ?_
  refine g_if_lt hC hi d_Comp_there_1 (fun c => ?_) (fun c => ?_)
  · exact E
  · refine g_iload_n hC rfl d_Comp_there_4 ?_
    refine g_iload_n hC rfl d_Comp_there_5 ?_
    refine g_icmp_lt hC hi hn d_Comp_there_6 (fun c => ?_) (fun c => ?_)
    · omega
    · exact E
theorem d_Comp_isUnit_0 : dn m_Comp_isUnit.2.1 0 (.iload_n 0) 1 1 := ⟨by decide +kernel, rfl⟩
theorem d_Comp_isUnit_1 : dn m_Comp_isUnit.2.1 1 (.bipush (-6)) 2 3 := ⟨by decide +kernel, rfl⟩
theorem d_Comp_isUnit_3 : db m_Comp_isUnit.2.1 3 (.if_icmp .lt) 16 6 := ⟨13, by decide +kernel, by decide, rfl⟩
theorem d_Comp_isUnit_6 : dn m_Comp_isUnit.2.1 6 (.iload_n 0) 1 7 := ⟨by decide +kernel, rfl⟩
theorem d_Comp_isUnit_7 : dn m_Comp_isUnit.2.1 7 (.bipush 6) 2 9 := ⟨by decide +kernel, rfl⟩
theorem d_Comp_isUnit_9 : db m_Comp_isUnit.2.1 9 (.if_icmp .gt) 16 12 := ⟨7, by decide +kernel, by decide, rfl⟩
theorem d_Comp_isUnit_12 : dn m_Comp_isUnit.2.1 12 (.iconst 1) 1 13 := ⟨by decide +kernel, rfl⟩
theorem d_Comp_isUnit_13 : db m_Comp_isUnit.2.1 13 (.goto) 17 16 := ⟨4, by decide +kernel, by decide, rfl⟩
theorem d_Comp_isUnit_16 : dn m_Comp_isUnit.2.1 16 (.iconst 0) 1 17 := ⟨by decide +kernel, rfl⟩
theorem d_Comp_isUnit_17 : dn m_Comp_isUnit.2.1 17 (.ireturn) 1 18 := ⟨by decide +kernel, rfl⟩
def isU (u : Int) : Bool := decide (-6 ≤ u) && decide (u ≤ 6)
theorem sp_Comp_isUnit {l : Launch} {K : KC} {M : AH} {u : Int} (hu : I32 u) : Sp l K m_Comp_isUnit 0 0 0 [iv u] M (fun r M' => r = some (iv (bz (isU u))) ∧ M' = M) := by
  refine Sp.ofG R_Comp rfl (by decide) [some (iv u)] rfl (Nat.le_of_ble_eq_true rfl) ?_
  intro X hl hK hN hR hC hQ
  subst hl hK
  refine g_iload_n hC rfl d_Comp_isUnit_0 ?_
  refine g_bipush hC (by decide) d_Comp_isUnit_1 ?_
  refine g_icmp_lt hC hu (by unfold I32; omega) d_Comp_isUnit_3 (fun c => ?_) (fun c => ?_)
  · refine g_iconst hC d_Comp_isUnit_16 ?_
    refine g_zret hC hQ (by decide) (by decide) (by omega) d_Comp_isUnit_17 ⟨by unfold isU; rw [decide_eq_false (by omega)]; rfl, rfl⟩
  · refine g_iload_n hC rfl d_Comp_isUnit_6 ?_
    refine g_bipush hC (by decide) d_Comp_isUnit_7 ?_
    refine g_icmp_gt hC hu (by unfold I32; omega) d_Comp_isUnit_9 (fun c2 => ?_) (fun c2 => ?_)
    · refine g_iconst hC d_Comp_isUnit_16 ?_
      refine g_zret hC hQ (by decide) (by decide) (by omega) d_Comp_isUnit_17 ⟨by unfold isU; rw [decide_eq_true (by omega), decide_eq_false (by omega)]; rfl, rfl⟩
    · refine g_iconst hC d_Comp_isUnit_12 ?_
      refine g_goto hC d_Comp_isUnit_13 ?_
      refine g_zret hC hQ (by decide) (by decide) (by omega) d_Comp_isUnit_17 ⟨by unfold isU; rw [decide_eq_true (by omega), decide_eq_true (by omega)]; rfl, rfl⟩
/-! what is known of the component -/
def lst (K : KC) (M : AH) (c a : Nat) (els : List Nat) : Prop := ∃ e cap, cap ≤ 300 ∧ (e = kE K ∨ c + 24 ≤ e) ∧ isL K M a e cap els
def rowok (K : KC) (M : AH) (c : Nat) (vs : List Nat) (r : Nat) (cs : List (Nat × Nat)) : Prop := M.1 r = some (oO 3 [.ref (r + 1), .ref (r + 2)]) ∧ lst K M c (r + 1) (cs.map fun ij => vs.getD ij.1 0) ∧ lst K M c (r + 2) (cs.map fun ij => vs.getD ij.2 0)
/-- the lists' addresses -/
def Ls (c : Nat) (rs : List Nat) (a : Nat) : Prop := a = c + 1 ∨ a = c + 2 ∨ a = c + 3 ∨ ∃ r ∈ rs, a = r + 1 ∨ a = r + 2
/-- no two lists have one array, but the empty one -/
def Gi (K : KC) (M : AH) (c : Nat) (rs : List Nat) : Prop := ∀ (a b e : Nat) (n m n' m' : Value), Ls c rs a → Ls c rs b → M.1 a = some (oO 6 [.ref e, n, m]) → M.1 b = some (oO 6 [.ref e, n', m']) → a = b ∨ e = kE K
def CI (K : KC) (M : AH) (c : Nat) (vs ss rs : List Nat) (xs : List (Rat × Int)) (ws : List (List (Nat × Nat))) (wl : List Int) : Prop :=
  (M.1 c = some (oO 4 [.ref (c + 1), .ref (c + 2), .ref (c + 3), .ref (c + 4), iv wl.length, .ref (c + 5)]) ∧ (∃ wf, M.1 (c + 4) = some (oI K 12 wf) ∧ ∀ i : Nat, i < wl.length → wl[i]? = some (wf i))) ∧
  (dkx K M (c + 5) ∧ fx K M (c + 19) 740) ∧
  (lst K M c (c + 1) vs ∧ lst K M c (c + 2) ss ∧ lst K M c (c + 3) rs) ∧
  (vs.length = xs.length ∧ ∀ (i p : Nat) (x : Rat × Int), vs[i]? = some p → xs[i]? = some x → opx K M p 100 x.1 x.2) ∧
  (∀ p ∈ ss, fx K M p 100) ∧
  (rs.length = ws.length ∧ ∀ (k r : Nat) (cs : List (Nat × Nat)), rs[k]? = some r → ws[k]? = some cs → rowok K M c vs r cs) ∧
  ((vs ++ ss).Nodup ∧ (vs ++ ss).length ≤ 200 ∧ (∀ p ∈ vs ++ ss, c + 24 ≤ p) ∧ rs.Nodup ∧ (∀ r ∈ rs, c + 24 ≤ r)) ∧
  Gi K M c rs ∧ (M.1 (kE K) = some (oR K 0 (fun _ => none)) ∧ kE K < c)
/-- the mathematical state is in order -/
def MS (xs : List (Rat × Int)) (ws : List (List (Nat × Nat))) (wl : List Int) : Prop :=
  (xs.length ≤ 200 ∧ ∀ x ∈ xs, bdq x.1 100 100 ∧ -6 ≤ x.2 ∧ x.2 ≤ 6) ∧
  (ws.length ≤ 8 ∧ ∀ cs ∈ ws, cs.length ≤ 16 ∧ ∀ ij ∈ cs, ij.1 < xs.length ∧ ij.2 < xs.length) ∧
  (wl.length ≤ 12 ∧ ∀ w ∈ wl, 1 ≤ w ∧ w ≤ 1000000000)
section CIs
variable {K : KC} {M M' : AH} {c : Nat} {vs ss rs : List Nat} {xs : List (Rat × Int)} {ws : List (List (Nat × Nat))} {wl : List Int}
theorem lst.eq {a : Nat} {els : List Nat} (h : lst K M c a els) (h1 : M'.1 a = M.1 a) (h2 : ∀ x, x = kE K ∨ c + 24 ≤ x → M'.1 x = M.1 x) : lst K M' c a els := by
  obtain ⟨e, cap, q1, q2, q3⟩ := h
  exact ⟨e, cap, q1, q2, q3.eq h1 (h2 e q2)⟩
theorem Gi.eq (h : Gi K M c rs) (he : ∀ a, Ls c rs a → M'.1 a = M.1 a) : Gi K M' c rs := fun a b e n m n' m' ha hb h1 h2 => h a b e n m n' m' ha hb ((he a ha).symm.trans h1) ((he b hb).symm.trans h2)
/-- only the Desk has changed -/
theorem CI.desk (h : CI K M c vs ss rs xs ws wl) (hf : frD M M' (c + 5)) (hd : dkx K M' (c + 5)) (hx : fx K M' (c + 19) 740) : CI K M' c vs ss rs xs ws wl := by
  obtain ⟨⟨h1, wf, h2, h2'⟩, h3, ⟨h4, h5, h6⟩, ⟨h7, h8⟩, h9, ⟨h10, h11⟩, h12, h13, h14, h15⟩ := h
  have e : ∀ x, x ≤ c + 5 ∨ c + 24 ≤ x → M'.1 x = M.1 x := fun x hx => hf.2 x (by omega)
  have e2 : ∀ x, x = kE K ∨ c + 24 ≤ x → M'.1 x = M.1 x := fun x hx => e x (by omega)
  refine ⟨⟨(e _ (by omega)).trans h1, wf, (e _ (by omega)).trans h2, h2'⟩, ⟨hd, hx⟩, ⟨h4.eq (e _ (by omega)) e2, h5.eq (e _ (by omega)) e2, h6.eq (e _ (by omega)) e2⟩, ⟨h7, fun i p x hp hx => ?_⟩, fun p hp => ?_, ⟨h10, fun k r cs hr hc => ?_⟩, h12, h13.eq (fun a ha => ?_), (e _ (by omega)).trans h14, h15⟩
  · have hm : p ∈ vs ++ ss := List.mem_append_left _ (List.mem_of_getElem? hp)
    have := h12.2.2.1 p hm
    exact (h8 i p x hp hx).eq (fun z _ _ => e z (by omega))
  · have := h12.2.2.1 p (List.mem_append_right _ hp)
    exact (h9 p hp).eq (fun z _ _ => e z (by omega))
  · have := h12.2.2.2.2 r (List.mem_of_getElem? hr)
    obtain ⟨q1, q2, q3⟩ := h11 k r cs hr hc
    exact ⟨(e _ (by omega)).trans q1, q2.eq (e _ (by omega)) e2, q3.eq (e _ (by omega)) e2⟩
  · rcases ha with rfl | rfl | rfl | ⟨r, hr, rfl | rfl⟩
    · exact e _ (by omega)
    · exact e _ (by omega)
    · exact e _ (by omega)
    · have := h12.2.2.2.2 r hr
      exact e _ (by omega)
    · have := h12.2.2.2.2 r hr
      exact e _ (by omega)
theorem CI.v (h : CI K M c vs ss rs xs ws wl) : lst K M c (c + 1) vs := h.2.2.1.1
theorem CI.s (h : CI K M c vs ss rs xs ws wl) : lst K M c (c + 2) ss := h.2.2.1.2.1
theorem CI.r (h : CI K M c vs ss rs xs ws wl) : lst K M c (c + 3) rs := h.2.2.1.2.2
theorem CI.o (h : CI K M c vs ss rs xs ws wl) : M.1 c = some (oO 4 [.ref (c + 1), .ref (c + 2), .ref (c + 3), .ref (c + 4), iv wl.length, .ref (c + 5)]) := h.1.1
theorem CI.d (h : CI K M c vs ss rs xs ws wl) : dkx K M (c + 5) := h.2.1.1
theorem CI.hx (h : CI K M c vs ss rs xs ws wl) : fx K M (c + 19) 740 := h.2.1.2
theorem CI.len (h : CI K M c vs ss rs xs ws wl) : vs.length = xs.length := h.2.2.2.1.1
theorem CI.get (h : CI K M c vs ss rs xs ws wl) {i : Nat} {x : Rat × Int} (hx : xs[i]? = some x) : ∃ p, vs[i]? = some p ∧ opx K M p 100 x.1 x.2 ∧ c + 24 ≤ p := by
  have hi : i < vs.length := by rw [h.len]; exact (List.getElem?_eq_some_iff.mp hx).1
  have hp : vs[i]? = some vs[i] := List.getElem?_eq_getElem hi
  exact ⟨vs[i], hp, h.2.2.2.1.2 i _ x hp hx, h.2.2.2.2.2.2.1.2.2.1 _ (List.mem_append_left _ (List.mem_of_getElem? hp))⟩
end CIs
theorem d_Comp_of_0 : dn m_Comp_of.2.1 0 (.iload_n 1) 1 1 := ⟨by decide +kernel, rfl⟩
theorem d_Comp_of_1 : dn m_Comp_of.2.1 1 (.aload_n 0) 1 2 := ⟨by decide +kernel, rfl⟩
theorem d_Comp_of_2 : dn m_Comp_of.2.1 2 (.getfield 10) 3 5 := ⟨by decide +kernel, rfl⟩
theorem d_Comp_of_5 : dn m_Comp_of.2.1 5 (.invokevirtual 39) 3 8 := ⟨by decide +kernel, rfl⟩
theorem d_Comp_of_8 : dn m_Comp_of.2.1 8 (.invokestatic 43) 3 11 := ⟨by decide +kernel, rfl⟩
theorem d_Comp_of_11 : dn m_Comp_of.2.1 11 (.aload_n 0) 1 12 := ⟨by decide +kernel, rfl⟩
theorem d_Comp_of_12 : dn m_Comp_of.2.1 12 (.getfield 10) 3 15 := ⟨by decide +kernel, rfl⟩
theorem d_Comp_of_15 : dn m_Comp_of.2.1 15 (.iload_n 1) 1 16 := ⟨by decide +kernel, rfl⟩
theorem d_Comp_of_16 : dn m_Comp_of.2.1 16 (.invokevirtual 47) 3 19 := ⟨by decide +kernel, rfl⟩
theorem d_Comp_of_19 : dn m_Comp_of.2.1 19 (.checkcast 51) 3 22 := ⟨by decide +kernel, rfl⟩
theorem d_Comp_of_22 : dn m_Comp_of.2.1 22 (.areturn) 1 23 := ⟨by decide +kernel, rfl⟩
theorem sp_Comp_of {l : Launch} {K : KC} {M : AH} {c : Nat} {vs ss rs : List Nat} {xs : List (Rat × Int)} {ws : List (List (Nat × Nat))} {wl : List Int} (h : CI K M c vs ss rs xs ws wl) {i p : Nat} (hi : vs[i]? = some p) {fs : List Value} (hp : M.1 p = some (oO 1 fs)) :
    Sp l K m_Comp_of 3 0 0 [.ref c, iv i] M (fun r M' => r = some (.ref p) ∧ M' = M) := by
  refine Sp.ofG R_Comp rfl (by decide) [some (.ref c), some (iv i)] rfl (Nat.le_of_ble_eq_true rfl) ?_
  intro X hl hK hN hR hC hQ
  subst hl hK
  obtain ⟨e, cap, q1, q2, q3⟩ := h.v
  have hil : i < vs.length := (List.getElem?_eq_some_iff.mp hi).1
  have hle := q3.2.2.1
  refine g_iload_n hC rfl d_Comp_of_0 ?_
  refine g_aload_n hC rfl d_Comp_of_1 ?_
  refine g_get hC fb_Comp_10 h.o rfl d_Comp_of_2 ?_
  refine g_callV0 hC (sp_AL_size q3) oc_AL_size ov_AL_size ml_Comp_39 q3.1.choose_spec rfl hR (Nat.le_of_ble_eq_true rfl) (Nat.le_of_ble_eq_true rfl) (Nat.le_of_ble_eq_true rfl) (Nat.le_of_ble_eq_true rfl) (Nat.le_of_ble_eq_true rfl) d_Comp_of_5 (fun r M hq => ?_)
  obtain ⟨rfl, rfl⟩ := hq
  refine g_sv ?_
  refine g_callS2 hC (sp_Comp_there (by omega) (by omega) (by unfold I32; omega)) oc_Comp_there os_Comp_there ml_Comp_43 hR (Nat.le_of_ble_eq_true rfl) (Nat.le_of_ble_eq_true rfl) (Nat.le_of_ble_eq_true rfl) (Nat.le_of_ble_eq_true rfl) (Nat.le_of_ble_eq_true rfl) d_Comp_of_8 (fun r M hq => ?_)
  obtain ⟨rfl, rfl⟩ := hq
  refine g_s0 ?_
  refine g_aload_n hC rfl d_Comp_of_11 ?_
  refine g_get hC fb_Comp_10 h.o rfl d_Comp_of_12 ?_
  refine g_iload_n hC rfl d_Comp_of_15 ?_
  refine g_callV1 hC (sp_AL_get q3 (by omega) hi) oc_AL_get ov_AL_get ml_Comp_47 q3.1.choose_spec rfl hR (Nat.le_of_ble_eq_true rfl) (Nat.le_of_ble_eq_true rfl) (Nat.le_of_ble_eq_true rfl) (Nat.le_of_ble_eq_true rfl) (Nat.le_of_ble_eq_true rfl) d_Comp_of_16 (fun r M hq => ?_)
  obtain ⟨rfl, rfl⟩ := hq
  refine g_sv ?_
  refine g_castY hC ck_Frac cl_Comp_51 hp d_Comp_of_19 ?_
  refine g_aret hC (Or.inl ⟨_, rfl⟩) hQ (by decide) (by decide) d_Comp_of_22 ⟨rfl, rfl⟩
theorem st_Comp_of {l : Launch} {K : KC} {M : AH} {c : Nat} {vs ss rs : List Nat} {xs : List (Rat × Int)} {ws : List (List (Nat × Nat))} {wl : List Int} (htr : l.stackTraces = false) (h : CI K M c vs ss rs xs ws wl) {i : Int} (hi : I32 i) (ho : i < 0 ∨ (xs.length : Int) ≤ i) :
    St l K m_Comp_of 7 1 6 [.ref c, iv i] M R_IoE := by
  refine St.ofG R_Comp rfl (by decide) [some (.ref c), some (iv i)] rfl (Nat.le_of_ble_eq_true rfl) ?_
  intro X hl hK hN hR hC hQ
  subst hl hK
  obtain ⟨e, cap, q1, q2, q3⟩ := h.v
  have hle := q3.2.2.1
  have hln := h.len
  refine g_iload_n hC rfl d_Comp_of_0 ?_
  refine g_aload_n hC rfl d_Comp_of_1 ?_
  refine g_get hC fb_Comp_10 h.o rfl d_Comp_of_2 ?_
  refine g_callV0 hC (sp_AL_size q3) oc_AL_size ov_AL_size ml_Comp_39 q3.1.choose_spec rfl hR (Nat.le_of_ble_eq_true rfl) (Nat.le_of_ble_eq_true rfl) (Nat.le_of_ble_eq_true rfl) (Nat.le_of_ble_eq_true rfl) (Nat.le_of_ble_eq_true rfl) d_Comp_of_5 (fun r M hq => ?_)
  obtain ⟨rfl, rfl⟩ := hq
  refine g_sv ?_
  exact g_callST hC hQ rfl (st_Comp_there htr hi (n := (vs.length : Int)) (by unfold I32; omega) (by omega)) oc_Comp_there os_Comp_there ml_Comp_43 rfl (st := []) rfl hR (by decide) (by decide) (by decide) (by decide) (by decide) d_Comp_of_8
theorem d_Comp_refusal_0 : dn m_Comp_refusal.2.1 0 (.iload_n 1) 1 1 := ⟨by decide +kernel, rfl⟩
theorem d_Comp_refusal_1 : db m_Comp_refusal.2.1 1 (.ifCond .ne) 9 4 := ⟨8, by decide +kernel, by decide, rfl⟩
theorem d_Comp_refusal_4 : dn m_Comp_refusal.2.1 4 (.bipush (-2)) 2 6 := ⟨by decide +kernel, rfl⟩
theorem d_Comp_refusal_6 : db m_Comp_refusal.2.1 6 (.goto) 28 9 := ⟨22, by decide +kernel, by decide, rfl⟩
theorem d_Comp_refusal_9 : dn m_Comp_refusal.2.1 9 (.aload_n 0) 1 10 := ⟨by decide +kernel, rfl⟩
theorem d_Comp_refusal_10 : dn m_Comp_refusal.2.1 10 (.getfield 10) 3 13 := ⟨by decide +kernel, rfl⟩
theorem d_Comp_refusal_13 : dn m_Comp_refusal.2.1 13 (.invokevirtual 39) 3 16 := ⟨by decide +kernel, rfl⟩
theorem d_Comp_refusal_16 : dn m_Comp_refusal.2.1 16 (.sipush 200) 3 19 := ⟨by decide +kernel, rfl⟩
theorem d_Comp_refusal_19 : db m_Comp_refusal.2.1 19 (.if_icmp .ne) 27 22 := ⟨8, by decide +kernel, by decide, rfl⟩
theorem d_Comp_refusal_22 : dn m_Comp_refusal.2.1 22 (.bipush (-3)) 2 24 := ⟨by decide +kernel, rfl⟩
theorem d_Comp_refusal_24 : db m_Comp_refusal.2.1 24 (.goto) 28 27 := ⟨4, by decide +kernel, by decide, rfl⟩
theorem d_Comp_refusal_27 : dn m_Comp_refusal.2.1 27 (.iconst 0) 1 28 := ⟨by decide +kernel, rfl⟩
theorem d_Comp_refusal_28 : dn m_Comp_refusal.2.1 28 (.ireturn) 1 29 := ⟨by decide +kernel, rfl⟩
def rfs (alike : Bool) (n : Nat) : Int := if alike = false then -2 else if n = 200 then -3 else 0
theorem rfs_in (alike : Bool) (n : Nat) : rfs alike n = -2 ∨ rfs alike n = -3 ∨ rfs alike n = 0 := by unfold rfs; split <;> (try split) <;> simp
theorem sp_Comp_refusal {l : Launch} {K : KC} {M : AH} {c : Nat} {vs ss rs : List Nat} {xs : List (Rat × Int)} {ws : List (List (Nat × Nat))} {wl : List Int} (h : CI K M c vs ss rs xs ws wl) {al : Bool} :
    Sp l K m_Comp_refusal 1 0 0 [.ref c, iv (bz al)] M (fun r M' => r = some (iv (rfs al xs.length)) ∧ M' = M) := by
  refine Sp.ofG R_Comp rfl (by decide) [some (.ref c), some (iv (bz al))] rfl (Nat.le_of_ble_eq_true rfl) ?_
  intro X hl hK hN hR hC hQ
  subst hl hK
  obtain ⟨e, cap, q1, q2, q3⟩ := h.v
  have hle := q3.2.2.1
  have hln := h.len
  refine g_iload_n hC rfl d_Comp_refusal_0 ?_
  refine g_if_ne hC (bz_I _) d_Comp_refusal_1 (fun c_1 => ?_) (fun c_1 => ?_)
  · have hal : al = true := by cases al with | true => rfl | false => exact absurd bz_f c_1
    subst hal
    refine g_aload_n hC rfl d_Comp_refusal_9 ?_
    refine g_get hC fb_Comp_10 h.o rfl d_Comp_refusal_10 ?_
    refine g_callV0 hC (sp_AL_size q3) oc_AL_size ov_AL_size ml_Comp_39 q3.1.choose_spec rfl hR (Nat.le_of_ble_eq_true rfl) (Nat.le_of_ble_eq_true rfl) (Nat.le_of_ble_eq_true rfl) (Nat.le_of_ble_eq_true rfl) (Nat.le_of_ble_eq_true rfl) d_Comp_refusal_13 (fun r M hq => ?_)
    obtain ⟨rfl, rfl⟩ := hq
    refine g_sv ?_
    refine g_sipush hC (by decide) d_Comp_refusal_16 ?_
    refine g_icmp_ne hC (by unfold I32; omega) (by unfold I32; omega) d_Comp_refusal_19 (fun c2 => ?_) (fun c2 => ?_)
    · refine g_iconst hC d_Comp_refusal_27 ?_
      refine g_iret hC hQ (by decide) (by decide) d_Comp_refusal_28 ⟨by unfold rfs; rw [if_neg (by decide), if_neg (by omega)], rfl⟩
    · refine g_bipush hC (by decide) d_Comp_refusal_22 ?_
      refine g_goto hC d_Comp_refusal_24 ?_
      refine g_iret hC hQ (by decide) (by decide) d_Comp_refusal_28 ⟨by unfold rfs; rw [if_neg (by decide), if_pos (by omega)], rfl⟩
  · have hal : al = false := by cases al with | false => rfl | true => rw [bz_t] at c_1; omega
    subst hal
    refine g_bipush hC (by decide) d_Comp_refusal_4 ?_
    refine g_goto hC d_Comp_refusal_6 ?_
    refine g_iret hC hQ (by decide) (by decide) d_Comp_refusal_28 ⟨rfl, rfl⟩
