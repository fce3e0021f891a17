/-! Comp: keep -/
def fitB (x : Rat) : Bool := decide ((x.num.natAbs : Int) < pw 100 ∧ (x.den : Int) < pw 100)
theorem fitB_t {x : Rat} (h : fitB x = true) : bdq x 100 100 := by unfold fitB at h; have q := of_decide_eq_true h; exact q
def kpR (xs : List (Rat × Int)) (x : Rat) : Int := if fitB x = true then (xs.length : Int) else -4
def kpS (xs : List (Rat × Int)) (x : Rat) (un : Int) : List (Rat × Int) := if fitB x = true then xs ++ [(x, un)] else xs
/-- the component, with some addresses -/
def CX (K : KC) (M : AH) (c : Nat) (xs : List (Rat × Int)) (ws : List (List (Nat × Nat))) (wl : List Int) : Prop := ∃ vs ss rs, CI K M c vs ss rs xs ws wl
theorem getD_app {vs : List Nat} {p i : Nat} (h : i < vs.length) : (vs ++ [p]).getD i 0 = vs.getD i 0 := by
  rw [List.getD_eq_getElem?_getD, List.getD_eq_getElem?_getD, List.getElem?_append_left h]
theorem d_Comp_keep_0 : dn m_Comp_keep.2.1 0 (.aload_n 0) 1 1 := ⟨by decide +kernel, rfl⟩
theorem d_Comp_keep_1 : dn m_Comp_keep.2.1 1 (.getfield 29) 3 4 := ⟨by decide +kernel, rfl⟩
theorem d_Comp_keep_4 : dn m_Comp_keep.2.1 4 (.getfield 63) 3 7 := ⟨by decide +kernel, rfl⟩
theorem d_Comp_keep_7 : dn m_Comp_keep.2.1 7 (.invokevirtual 67) 3 10 := ⟨by decide +kernel, rfl⟩
theorem d_Comp_keep_10 : db m_Comp_keep.2.1 10 (.ifCond .eq) 16 13 := ⟨6, by decide +kernel, by decide, rfl⟩
theorem d_Comp_keep_13 : dn m_Comp_keep.2.1 13 (.bipush (-4)) 2 15 := ⟨by decide +kernel, rfl⟩
theorem d_Comp_keep_15 : dn m_Comp_keep.2.1 15 (.ireturn) 1 16 := ⟨by decide +kernel, rfl⟩
theorem d_Comp_keep_16 : dn m_Comp_keep.2.1 16 (.aload_n 0) 1 17 := ⟨by decide +kernel, rfl⟩
theorem d_Comp_keep_17 : dn m_Comp_keep.2.1 17 (.invokevirtual 70) 3 20 := ⟨by decide +kernel, rfl⟩
theorem d_Comp_keep_20 : dn m_Comp_keep.2.1 20 (.astore_n 1) 1 21 := ⟨by decide +kernel, rfl⟩
theorem d_Comp_keep_21 : dn m_Comp_keep.2.1 21 (.aload_n 1) 1 22 := ⟨by decide +kernel, rfl⟩
theorem d_Comp_keep_22 : dn m_Comp_keep.2.1 22 (.aload_n 0) 1 23 := ⟨by decide +kernel, rfl⟩
theorem d_Comp_keep_23 : dn m_Comp_keep.2.1 23 (.getfield 29) 3 26 := ⟨by decide +kernel, rfl⟩
theorem d_Comp_keep_26 : dn m_Comp_keep.2.1 26 (.getfield 63) 3 29 := ⟨by decide +kernel, rfl⟩
theorem d_Comp_keep_29 : dn m_Comp_keep.2.1 29 (.invokevirtual 74) 3 32 := ⟨by decide +kernel, rfl⟩
theorem d_Comp_keep_32 : dn m_Comp_keep.2.1 32 (.aload_n 0) 1 33 := ⟨by decide +kernel, rfl⟩
theorem d_Comp_keep_33 : dn m_Comp_keep.2.1 33 (.getfield 10) 3 36 := ⟨by decide +kernel, rfl⟩
theorem d_Comp_keep_36 : dn m_Comp_keep.2.1 36 (.aload_n 1) 1 37 := ⟨by decide +kernel, rfl⟩
theorem d_Comp_keep_37 : dn m_Comp_keep.2.1 37 (.invokevirtual 78) 3 40 := ⟨by decide +kernel, rfl⟩
theorem d_Comp_keep_40 : dn m_Comp_keep.2.1 40 (.pop) 1 41 := ⟨by decide +kernel, rfl⟩
theorem d_Comp_keep_41 : dn m_Comp_keep.2.1 41 (.aload_n 0) 1 42 := ⟨by decide +kernel, rfl⟩
theorem d_Comp_keep_42 : dn m_Comp_keep.2.1 42 (.getfield 10) 3 45 := ⟨by decide +kernel, rfl⟩
theorem d_Comp_keep_45 : dn m_Comp_keep.2.1 45 (.invokevirtual 39) 3 48 := ⟨by decide +kernel, rfl⟩
theorem d_Comp_keep_48 : dn m_Comp_keep.2.1 48 (.iconst 1) 1 49 := ⟨by decide +kernel, rfl⟩
theorem d_Comp_keep_49 : dn m_Comp_keep.2.1 49 (.isub) 1 50 := ⟨by decide +kernel, rfl⟩
theorem d_Comp_keep_50 : dn m_Comp_keep.2.1 50 (.ireturn) 1 51 := ⟨by decide +kernel, rfl⟩
theorem sp_Comp_keep {l : Launch} {K : KC} {M : AH} {c : Nat} {xs : List (Rat × Int)} {ws : List (List (Nat × Nat))} {wl : List Int} (hcx : CX K M c xs ws wl) (hms : MS xs ws wl) (hn : xs.length < 200) {x : Rat} {un : Int} (hm : mdx K M (c + 5) x un) :
    Sp l K m_Comp_keep 7 6 508 [.ref c] M (fun r M' => r = some (iv (kpR xs x)) ∧ CX K M' c (kpS xs x un) ws wl) := by
  refine Sp.ofG R_Comp rfl (by decide) [some (.ref c), none] rfl (Nat.le_of_ble_eq_true rfl) ?_
  intro X hl hK hN hR hC hQ
  subst hl hK
  obtain ⟨vs, ss, rs, h⟩ := hcx
  have ho := hm.op
  obtain ⟨mi, a, b, hF, qx⟩ := ho
  have efit : decide (¬ ((a : Int) < pw 100 ∧ (b : Int) < pw 100)) = !fitB x := by
    rw [qx.1, qx.2.1]
    unfold fitB
    by_cases q : ((x.num.natAbs : Int) < pw 100 ∧ (x.den : Int) < pw 100)
    · rw [decide_eq_true q, decide_eq_false (fun z => z q)]; rfl
    · rw [decide_eq_false q, decide_eq_true q]; rfl
  refine g_aload_n hC rfl d_Comp_keep_0 ?_
  refine g_get hC fb_Comp_29 h.o rfl d_Comp_keep_1 ?_
  refine g_get hC fb_Comp_63 h.d.o rfl d_Comp_keep_4 ?_
  refine g_callV0 hC (sp_Frac_isLong hF (by decide)) oc_Frac_isLong ov_Frac_isLong ml_Comp_67 hF.1 rfl hR (Nat.le_of_ble_eq_true rfl) (Nat.le_of_ble_eq_true rfl) (Nat.le_of_ble_eq_true rfl) (Nat.le_of_ble_eq_true rfl) (Nat.le_of_ble_eq_true rfl) d_Comp_keep_7 (fun r M hp => ?_)
  obtain ⟨rfl, rfl⟩ := hp
  refine g_sv ?_
  rw [efit]
  refine g_if_eq hC (bz_I _) d_Comp_keep_10 (fun c1 => ?_) (fun c1 => ?_)
  · have hfit : fitB x = true := by
      cases q : fitB x with
      | true => rfl
      | false => rw [q] at c1; exact absurd c1 (by decide)
    have hbd := fitB_t hfit
    unfold kpR kpS at hQ
    rw [if_pos hfit, if_pos hfit] at hQ
    refine g_aload_n hC rfl d_Comp_keep_16 ?_
    refine g_callV0 hC (sp_Comp_fresh h hn) oc_Comp_fresh ov_Comp_fresh ml_Comp_70 h.o rfl hR (Nat.le_of_ble_eq_true rfl) (Nat.le_of_ble_eq_true rfl) (Nat.le_of_ble_eq_true rfl) (Nat.le_of_ble_eq_true rfl) (Nat.le_of_ble_eq_true rfl) d_Comp_keep_17 (fun r M1 hp => ?_)
    obtain ⟨p, ss', rfl, h1, hfx, hpc, hpn, hpl, hdk⟩ := hp
    refine g_sv ?_
    have m1 : mdx X.K M1 (c + 5) x un := hm.eq (fun z z1 z2 => hdk z (by omega) (by omega))
    first | refine g_ast1 hC d_Comp_keep_20 rfl (hN 1 rfl) ?_ | (refine g_fg0 ?_; refine g_ast1 hC d_Comp_keep_20 rfl (hN 1 rfl) ?_)
    refine g_aload_n hC rfl d_Comp_keep_21 ?_
    refine g_aload_n hC rfl d_Comp_keep_22 ?_
    refine g_get hC fb_Comp_29 h1.o rfl d_Comp_keep_23 ?_
    refine g_get hC fb_Comp_63 h1.d.o rfl d_Comp_keep_26 ?_
    refine g_callV1 hC (sp_copyQ hfx m1.op (by omega) hbd (by decide) (by decide)) oc_Frac_copy ov_Frac_copy ml_Comp_74 hfx.rc.choose_spec rfl hR (Nat.le_of_ble_eq_true rfl) (Nat.le_of_ble_eq_true rfl) (Nat.le_of_ble_eq_true rfl) (Nat.le_of_ble_eq_true rfl) (Nat.le_of_ble_eq_true rfl) d_Comp_keep_29 (fun r M2 hp => ?_)
    obtain ⟨rfl, o2, f2⟩ := hp
    refine g_s0 ?_
    refine g_hlt (fun hlt2 => ?_)
    -- the copy touches the fraction p alone
    have fne : ∀ q : Nat, fx X.K M1 q 100 → q ≠ p → q + 5 ≤ p ∨ p + 5 ≤ q := by
      intro q hq hne
      have k1 : ∀ u v : Nat, fx X.K M1 u 100 → fx X.K M1 v 100 → v ≠ u + 1 ∧ v ≠ u + 2 ∧ v ≠ u + 3 ∧ v ≠ u + 4 := by
        intro u v hu hv
        obtain ⟨mi1, un1, u1, ⟨n1, f1, u2, u3⟩, ⟨n2, f3, u4, u5⟩⟩ := hu
        obtain ⟨mi2, un2, v1, _⟩ := hv
        refine ⟨fun q => ?_, fun q => ?_, fun q => ?_, fun q => ?_⟩
        · subst q; rw [u2] at v1; simp at v1
        · subst q; rw [show u + 2 = u + 1 + 1 by omega, u3] at v1; simp [oI] at v1
        · subst q; rw [u4] at v1; simp at v1
        · subst q; rw [show u + 4 = u + 3 + 1 by omega, u5] at v1; simp [oI] at v1
      have := k1 q p hq hfx
      have := k1 p q hfx hq
      omega
    have hob : ∀ (z ci : Nat) (fs : List Value), M1.1 z = some (oO ci fs) → ci ≠ 0 → ci ≠ 1 → M2.1 z = some (oO ci fs) := by
      intro z ci fs hz n0 n1
      refine (f2.2 z ?_).trans hz
      obtain ⟨mi1, un1, u1, ⟨k1, f1, u2, u3⟩, ⟨k2, f3, u4, u5⟩⟩ := hfx
      rcases (show z < p ∨ p + 5 ≤ z ∨ z = p ∨ z = p + 1 ∨ z = p + 1 + 1 ∨ z = p + 3 ∨ z = p + 3 + 1 by omega) with q | q | rfl | rfl | rfl | rfl | rfl
      · exact Or.inl q
      · exact Or.inr q
      · rw [u1] at hz; simp at hz; exact absurd hz.1.symm n1
      · rw [u2] at hz; simp at hz; exact absurd hz.1.symm n0
      · rw [u3] at hz; simp [oI] at hz
      · rw [u4] at hz; simp at hz; exact absurd hz.1.symm n0
      · rw [u5] at hz; simp [oI] at hz
    have har : ∀ (z n : Nat) (g : Nat → Option Nat), M1.1 z = some (oR X.K n g) → M2.1 z = some (oR X.K n g) := by
      intro z n g hz
      refine (f2.2 z ?_).trans hz
      obtain ⟨mi1, un1, u1, ⟨k1, f1, u2, u3⟩, ⟨k2, f3, u4, u5⟩⟩ := hfx
      rcases (show z < p ∨ p + 5 ≤ z ∨ z = p ∨ z = p + 1 ∨ z = p + 1 + 1 ∨ z = p + 3 ∨ z = p + 3 + 1 by omega) with q | q | rfl | rfl | rfl | rfl | rfl
      · exact Or.inl q
      · exact Or.inr q
      · rw [u1] at hz; simp [oR] at hz
      · rw [u2] at hz; simp [oR] at hz
      · rw [u3] at hz; simp [oI, oR] at hz
      · rw [u4] at hz; simp [oR] at hz
      · rw [u5] at hz; simp [oI, oR] at hz
    have hl2 : ∀ a els, lst X.K M1 c a els → lst X.K M2 c a els := by
      intro a els hl
      obtain ⟨e, cap, q1, q2, ⟨mc, k1⟩, ⟨g, k2, k3⟩, k4⟩ := hl
      exact ⟨e, cap, q1, q2, ⟨mc, hob _ _ _ k1 (by decide) (by decide)⟩, ⟨g, har _ _ _ k2, k3⟩, k4⟩
    have lo2 : ∀ x, x < c + 24 → M2.1 x = M1.1 x := fun x hx => f2.2 x (by omega)
    have h2 : CI X.K M2 c vs ss' rs xs ws wl := by
      have hls := fun b hb => h1.lsL (b := b) hb
      obtain ⟨⟨j1, wf, j2, j2'⟩, j3, ⟨j4, j5, j6⟩, ⟨j7, j8⟩, j9, ⟨j10, j11⟩, j12, j13, j14, j15⟩ := h1
      refine ⟨⟨(lo2 _ (by omega)).trans j1, wf, (lo2 _ (by omega)).trans j2, j2'⟩, ⟨j3.1.eq (fun z _ _ => lo2 z (by omega)), j3.2.eq (fun z _ _ => lo2 z (by omega))⟩, ⟨hl2 _ _ j4, hl2 _ _ j5, hl2 _ _ j6⟩, ⟨j7, fun i q x hq hx => ?_⟩, fun q hq => ?_, ⟨j10, fun k r cs hr hc => ?_⟩, j12, j13.eq (fun a ha => ?_), har _ _ _ j14, j15⟩
      · have hne : q ≠ p := fun z => hpn (by rw [← z]; exact List.mem_append_left _ (List.mem_of_getElem? hq))
        have := fne q (j8 i q x hq hx).fx hne
        exact (j8 i q x hq hx).eq (fun z _ _ => f2.2 z (by omega))
      · have hne : q ≠ p := fun z => hpn (by rw [← z]; exact List.mem_append_right _ hq)
        have := fne q (j9 q hq) hne
        exact (j9 q hq).eq (fun z _ _ => f2.2 z (by omega))
      · obtain ⟨r1, r2, r3⟩ := j11 k r cs hr hc
        exact ⟨hob _ _ _ r1 (by decide) (by decide), hl2 _ _ r2, hl2 _ _ r3⟩
      · obtain ⟨els, e, cap, _, _, ⟨mc, k1⟩, _⟩ := hls a ha
        rw [k1]
        exact hob _ _ _ k1 (by decide) (by decide)
    clear hob har hl2 lo2 fne h1 f2 m1 hfx hdk
    -- values.add
    obtain ⟨e, cap, q1, q2, q3⟩ := h2.v
    have hvl := h2.len
    have hkE := hlt2 _ _ h2.2.2.2.2.2.2.2.2.1
    have hel : ∀ y ∈ vs, y ≠ c + 1 ∧ ∃ fs, M2.1 y = some (oO 1 fs) := by
      intro y hy
      have hb := h2.2.2.2.2.2.2.1.2.2.1 y (List.mem_append_left _ hy)
      obtain ⟨i, hi⟩ := List.getElem?_of_mem hy
      have hil : i < xs.length := by rw [← hvl]; exact (List.getElem?_eq_some_iff.mp hi).1
      exact ⟨by omega, (h2.2.2.2.1.2 i y _ hi (List.getElem?_eq_getElem hil)).rc⟩
    refine g_aload_n hC rfl d_Comp_keep_32 ?_
    refine g_get hC fb_Comp_10 h2.o rfl d_Comp_keep_33 ?_
    refine g_aload_n hC rfl d_Comp_keep_36 ?_
    refine g_callV1 hC (sp_AL_add q3 (by omega) q1 ck_Frac ca_Frac_Obj hel hkE o2.rc.choose_spec (by omega)) oc_AL_add ov_AL_add ml_Comp_78 q3.1.choose_spec rfl hR (Nat.le_of_ble_eq_true rfl) (Nat.le_of_ble_eq_true rfl) (Nat.le_of_ble_eq_true rfl) (Nat.le_of_ble_eq_true rfl) (Nat.le_of_ble_eq_true rfl) d_Comp_keep_37 (fun r M3 hp => ?_)
    obtain ⟨rfl, e', c2, w1, w2, w3, w4⟩ := hp
    refine g_sv ?_
    have hk := frA.kp q3 hlt2 w4
    have hls := fun b hb => h2.lsL (b := b) hb
    have h3 : CI X.K M3 c (vs ++ [p]) ss' rs (xs ++ [(x, un)]) ws wl := by
      obtain ⟨⟨j1, wf, j2, j2'⟩, j3, ⟨j4, j5, j6⟩, ⟨j7, j8⟩, j9, ⟨j10, j11⟩, ⟨n1, n2, n3, n4, n5⟩, j13, j14, j15⟩ := h2
      have l1 : Ls c rs (c + 1) := Or.inl rfl
      have oth := fun {b : Nat} {els : List Nat} (hb : lst X.K M2 c b els) (hbl : Ls c rs b) (hne : b ≠ c + 1) => hb.fr q3 j13 l1 hbl hne hlt2 w4
      have hcm : c + 24 ≤ M2.2 := by
        obtain ⟨fs, hq⟩ := o2.rc
        have := hlt2 _ _ hq
        omega
      refine ⟨⟨hk.o j1 (by decide), wf, hk.i j2, j2'⟩, ⟨j3.1.kp hk, j3.2.kp hk⟩, ⟨⟨e', c2, w1, by rcases w3 with ⟨h, _⟩ | ⟨h, _⟩ <;> omega, w2⟩, oth j5 (Or.inr (Or.inl rfl)) (by omega), oth j6 (Or.inr (Or.inr (Or.inl rfl))) (by omega)⟩, ⟨by rw [List.length_append, List.length_append, j7]; rfl, fun i q y hq hy => ?_⟩, fun q hq => (j9 q hq).kp hk, ⟨j10, fun k r cs hr hc => ?_⟩, ⟨?_, ?_, fun q hq => ?_, n4, n5⟩, j13.upd hls q3 w2 l1 (by rcases w3 with ⟨h, _⟩ | ⟨h, _⟩ <;> omega) hlt2 w4, ?_, j15⟩
      · by_cases hi : i < vs.length
        · rw [List.getElem?_append_left hi] at hq
          rw [List.getElem?_append_left (by omega)] at hy
          exact (j8 i q y hq hy).kp hk
        · have hi2 : i = vs.length := by
            have := (List.getElem?_eq_some_iff.mp hq).1
            rw [List.length_append] at this
            simp at this
            omega
          subst hi2
          rw [List.getElem?_append_right (Nat.le_refl _), Nat.sub_self] at hq
          rw [j7, List.getElem?_append_right (Nat.le_refl _), Nat.sub_self] at hy
          simp at hq hy
          subst hq hy
          exact o2.kp hk
      · obtain ⟨r1, r2, r3⟩ := j11 k r cs hr hc
        have hrm : r ∈ rs := List.mem_of_getElem? hr
        have hrb := n5 r hrm
        have hcs := (hms.2.1.2 cs (List.mem_of_getElem? hc)).2
        have em1 : (cs.map fun ij => (vs ++ [p]).getD ij.1 0) = cs.map fun ij => vs.getD ij.1 0 := List.map_congr_left (fun ij hij => getD_app (by have := (hcs ij hij).1; omega))
        have em2 : (cs.map fun ij => (vs ++ [p]).getD ij.2 0) = cs.map fun ij => vs.getD ij.2 0 := List.map_congr_left (fun ij hij => getD_app (by have := (hcs ij hij).2; omega))
        refine ⟨hk.o r1 (by decide), ?_, ?_⟩
        · rw [em1]; exact oth r2 (Or.inr (Or.inr (Or.inr ⟨r, hrm, Or.inl rfl⟩))) (by omega)
        · rw [em2]; exact oth r3 (Or.inr (Or.inr (Or.inr ⟨r, hrm, Or.inr rfl⟩))) (by omega)
      · have : (vs ++ [p] ++ ss').Perm (p :: (vs ++ ss')) := by
          rw [List.append_assoc]
          exact List.perm_middle
        exact this.nodup_iff.mpr (List.nodup_cons.mpr ⟨hpn, n1⟩)
      · rw [List.length_append] at hpl ⊢
        rw [List.length_append]
        simp
        omega
      · rcases List.mem_append.mp hq with h | h
        · rcases List.mem_append.mp h with h | h
          · exact n3 q (List.mem_append_left _ h)
          · rw [List.mem_singleton] at h; subst h; exact hpc
        · exact n3 q (List.mem_append_right _ h)
      · refine (w4 _ hkE (by omega) (fun q => ?_)).trans j14
        rcases Nat.eq_zero_or_pos cap with h0 | h0
        · exact h0
        · exact absurd q.symm (q3.2.2.2.2 h0)
    refine g_pop hC rfl d_Comp_keep_40 ?_
    refine g_aload_n hC rfl d_Comp_keep_41 ?_
    refine g_get hC fb_Comp_10 h3.o rfl d_Comp_keep_42 ?_
    obtain ⟨e3, cap3, t1, t2, t3⟩ := h3.v
    refine g_callV0 hC (sp_AL_size t3) oc_AL_size ov_AL_size ml_Comp_39 t3.1.choose_spec rfl hR (Nat.le_of_ble_eq_true rfl) (Nat.le_of_ble_eq_true rfl) (Nat.le_of_ble_eq_true rfl) (Nat.le_of_ble_eq_true rfl) (Nat.le_of_ble_eq_true rfl) d_Comp_keep_45 (fun r M3 hp => ?_)
    obtain ⟨rfl, rfl⟩ := hp
    refine g_sv ?_
    refine g_iconst hC d_Comp_keep_48 ?_
    refine g_isub hC d_Comp_keep_49 ?_
    rw [show ((vs ++ [p]).length : Int) - 1 = (xs.length : Int) by rw [List.length_append]; show ((vs.length + 1 : Nat) : Int) - 1 = _; omega]
    refine g_iret hC hQ (by decide) (by decide) d_Comp_keep_50 ⟨rfl, vs ++ [p], ss', rs, h3⟩
  · have hfit : fitB x = false := by
      cases q : fitB x with
      | false => rfl
      | true => rw [q] at c1; exact absurd rfl c1
    unfold kpR kpS at hQ
    rw [if_neg (by rw [hfit]; decide), if_neg (by rw [hfit]; decide)] at hQ
    refine g_bipush hC (by decide) d_Comp_keep_13 ?_
    refine g_iret hC hQ (by decide) (by decide) d_Comp_keep_15 ⟨rfl, vs, ss, rs, h⟩
