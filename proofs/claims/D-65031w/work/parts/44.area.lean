/-! Comp: area -/
def acc (xs : List (Rat × Int)) (cs : List (Nat × Nat)) : Nat → Rat
  | 0 => 0
  | t + 1 => (Ht xs cs (t + 1) + Ht xs cs t) * (Pl xs cs (t + 1) - Pl xs cs t) / ((2 : Nat) : Rat) + acc xs cs t
def aok (xs : List (Rat × Int)) (cs : List (Nat × Nat)) : Nat → Bool
  | 0 => true
  | t + 1 => aok xs cs t && fitB (acc xs cs (t + 1))
def arF (xs : List (Rat × Int)) (cs : List (Nat × Nat)) : Int := if cs.length < 2 then -5 else rfs (isU ((vx xs (cg cs 0).1).2 + (vx xs (cg cs 0).2).2)) xs.length
def arR (xs : List (Rat × Int)) (cs : List (Nat × Nat)) : Int := if arF xs cs ≠ 0 then arF xs cs else if aok xs cs (cs.length - 1) = true then kpR xs (acc xs cs (cs.length - 1)) else -4
def arS (xs : List (Rat × Int)) (cs : List (Nat × Nat)) : List (Rat × Int) := if arF xs cs ≠ 0 then xs else if aok xs cs (cs.length - 1) = true then kpS xs (acc xs cs (cs.length - 1)) ((vx xs (cg cs 0).1).2 + (vx xs (cg cs 0).2).2) else xs
theorem aok_le {xs : List (Rat × Int)} {cs : List (Nat × Nat)} {t : Nat} (h : aok xs cs t = false) : ∀ s, t ≤ s → aok xs cs s = false := by
  intro s
  induction s with
  | zero => intro q; rw [show (0 : Nat) = t by omega]; exact h
  | succ s ih =>
    intro q
    by_cases e : t = s + 1
    · rw [← e]; exact h
    · show (aok xs cs s && _) = false
      rw [ih (by omega), Bool.false_and]
theorem bd_half {x : Rat} {i j : Nat} (h : bdq x i j) : bdq (x / ((2 : Nat) : Rat)) (i + 1) (j + 1) := bdq_div h (i' := 1) (j' := 1) (by unfold bdq; decide) (by decide)
theorem acc_b {xs : List (Rat × Int)} {cs : List (Nat × Nat)} {t : Nat} (h : aok xs cs t = true) : bdq (acc xs cs t) 100 100 := by
  cases t with
  | zero => show (((0 : Rat).num.natAbs : Nat) : Int) < pw 100 ∧ (((0 : Rat).den : Nat) : Int) < pw 100; decide
  | succ t =>
    have : (aok xs cs t && fitB (acc xs cs (t + 1))) = true := h
    rw [Bool.and_eq_true] at this
    exact fitB_t this.2
section CAr
variable {l : Launch} {K : KC} {M M' : AH} {c : Nat} {xs : List (Rat × Int)} {ws : List (List (Nat × Nat))} {wl : List Int} {vs ss rs : List Nat}
/-- a fraction that is in no list changes -/
theorem CI.cpf (h1 : CI K M c vs ss rs xs ws wl) {p : Nat} (hfx : fx K M p 100) (hpc : c + 24 ≤ p) (hpn : p ∉ vs ++ ss) (f2 : frF M M' p) : CI K M' c vs ss rs xs ws wl := by
  have fne : ∀ q : Nat, fx K M q 100 → q ≠ p → q + 5 ≤ p ∨ p + 5 ≤ q := by
    intro q hq hne
    have k1 : ∀ u v : Nat, fx K M u 100 → fx K M v 100 → v ≠ u + 1 ∧ v ≠ u + 2 ∧ v ≠ u + 3 ∧ v ≠ u + 4 := by
      intro u v hu hv
      obtain ⟨mi1, un1, u1, ⟨n1, f1, u2, u3⟩, ⟨n2, f3, u4, u5⟩⟩ := hu
      obtain ⟨mi2, un2, v1, _⟩ := hv
      refine ⟨fun q => ?_, fun q => ?_, fun q => ?_, fun q => ?_⟩
      · subst q; rw [u2] at v1; simp at v1
      · subst q; rw [show u + 2 = u + 1 + 1 by omega, u3] at v1; simp [oI] at v1
      · subst q; rw [u4] at v1; simp at v1
      · subst q; rw [show u + 4 = u + 3 + 1 by omega, u5] at v1; simp [oI] at v1
    have := k1 q p hq hfx
    have := k1 p q hfx hq
    omega
  have hob : ∀ (z ci : Nat) (fs : List Value), M.1 z = some (oO ci fs) → ci ≠ 0 → ci ≠ 1 → M'.1 z = some (oO ci fs) := by
    intro z ci fs hz n0 n1
    refine (f2.2 z ?_).trans hz
    obtain ⟨mi1, un1, u1, ⟨k1, f1, u2, u3⟩, ⟨k2, f3, u4, u5⟩⟩ := hfx
    rcases (show z < p ∨ p + 5 ≤ z ∨ z = p ∨ z = p + 1 ∨ z = p + 1 + 1 ∨ z = p + 3 ∨ z = p + 3 + 1 by omega) with q | q | rfl | rfl | rfl | rfl | rfl
    · exact Or.inl q
    · exact Or.inr q
    · rw [u1] at hz; simp at hz; exact absurd hz.1.symm n1
    · rw [u2] at hz; simp at hz; exact absurd hz.1.symm n0
    · rw [u3] at hz; simp [oI] at hz
    · rw [u4] at hz; simp at hz; exact absurd hz.1.symm n0
    · rw [u5] at hz; simp [oI] at hz
  have har : ∀ (z n : Nat) (g : Nat → Option Nat), M.1 z = some (oR K n g) → M'.1 z = some (oR K n g) := by
    intro z n g hz
    refine (f2.2 z ?_).trans hz
    obtain ⟨mi1, un1, u1, ⟨k1, f1, u2, u3⟩, ⟨k2, f3, u4, u5⟩⟩ := hfx
    rcases (show z < p ∨ p + 5 ≤ z ∨ z = p ∨ z = p + 1 ∨ z = p + 1 + 1 ∨ z = p + 3 ∨ z = p + 3 + 1 by omega) with q | q | rfl | rfl | rfl | rfl | rfl
    · exact Or.inl q
    · exact Or.inr q
    · rw [u1] at hz; simp [oR] at hz
    · rw [u2] at hz; simp [oR] at hz
    · rw [u3] at hz; simp [oI, oR] at hz
    · rw [u4] at hz; simp [oR] at hz
    · rw [u5] at hz; simp [oI, oR] at hz
  have hl2 : ∀ a els, lst K M c a els → lst K M' c a els := by
    intro a els hl
    obtain ⟨e, cap, q1, q2, ⟨mc, k1⟩, ⟨g, k2, k3⟩, k4⟩ := hl
    exact ⟨e, cap, q1, q2, ⟨mc, hob _ _ _ k1 (by decide) (by decide)⟩, ⟨g, har _ _ _ k2, k3⟩, k4⟩
  have lo2 : ∀ x, x < c + 24 → M'.1 x = M.1 x := fun x hx => f2.2 x (by omega)
  have hls := fun b hb => h1.lsL (b := b) hb
  obtain ⟨⟨j1, wf, j2, j2'⟩, j3, ⟨j4, j5, j6⟩, ⟨j7, j8⟩, j9, ⟨j10, j11⟩, j12, j13, j14, j15⟩ := h1
  refine ⟨⟨(lo2 _ (by omega)).trans j1, wf, (lo2 _ (by omega)).trans j2, j2'⟩, ⟨j3.1.eq (fun z _ _ => lo2 z (by omega)), j3.2.eq (fun z _ _ => lo2 z (by omega))⟩, ⟨hl2 _ _ j4, hl2 _ _ j5, hl2 _ _ j6⟩, ⟨j7, fun i q x hq hx => ?_⟩, fun q hq => ?_, ⟨j10, fun k r cs hr hc => ?_⟩, j12, j13.eq (fun a ha => ?_), har _ _ _ j14, j15⟩
  · have hne : q ≠ p := fun z => hpn (by rw [← z]; exact List.mem_append_left _ (List.mem_of_getElem? hq))
    have := fne q (j8 i q x hq hx).fx hne
    exact (j8 i q x hq hx).eq (fun z _ _ => f2.2 z (by omega))
  · have hne : q ≠ p := fun z => hpn (by rw [← z]; exact List.mem_append_right _ hq)
    have := fne q (j9 q hq) hne
    exact (j9 q hq).eq (fun z _ _ => f2.2 z (by omega))
  · obtain ⟨r1, r2, r3⟩ := j11 k r cs hr hc
    exact ⟨hob _ _ _ r1 (by decide) (by decide), hl2 _ _ r2, hl2 _ _ r3⟩
  · obtain ⟨els, e, cap, _, _, ⟨mc, k1⟩, _⟩ := hls a ha
    rw [k1]
    exact hob _ _ _ k1 (by decide) (by decide)
/-- spare has got one more -/
theorem CI.addS (h2 : CI K M c vs ss rs xs ws wl) {p e cap e' c2 : Nat} (hlt2 : hlt M) (q3 : isL K M (c + 2) e cap ss) (hfx : fx K M p 100) (hpc : c + 24 ≤ p) (hpn : p ∉ vs ++ ss) (hpl : (vs ++ ss).length < 200) (w1 : c2 ≤ 300) (w2 : isL K M' (c + 2) e' c2 (ss ++ [p])) (w3 : e' = e ∧ M'.2 = M.2 ∨ e' = M.2 ∧ M'.2 = M.2 + 1) (w4 : frA M M' (c + 2) e cap) : CI K M' c vs (ss ++ [p]) rs xs ws wl := by
  have hk := frA.kp q3 hlt2 w4
  have hls := fun b hb => h2.lsL (b := b) hb
  have q2 : e = kE K ∨ c + 24 ≤ e := by
    obtain ⟨e0, cap0, _, q2, ⟨⟨mc0, k0⟩, _⟩⟩ := h2.s
    obtain ⟨⟨mc, k1⟩, _⟩ := q3
    rw [k0] at k1
    simp at k1
    rw [← k1.1]; exact q2
  have hkE := hlt2 _ _ h2.2.2.2.2.2.2.2.2.1
  obtain ⟨⟨j1, wf, j2, j2'⟩, j3, ⟨j4, j5, j6⟩, ⟨j7, j8⟩, j9, ⟨j10, j11⟩, ⟨n1, n2, n3, n4, n5⟩, j13, j14, j15⟩ := h2
  have l1 : Ls c rs (c + 2) := Or.inr (Or.inl rfl)
  have oth := fun {b : Nat} {els : List Nat} (hb : lst K M c b els) (hbl : Ls c rs b) (hne : b ≠ c + 2) => hb.fr q3 j13 l1 hbl hne hlt2 w4
  have hcm : c + 24 ≤ M.2 := by
    obtain ⟨fs, hq⟩ := hfx.rc
    have := hlt2 _ _ hq
    omega
  refine ⟨⟨hk.o j1 (by decide), wf, hk.i j2, j2'⟩, ⟨j3.1.kp hk, j3.2.kp hk⟩, ⟨oth j4 (Or.inl rfl) (by omega), ⟨e', c2, w1, by rcases w3 with ⟨h, _⟩ | ⟨h, _⟩ <;> omega, w2⟩, oth j6 (Or.inr (Or.inr (Or.inl rfl))) (by omega)⟩, ⟨j7, fun i q y hq hy => (j8 i q y hq hy).kp hk⟩, fun q hq => ?_, ⟨j10, fun k r cs hr hc => ?_⟩, ⟨?_, ?_, fun q hq => ?_, n4, n5⟩, j13.upd hls q3 w2 l1 (by rcases w3 with ⟨h, _⟩ | ⟨h, _⟩ <;> omega) hlt2 w4, ?_, j15⟩
  · rcases List.mem_append.mp hq with h | h
    · exact (j9 q h).kp hk
    · rw [List.mem_singleton] at h; subst h; exact hfx.kp hk
  · obtain ⟨r1, r2, r3⟩ := j11 k r cs hr hc
    have hrm : r ∈ rs := List.mem_of_getElem? hr
    have hrb := n5 r hrm
    exact ⟨hk.o r1 (by decide), oth r2 (Or.inr (Or.inr (Or.inr ⟨r, hrm, Or.inl rfl⟩))) (by omega), oth r3 (Or.inr (Or.inr (Or.inr ⟨r, hrm, Or.inr rfl⟩))) (by omega)⟩
  · rw [← List.append_assoc]
    refine List.nodup_append.mpr ⟨n1, by simp, fun a ha b hb => ?_⟩
    rw [List.mem_singleton] at hb
    subst hb
    exact fun q => hpn (q ▸ ha)
  · rw [← List.append_assoc, List.length_append]
    show _ + 1 ≤ 200
    omega
  · rw [← List.append_assoc] at hq
    rcases List.mem_append.mp hq with h | h
    · exact n3 q h
    · rw [List.mem_singleton] at h; subst h; exact hpc
  · refine (w4 _ hkE (by omega) (fun q => ?_)).trans j14
    rcases Nat.eq_zero_or_pos cap with h0 | h0
    · exact h0
    · exact absurd q.symm (q3.2.2.2.2 h0)
theorem d_Comp_area_0 : dn m_Comp_area.2.1 0 (.aload_n 0) 1 1 := ⟨by decide +kernel, rfl⟩
theorem d_Comp_area_1 : dn m_Comp_area.2.1 1 (.iload_n 1) 1 2 := ⟨by decide +kernel, rfl⟩
theorem d_Comp_area_2 : dn m_Comp_area.2.1 2 (.invokevirtual 170) 3 5 := ⟨by decide +kernel, rfl⟩
theorem d_Comp_area_5 : dn m_Comp_area.2.1 5 (.astore_n 2) 1 6 := ⟨by decide +kernel, rfl⟩
theorem d_Comp_area_6 : dn m_Comp_area.2.1 6 (.aload_n 2) 1 7 := ⟨by decide +kernel, rfl⟩
theorem d_Comp_area_7 : dn m_Comp_area.2.1 7 (.invokevirtual 174) 3 10 := ⟨by decide +kernel, rfl⟩
theorem d_Comp_area_10 : dn m_Comp_area.2.1 10 (.iconst 2) 1 11 := ⟨by decide +kernel, rfl⟩
theorem d_Comp_area_11 : db m_Comp_area.2.1 11 (.if_icmp .ge) 17 14 := ⟨6, by decide +kernel, by decide, rfl⟩
theorem d_Comp_area_14 : dn m_Comp_area.2.1 14 (.bipush (-5)) 2 16 := ⟨by decide +kernel, rfl⟩
theorem d_Comp_area_16 : dn m_Comp_area.2.1 16 (.ireturn) 1 17 := ⟨by decide +kernel, rfl⟩
theorem d_Comp_area_17 : dn m_Comp_area.2.1 17 (.aload_n 0) 1 18 := ⟨by decide +kernel, rfl⟩
theorem d_Comp_area_18 : dn m_Comp_area.2.1 18 (.aload_n 2) 1 19 := ⟨by decide +kernel, rfl⟩
theorem d_Comp_area_19 : dn m_Comp_area.2.1 19 (.getfield 175) 3 22 := ⟨by decide +kernel, rfl⟩
theorem d_Comp_area_22 : dn m_Comp_area.2.1 22 (.iconst 0) 1 23 := ⟨by decide +kernel, rfl⟩
theorem d_Comp_area_23 : dn m_Comp_area.2.1 23 (.invokevirtual 47) 3 26 := ⟨by decide +kernel, rfl⟩
theorem d_Comp_area_26 : dn m_Comp_area.2.1 26 (.checkcast 51) 3 29 := ⟨by decide +kernel, rfl⟩
theorem d_Comp_area_29 : dn m_Comp_area.2.1 29 (.getfield 104) 3 32 := ⟨by decide +kernel, rfl⟩
theorem d_Comp_area_32 : dn m_Comp_area.2.1 32 (.aload_n 2) 1 33 := ⟨by decide +kernel, rfl⟩
theorem d_Comp_area_33 : dn m_Comp_area.2.1 33 (.getfield 178) 3 36 := ⟨by decide +kernel, rfl⟩
theorem d_Comp_area_36 : dn m_Comp_area.2.1 36 (.iconst 0) 1 37 := ⟨by decide +kernel, rfl⟩
theorem d_Comp_area_37 : dn m_Comp_area.2.1 37 (.invokevirtual 47) 3 40 := ⟨by decide +kernel, rfl⟩
theorem d_Comp_area_40 : dn m_Comp_area.2.1 40 (.checkcast 51) 3 43 := ⟨by decide +kernel, rfl⟩
theorem d_Comp_area_43 : dn m_Comp_area.2.1 43 (.getfield 104) 3 46 := ⟨by decide +kernel, rfl⟩
theorem d_Comp_area_46 : dn m_Comp_area.2.1 46 (.iadd) 1 47 := ⟨by decide +kernel, rfl⟩
theorem d_Comp_area_47 : dn m_Comp_area.2.1 47 (.invokestatic 85) 3 50 := ⟨by decide +kernel, rfl⟩
theorem d_Comp_area_50 : dn m_Comp_area.2.1 50 (.invokevirtual 108) 3 53 := ⟨by decide +kernel, rfl⟩
theorem d_Comp_area_53 : dn m_Comp_area.2.1 53 (.istore_n 3) 1 54 := ⟨by decide +kernel, rfl⟩
theorem d_Comp_area_54 : dn m_Comp_area.2.1 54 (.iload_n 3) 1 55 := ⟨by decide +kernel, rfl⟩
theorem d_Comp_area_55 : db m_Comp_area.2.1 55 (.ifCond .eq) 60 58 := ⟨5, by decide +kernel, by decide, rfl⟩
theorem d_Comp_area_58 : dn m_Comp_area.2.1 58 (.iload_n 3) 1 59 := ⟨by decide +kernel, rfl⟩
theorem d_Comp_area_59 : dn m_Comp_area.2.1 59 (.ireturn) 1 60 := ⟨by decide +kernel, rfl⟩
theorem d_Comp_area_60 : dn m_Comp_area.2.1 60 (.aload_n 0) 1 61 := ⟨by decide +kernel, rfl⟩
theorem d_Comp_area_61 : dn m_Comp_area.2.1 61 (.invokevirtual 70) 3 64 := ⟨by decide +kernel, rfl⟩
theorem d_Comp_area_64 : dn m_Comp_area.2.1 64 (.astore 4) 2 66 := ⟨by decide +kernel, rfl⟩
theorem d_Comp_area_66 : dn m_Comp_area.2.1 66 (.aload_n 0) 1 67 := ⟨by decide +kernel, rfl⟩
theorem d_Comp_area_67 : dn m_Comp_area.2.1 67 (.getfield 29) 3 70 := ⟨by decide +kernel, rfl⟩
theorem d_Comp_area_70 : dn m_Comp_area.2.1 70 (.lconst 0) 1 71 := ⟨by decide +kernel, rfl⟩
theorem d_Comp_area_71 : dn m_Comp_area.2.1 71 (.lconst 1) 1 72 := ⟨by decide +kernel, rfl⟩
theorem d_Comp_area_72 : dn m_Comp_area.2.1 72 (.iconst 0) 1 73 := ⟨by decide +kernel, rfl⟩
theorem d_Comp_area_73 : dn m_Comp_area.2.1 73 (.invokevirtual 93) 3 76 := ⟨by decide +kernel, rfl⟩
theorem d_Comp_area_76 : dn m_Comp_area.2.1 76 (.iconst 1) 1 77 := ⟨by decide +kernel, rfl⟩
theorem d_Comp_area_77 : dn m_Comp_area.2.1 77 (.istore 5) 2 79 := ⟨by decide +kernel, rfl⟩
theorem d_Comp_area_79 : dn m_Comp_area.2.1 79 (.aload 4) 2 81 := ⟨by decide +kernel, rfl⟩
theorem d_Comp_area_81 : dn m_Comp_area.2.1 81 (.aload_n 0) 1 82 := ⟨by decide +kernel, rfl⟩
theorem d_Comp_area_82 : dn m_Comp_area.2.1 82 (.getfield 29) 3 85 := ⟨by decide +kernel, rfl⟩
theorem d_Comp_area_85 : dn m_Comp_area.2.1 85 (.getfield 63) 3 88 := ⟨by decide +kernel, rfl⟩
theorem d_Comp_area_88 : dn m_Comp_area.2.1 88 (.invokevirtual 74) 3 91 := ⟨by decide +kernel, rfl⟩
theorem d_Comp_area_91 : dn m_Comp_area.2.1 91 (.iconst 1) 1 92 := ⟨by decide +kernel, rfl⟩
theorem d_Comp_area_92 : dn m_Comp_area.2.1 92 (.istore 6) 2 94 := ⟨by decide +kernel, rfl⟩
theorem d_Comp_area_94 : dn m_Comp_area.2.1 94 (.iload 6) 2 96 := ⟨by decide +kernel, rfl⟩
theorem d_Comp_area_96 : dn m_Comp_area.2.1 96 (.aload_n 2) 1 97 := ⟨by decide +kernel, rfl⟩
theorem d_Comp_area_97 : dn m_Comp_area.2.1 97 (.invokevirtual 174) 3 100 := ⟨by decide +kernel, rfl⟩
theorem d_Comp_area_100 : db m_Comp_area.2.1 100 (.if_icmp .ge) 220 103 := ⟨120, by decide +kernel, by decide, rfl⟩
theorem d_Comp_area_103 : dn m_Comp_area.2.1 103 (.iload 5) 2 105 := ⟨by decide +kernel, rfl⟩
theorem d_Comp_area_105 : db m_Comp_area.2.1 105 (.ifCond .eq) 220 108 := ⟨115, by decide +kernel, by decide, rfl⟩
theorem d_Comp_area_108 : dn m_Comp_area.2.1 108 (.aload_n 0) 1 109 := ⟨by decide +kernel, rfl⟩
theorem d_Comp_area_109 : dn m_Comp_area.2.1 109 (.getfield 29) 3 112 := ⟨by decide +kernel, rfl⟩
theorem d_Comp_area_112 : dn m_Comp_area.2.1 112 (.aload_n 2) 1 113 := ⟨by decide +kernel, rfl⟩
theorem d_Comp_area_113 : dn m_Comp_area.2.1 113 (.getfield 175) 3 116 := ⟨by decide +kernel, rfl⟩
theorem d_Comp_area_116 : dn m_Comp_area.2.1 116 (.iload 6) 2 118 := ⟨by decide +kernel, rfl⟩
theorem d_Comp_area_118 : dn m_Comp_area.2.1 118 (.iconst 1) 1 119 := ⟨by decide +kernel, rfl⟩
theorem d_Comp_area_119 : dn m_Comp_area.2.1 119 (.isub) 1 120 := ⟨by decide +kernel, rfl⟩
theorem d_Comp_area_120 : dn m_Comp_area.2.1 120 (.invokevirtual 47) 3 123 := ⟨by decide +kernel, rfl⟩
theorem d_Comp_area_123 : dn m_Comp_area.2.1 123 (.checkcast 51) 3 126 := ⟨by decide +kernel, rfl⟩
theorem d_Comp_area_126 : dn m_Comp_area.2.1 126 (.aload_n 2) 1 127 := ⟨by decide +kernel, rfl⟩
theorem d_Comp_area_127 : dn m_Comp_area.2.1 127 (.getfield 178) 3 130 := ⟨by decide +kernel, rfl⟩
theorem d_Comp_area_130 : dn m_Comp_area.2.1 130 (.iload 6) 2 132 := ⟨by decide +kernel, rfl⟩
theorem d_Comp_area_132 : dn m_Comp_area.2.1 132 (.iconst 1) 1 133 := ⟨by decide +kernel, rfl⟩
theorem d_Comp_area_133 : dn m_Comp_area.2.1 133 (.isub) 1 134 := ⟨by decide +kernel, rfl⟩
theorem d_Comp_area_134 : dn m_Comp_area.2.1 134 (.invokevirtual 47) 3 137 := ⟨by decide +kernel, rfl⟩
theorem d_Comp_area_137 : dn m_Comp_area.2.1 137 (.checkcast 51) 3 140 := ⟨by decide +kernel, rfl⟩
theorem d_Comp_area_140 : dn m_Comp_area.2.1 140 (.aload_n 2) 1 141 := ⟨by decide +kernel, rfl⟩
theorem d_Comp_area_141 : dn m_Comp_area.2.1 141 (.getfield 175) 3 144 := ⟨by decide +kernel, rfl⟩
theorem d_Comp_area_144 : dn m_Comp_area.2.1 144 (.iload 6) 2 146 := ⟨by decide +kernel, rfl⟩
theorem d_Comp_area_146 : dn m_Comp_area.2.1 146 (.invokevirtual 47) 3 149 := ⟨by decide +kernel, rfl⟩
theorem d_Comp_area_149 : dn m_Comp_area.2.1 149 (.checkcast 51) 3 152 := ⟨by decide +kernel, rfl⟩
theorem d_Comp_area_152 : dn m_Comp_area.2.1 152 (.aload_n 2) 1 153 := ⟨by decide +kernel, rfl⟩
theorem d_Comp_area_153 : dn m_Comp_area.2.1 153 (.getfield 178) 3 156 := ⟨by decide +kernel, rfl⟩
theorem d_Comp_area_156 : dn m_Comp_area.2.1 156 (.iload 6) 2 158 := ⟨by decide +kernel, rfl⟩
theorem d_Comp_area_158 : dn m_Comp_area.2.1 158 (.invokevirtual 47) 3 161 := ⟨by decide +kernel, rfl⟩
theorem d_Comp_area_161 : dn m_Comp_area.2.1 161 (.checkcast 51) 3 164 := ⟨by decide +kernel, rfl⟩
theorem d_Comp_area_164 : dn m_Comp_area.2.1 164 (.invokevirtual 188) 3 167 := ⟨by decide +kernel, rfl⟩
theorem d_Comp_area_167 : dn m_Comp_area.2.1 167 (.aload_n 0) 1 168 := ⟨by decide +kernel, rfl⟩
theorem d_Comp_area_168 : dn m_Comp_area.2.1 168 (.getfield 29) 3 171 := ⟨by decide +kernel, rfl⟩
theorem d_Comp_area_171 : dn m_Comp_area.2.1 171 (.aload 4) 2 173 := ⟨by decide +kernel, rfl⟩
theorem d_Comp_area_173 : dn m_Comp_area.2.1 173 (.iconst 0) 1 174 := ⟨by decide +kernel, rfl⟩
theorem d_Comp_area_174 : dn m_Comp_area.2.1 174 (.invokevirtual 112) 3 177 := ⟨by decide +kernel, rfl⟩
theorem d_Comp_area_177 : dn m_Comp_area.2.1 177 (.aload_n 0) 1 178 := ⟨by decide +kernel, rfl⟩
theorem d_Comp_area_178 : dn m_Comp_area.2.1 178 (.getfield 29) 3 181 := ⟨by decide +kernel, rfl⟩
theorem d_Comp_area_181 : dn m_Comp_area.2.1 181 (.getfield 63) 3 184 := ⟨by decide +kernel, rfl⟩
theorem d_Comp_area_184 : dn m_Comp_area.2.1 184 (.invokevirtual 67) 3 187 := ⟨by decide +kernel, rfl⟩
theorem d_Comp_area_187 : db m_Comp_area.2.1 187 (.ifCond .ne) 194 190 := ⟨7, by decide +kernel, by decide, rfl⟩
theorem d_Comp_area_190 : dn m_Comp_area.2.1 190 (.iconst 1) 1 191 := ⟨by decide +kernel, rfl⟩
theorem d_Comp_area_191 : db m_Comp_area.2.1 191 (.goto) 195 194 := ⟨4, by decide +kernel, by decide, rfl⟩
theorem d_Comp_area_194 : dn m_Comp_area.2.1 194 (.iconst 0) 1 195 := ⟨by decide +kernel, rfl⟩
theorem d_Comp_area_195 : dn m_Comp_area.2.1 195 (.istore 5) 2 197 := ⟨by decide +kernel, rfl⟩
theorem d_Comp_area_197 : dn m_Comp_area.2.1 197 (.iload 5) 2 199 := ⟨by decide +kernel, rfl⟩
theorem d_Comp_area_199 : db m_Comp_area.2.1 199 (.ifCond .eq) 214 202 := ⟨15, by decide +kernel, by decide, rfl⟩
theorem d_Comp_area_202 : dn m_Comp_area.2.1 202 (.aload 4) 2 204 := ⟨by decide +kernel, rfl⟩
theorem d_Comp_area_204 : dn m_Comp_area.2.1 204 (.aload_n 0) 1 205 := ⟨by decide +kernel, rfl⟩
theorem d_Comp_area_205 : dn m_Comp_area.2.1 205 (.getfield 29) 3 208 := ⟨by decide +kernel, rfl⟩
theorem d_Comp_area_208 : dn m_Comp_area.2.1 208 (.getfield 63) 3 211 := ⟨by decide +kernel, rfl⟩
theorem d_Comp_area_211 : dn m_Comp_area.2.1 211 (.invokevirtual 74) 3 214 := ⟨by decide +kernel, rfl⟩
theorem d_Comp_area_214 : dn m_Comp_area.2.1 214 (.iinc 6 1) 3 217 := ⟨by decide +kernel, rfl⟩
theorem d_Comp_area_217 : db m_Comp_area.2.1 217 (.goto) 94 220 := ⟨(-123), by decide +kernel, by decide, rfl⟩
theorem d_Comp_area_220 : dn m_Comp_area.2.1 220 (.aload_n 0) 1 221 := ⟨by decide +kernel, rfl⟩
theorem d_Comp_area_221 : dn m_Comp_area.2.1 221 (.getfield 16) 3 224 := ⟨by decide +kernel, rfl⟩
theorem d_Comp_area_224 : dn m_Comp_area.2.1 224 (.aload 4) 2 226 := ⟨by decide +kernel, rfl⟩
theorem d_Comp_area_226 : dn m_Comp_area.2.1 226 (.invokevirtual 78) 3 229 := ⟨by decide +kernel, rfl⟩
theorem d_Comp_area_229 : dn m_Comp_area.2.1 229 (.pop) 1 230 := ⟨by decide +kernel, rfl⟩
theorem d_Comp_area_230 : dn m_Comp_area.2.1 230 (.iload 5) 2 232 := ⟨by decide +kernel, rfl⟩
theorem d_Comp_area_232 : db m_Comp_area.2.1 232 (.ifCond .ne) 238 235 := ⟨6, by decide +kernel, by decide, rfl⟩
theorem d_Comp_area_235 : dn m_Comp_area.2.1 235 (.bipush (-4)) 2 237 := ⟨by decide +kernel, rfl⟩
theorem d_Comp_area_237 : dn m_Comp_area.2.1 237 (.ireturn) 1 238 := ⟨by decide +kernel, rfl⟩
theorem d_Comp_area_238 : dn m_Comp_area.2.1 238 (.aload_n 0) 1 239 := ⟨by decide +kernel, rfl⟩
theorem d_Comp_area_239 : dn m_Comp_area.2.1 239 (.getfield 29) 3 242 := ⟨by decide +kernel, rfl⟩
theorem d_Comp_area_242 : dn m_Comp_area.2.1 242 (.getfield 63) 3 245 := ⟨by decide +kernel, rfl⟩
theorem d_Comp_area_245 : dn m_Comp_area.2.1 245 (.aload 4) 2 247 := ⟨by decide +kernel, rfl⟩
theorem d_Comp_area_247 : dn m_Comp_area.2.1 247 (.invokevirtual 74) 3 250 := ⟨by decide +kernel, rfl⟩
theorem d_Comp_area_250 : dn m_Comp_area.2.1 250 (.aload_n 0) 1 251 := ⟨by decide +kernel, rfl⟩
theorem d_Comp_area_251 : dn m_Comp_area.2.1 251 (.getfield 29) 3 254 := ⟨by decide +kernel, rfl⟩
theorem d_Comp_area_254 : dn m_Comp_area.2.1 254 (.getfield 63) 3 257 := ⟨by decide +kernel, rfl⟩
theorem d_Comp_area_257 : dn m_Comp_area.2.1 257 (.aload_n 2) 1 258 := ⟨by decide +kernel, rfl⟩
theorem d_Comp_area_258 : dn m_Comp_area.2.1 258 (.getfield 175) 3 261 := ⟨by decide +kernel, rfl⟩
theorem d_Comp_area_261 : dn m_Comp_area.2.1 261 (.iconst 0) 1 262 := ⟨by decide +kernel, rfl⟩
theorem d_Comp_area_262 : dn m_Comp_area.2.1 262 (.invokevirtual 47) 3 265 := ⟨by decide +kernel, rfl⟩
theorem d_Comp_area_265 : dn m_Comp_area.2.1 265 (.checkcast 51) 3 268 := ⟨by decide +kernel, rfl⟩
theorem d_Comp_area_268 : dn m_Comp_area.2.1 268 (.getfield 104) 3 271 := ⟨by decide +kernel, rfl⟩
theorem d_Comp_area_271 : dn m_Comp_area.2.1 271 (.aload_n 2) 1 272 := ⟨by decide +kernel, rfl⟩
theorem d_Comp_area_272 : dn m_Comp_area.2.1 272 (.getfield 178) 3 275 := ⟨by decide +kernel, rfl⟩
theorem d_Comp_area_275 : dn m_Comp_area.2.1 275 (.iconst 0) 1 276 := ⟨by decide +kernel, rfl⟩
theorem d_Comp_area_276 : dn m_Comp_area.2.1 276 (.invokevirtual 47) 3 279 := ⟨by decide +kernel, rfl⟩
theorem d_Comp_area_279 : dn m_Comp_area.2.1 279 (.checkcast 51) 3 282 := ⟨by decide +kernel, rfl⟩
theorem d_Comp_area_282 : dn m_Comp_area.2.1 282 (.getfield 104) 3 285 := ⟨by decide +kernel, rfl⟩
theorem d_Comp_area_285 : dn m_Comp_area.2.1 285 (.iadd) 1 286 := ⟨by decide +kernel, rfl⟩
theorem d_Comp_area_286 : dn m_Comp_area.2.1 286 (.putfield 104) 3 289 := ⟨by decide +kernel, rfl⟩
theorem d_Comp_area_289 : dn m_Comp_area.2.1 289 (.aload_n 0) 1 290 := ⟨by decide +kernel, rfl⟩
theorem d_Comp_area_290 : dn m_Comp_area.2.1 290 (.invokevirtual 97) 3 293 := ⟨by decide +kernel, rfl⟩
theorem d_Comp_area_293 : dn m_Comp_area.2.1 293 (.ireturn) 1 294 := ⟨by decide +kernel, rfl⟩
theorem sp_Comp_area {rw : Nat} {cs : List (Nat × Nat)} (hcx : CX K M c xs ws wl) (hms : MS xs ws wl) (hk : ws[rw]? = some cs) :
    Sp l K m_Comp_area 8 12 1016 [.ref c, iv rw] M (fun r M' => r = some (iv (arR xs cs)) ∧ CX K M' c (arS xs cs) ws wl) := by
  refine Sp.ofG R_Comp rfl (by decide) [some (.ref c), some (iv rw), none, none, none, none, none] rfl (Nat.le_of_ble_eq_true rfl) ?_
  intro X hl hK hN hR hC hQ
  subst hl hK
  obtain ⟨vs, ss, rs, h⟩ := hcx
  obtain ⟨r, hr, hro, hrc⟩ := h.rg hk
  have hcl := (hms.2.1.2 cs (List.mem_of_getElem? hk)).1
  have pl : ∀ (M' : AH) (ss0 : List Nat), CI X.K M' c vs ss0 rs xs ws wl → ∀ t, t < cs.length → (∃ e cap, cap ≤ 300 ∧ isL X.K M' (r + 1) e cap (cs.map fun ij => vs.getD ij.1 0)) ∧ (∃ e cap, cap ≤ 300 ∧ isL X.K M' (r + 2) e cap (cs.map fun ij => vs.getD ij.2 0)) ∧ M'.1 r = some (oO 3 [.ref (r + 1), .ref (r + 2)]) ∧ opx X.K M' (vs.getD (cg cs t).1 0) 100 (Pl xs cs t) (vx xs (cg cs t).1).2 ∧ opx X.K M' (vs.getD (cg cs t).2 0) 100 (Ht xs cs t) (vx xs (cg cs t).2).2 ∧ c + 24 ≤ vs.getD (cg cs t).1 0 ∧ c + 24 ≤ vs.getD (cg cs t).2 0 ∧ bdq (Pl xs cs t) 100 100 ∧ bdq (Ht xs cs t) 100 100 := by
    intro M' ss0 h' t ht
    obtain ⟨r0, hr0, ⟨g1, ⟨e1, cap1, t1, t2, t3⟩, ⟨e2, cap2, t4, t5, t6⟩⟩, _⟩ := h'.rg hk
    cases hr.symm.trans hr0
    have hl0 := hms.cs hk ht
    obtain ⟨_, po, pc⟩ := h'.vg hl0.1
    obtain ⟨_, ho, hc⟩ := h'.vg hl0.2
    exact ⟨⟨e1, cap1, t1, t3⟩, ⟨e2, cap2, t4, t6⟩, g1, po, ho, pc, hc, (hms.vb hl0.1).1, (hms.vb hl0.2).1⟩
  have rsz : ∀ (M' : AH) (ss0 : List Nat), CI X.K M' c vs ss0 rs xs ws wl → rowok X.K M' c vs r cs := by
    intro M' ss0 h'
    obtain ⟨r0, hr0, h9, _⟩ := h'.rg hk
    cases hr.symm.trans hr0
    exact h9
  refine g_aload_n hC rfl d_Comp_area_0 ?_
  refine g_iload_n hC rfl d_Comp_area_1 ?_
  refine g_callV1 hC (sp_Comp_rowOf h hr hro.1) oc_Comp_rowOf ov_Comp_rowOf ml_Comp_170 h.o rfl hR (Nat.le_of_ble_eq_true rfl) (Nat.le_of_ble_eq_true rfl) (Nat.le_of_ble_eq_true rfl) (Nat.le_of_ble_eq_true rfl) (Nat.le_of_ble_eq_true rfl) d_Comp_area_2 (fun r M hp => ?_)
  obtain ⟨rfl, rfl⟩ := hp
  refine g_sv ?_
  first | refine g_ast2 hC d_Comp_area_5 rfl (hN 2 rfl) ?_ | (refine g_fg1 ?_; refine g_ast2 hC d_Comp_area_5 rfl (hN 2 rfl) ?_)
  refine g_aload_n hC rfl d_Comp_area_6 ?_
  refine g_callV0 hC (sp_Row_size hro) oc_Row_size ov_Row_size ml_Comp_174 hro.1 rfl hR (Nat.le_of_ble_eq_true rfl) (Nat.le_of_ble_eq_true rfl) (Nat.le_of_ble_eq_true rfl) (Nat.le_of_ble_eq_true rfl) (Nat.le_of_ble_eq_true rfl) d_Comp_area_7 (fun r M hp => ?_)
  obtain ⟨rfl, rfl⟩ := hp
  refine g_sv ?_
  refine g_iconst hC d_Comp_area_10 ?_
  refine g_icmp_ge hC (by unfold I32; omega) (by unfold I32; omega) d_Comp_area_11 (fun c1 => ?_) (fun c1 => ?_)
  · have h2 : 2 ≤ cs.length := by omega
    have eF : arF xs cs = rfs (isU ((vx xs (cg cs 0).1).2 + (vx xs (cg cs 0).2).2)) xs.length := by unfold arF; rw [if_neg (by omega)]
    unfold arR arS at hQ
    rw [eF] at hQ
    obtain ⟨⟨e1, cap1, t1, t3⟩, ⟨e2, cap2, t4, t6⟩, g1, po, ho, _⟩ := pl M ss h 0 (by omega)
    have hl0 := hms.cs hk (t := 0) (by omega)
    obtain ⟨_, up1, up2⟩ := hms.vb hl0.1
    obtain ⟨_, uh1, uh2⟩ := hms.vb hl0.2
    obtain ⟨mi3, a3, b3, hF3, _⟩ := po
    obtain ⟨mi4, a4, b4, hF4, _⟩ := ho
    refine g_aload_n hC rfl d_Comp_area_17 ?_
    refine g_aload_n hC rfl d_Comp_area_18 ?_
    refine g_get hC fb_Comp_175 g1 rfl d_Comp_area_19 ?_
    refine g_iconst hC d_Comp_area_22 ?_
    refine g_callV1 hC (sp_AL_get (i := 0) t3 (by omega) (mp1 (by omega))) oc_AL_get ov_AL_get ml_Comp_47 t3.1.choose_spec rfl hR (Nat.le_of_ble_eq_true rfl) (Nat.le_of_ble_eq_true rfl) (Nat.le_of_ble_eq_true rfl) (Nat.le_of_ble_eq_true rfl) (Nat.le_of_ble_eq_true rfl) d_Comp_area_23 (fun r M hp => ?_)
    obtain ⟨rfl, rfl⟩ := hp
    refine g_sv ?_
    refine g_castY hC ck_Frac cl_Comp_51 hF3.1 d_Comp_area_26 ?_
    refine g_get hC fb_Comp_104 hF3.1 rfl d_Comp_area_29 ?_
    refine g_aload_n hC rfl d_Comp_area_32 ?_
    refine g_get hC fb_Comp_178 g1 rfl d_Comp_area_33 ?_
    refine g_iconst hC d_Comp_area_36 ?_
    refine g_callV1 hC (sp_AL_get (i := 0) t6 (by omega) (mp2 (by omega))) oc_AL_get ov_AL_get ml_Comp_47 t6.1.choose_spec rfl hR (Nat.le_of_ble_eq_true rfl) (Nat.le_of_ble_eq_true rfl) (Nat.le_of_ble_eq_true rfl) (Nat.le_of_ble_eq_true rfl) (Nat.le_of_ble_eq_true rfl) d_Comp_area_37 (fun r M hp => ?_)
    obtain ⟨rfl, rfl⟩ := hp
    refine g_sv ?_
    refine g_castY hC ck_Frac cl_Comp_51 hF4.1 d_Comp_area_40 ?_
    refine g_get hC fb_Comp_104 hF4.1 rfl d_Comp_area_43 ?_
    refine g_iadd hC d_Comp_area_46 ?_
    refine g_callS1 hC (sp_Comp_isUnit (by unfold I32; omega)) oc_Comp_isUnit os_Comp_isUnit ml_Comp_85 hR (Nat.le_of_ble_eq_true rfl) (Nat.le_of_ble_eq_true rfl) (Nat.le_of_ble_eq_true rfl) (Nat.le_of_ble_eq_true rfl) (Nat.le_of_ble_eq_true rfl) d_Comp_area_47 (fun r M hp => ?_)
    obtain ⟨rfl, rfl⟩ := hp
    refine g_sv ?_
    refine g_callV1 hC (sp_Comp_refusal h) oc_Comp_refusal ov_Comp_refusal ml_Comp_108 h.o rfl hR (Nat.le_of_ble_eq_true rfl) (Nat.le_of_ble_eq_true rfl) (Nat.le_of_ble_eq_true rfl) (Nat.le_of_ble_eq_true rfl) (Nat.le_of_ble_eq_true rfl) d_Comp_area_50 (fun r M hp => ?_)
    obtain ⟨rfl, rfl⟩ := hp
    refine g_sv ?_
    have hrf := rfs_in (isU ((vx xs (cg cs 0).1).2 + (vx xs (cg cs 0).2).2)) xs.length
    first | refine g_ist3 hC d_Comp_area_53 rfl (hN 3 rfl) ?_ | (refine g_fg2 ?_; refine g_ist3 hC d_Comp_area_53 rfl (hN 3 rfl) ?_)
    refine g_iload_n hC rfl d_Comp_area_54 ?_
    refine g_if_eq hC (by unfold I32; omega) d_Comp_area_55 (fun c2 => ?_) (fun c2 => ?_)
    · have hne : ¬ (rfs (isU ((vx xs (cg cs 0).1).2 + (vx xs (cg cs 0).2).2)) xs.length ≠ 0) := fun q => q c2
      rw [if_neg hne, if_neg hne] at hQ
      have hx2 : xs.length < 200 := hx200 hms.1.1 c2
      refine g_aload_n hC rfl d_Comp_area_60 ?_
      refine g_callV0 hC (sp_Comp_fresh h hx2) oc_Comp_fresh ov_Comp_fresh ml_Comp_70 h.o rfl hR (Nat.le_of_ble_eq_true rfl) (Nat.le_of_ble_eq_true rfl) (Nat.le_of_ble_eq_true rfl) (Nat.le_of_ble_eq_true rfl) (Nat.le_of_ble_eq_true rfl) d_Comp_area_61 (fun r M1 hp => ?_)
      obtain ⟨p, ss', rfl, h1, hfx, hpc, hpn, hpl, _⟩ := hp
      refine g_sv ?_
      have hD := h1.d
      obtain ⟨mi, un, hDK⟩ := hD
      first | refine g_ast4 hC d_Comp_area_64 rfl (hN 4 rfl) ?_ | (refine g_fg3 ?_; refine g_ast4 hC d_Comp_area_64 rfl (hN 4 rfl) ?_)
      refine g_aload_n hC rfl d_Comp_area_66 ?_
      refine g_get hC fb_Comp_29 h1.o rfl d_Comp_area_67 ?_
      refine g_lconst (z := 0) hC (by decide) d_Comp_area_70 ?_
      refine g_lconst (z := 1) hC (by decide) d_Comp_area_71 ?_
      refine g_iconst hC d_Comp_area_72 ?_
      refine g_callV3 hC (sp_Desk_set (above := 0) (below := 1) hDK (by unfold I64; omega) (by unfold I64; omega) (by decide)) oc_Desk_set ov_Desk_set ml_Comp_93 hDK.o rfl hR (Nat.le_of_ble_eq_true rfl) (Nat.le_of_ble_eq_true rfl) (Nat.le_of_ble_eq_true rfl) (Nat.le_of_ble_eq_true rfl) (Nat.le_of_ble_eq_true rfl) d_Comp_area_73 (fun r M2 hp => ?_)
      obtain ⟨rfl, m2, f2⟩ := hp
      refine g_s0 ?_
      have h2' := h1.md f2 m2.x
      have hfx2 := hfx.eq (M' := M2) (fun z _ _ => f2.2 z (by omega))
      have e0 : qv 0 1 = acc xs cs 0 := by show mkRat _ _ = (0 : Rat); decide
      rw [e0] at m2
      refine g_iconst hC d_Comp_area_76 ?_
      first | refine g_ist5 hC d_Comp_area_77 rfl (hN 5 rfl) ?_ | (refine g_fg4 ?_; refine g_ist5 hC d_Comp_area_77 rfl (hN 5 rfl) ?_)
      refine g_aload hC rfl d_Comp_area_79 ?_
      refine g_aload_n hC rfl d_Comp_area_81 ?_
      refine g_get hC fb_Comp_29 h2'.o rfl d_Comp_area_82 ?_
      refine g_get hC fb_Comp_63 h2'.d.o rfl d_Comp_area_85 ?_
      refine g_callV1 hC (sp_copyQ hfx2 m2.op (by omega) (acc_b (t := 0) rfl) (by decide) (by decide)) oc_Frac_copy ov_Frac_copy ml_Comp_74 hfx2.rc.choose_spec rfl hR (Nat.le_of_ble_eq_true rfl) (Nat.le_of_ble_eq_true rfl) (Nat.le_of_ble_eq_true rfl) (Nat.le_of_ble_eq_true rfl) (Nat.le_of_ble_eq_true rfl) d_Comp_area_88 (fun r M3 hp => ?_)
      obtain ⟨rfl, o3, f3⟩ := hp
      refine g_s0 ?_
      have h3 := h2'.cpf hfx2 hpc hpn f3
      refine g_iconst hC d_Comp_area_91 ?_
      first | refine g_ist6 hC d_Comp_area_92 rfl (hN 6 rfl) ?_ | (refine g_fg5 ?_; refine g_ist6 hC d_Comp_area_92 rfl (hN 6 rfl) ?_)
      -- the end
      have fin : ∀ (M' : AH) (cs1 sl1 : Nat) (b : Bool) (o6 : Option Value), cs1 ≤ 5 → sl1 ≤ 208 → b = aok xs cs (cs.length - 1) → CI X.K M' c vs ss' rs xs ws wl → fx X.K M' p 100 → (b = true → ∃ u, opx X.K M' p 100 (acc xs cs (cs.length - 1)) u) → G X cs1 sl1 M' 220 [some (.ref c), some (iv rw), some (.ref r), some (iv (rfs (isU ((vx xs (cg cs 0).1).2 + (vx xs (cg cs 0).2).2)) xs.length)), some (.ref p), some (iv (bz b)), o6] [] := by
        intro M' cs1 sl1 b o6 k1 k2 hb h' hfx' hop
        rw [← hb] at hQ
        refine g_hlt (fun hlt' => ?_)
        refine g_wid (k := 5) (n := 208) k1 k2 ?_
        obtain ⟨e, cap, q1, q2, q3⟩ := h'.s
        have hkE := hlt' _ _ h'.2.2.2.2.2.2.2.2.1
        have hel : ∀ y ∈ ss', y ≠ c + 2 ∧ ∃ fs, M'.1 y = some (oO 1 fs) := by
          intro y hy
          have hb := h'.2.2.2.2.2.2.1.2.2.1 y (List.mem_append_right _ hy)
          exact ⟨by omega, (h'.2.2.2.2.1 y hy).rc⟩
        refine g_aload_n hC rfl d_Comp_area_220 ?_
        refine g_get hC fb_Comp_16 h'.o rfl d_Comp_area_221 ?_
        refine g_aload hC rfl d_Comp_area_224 ?_
        refine g_callV1 hC (sp_AL_add q3 (by rw [List.length_append] at hpl; omega) q1 ck_Frac ca_Frac_Obj hel hkE hfx'.rc.choose_spec (by omega)) oc_AL_add ov_AL_add ml_Comp_78 q3.1.choose_spec rfl hR (Nat.le_of_ble_eq_true rfl) (Nat.le_of_ble_eq_true rfl) (Nat.le_of_ble_eq_true rfl) (Nat.le_of_ble_eq_true rfl) (Nat.le_of_ble_eq_true rfl) d_Comp_area_226 (fun r M4 hp => ?_)
        obtain ⟨rfl, e', c3, w1, w2, w3, w4⟩ := hp
        refine g_sv ?_
        have h4 := h'.addS hlt' q3 hfx' hpc hpn hpl w1 w2 w3 w4
        have hkp := frA.kp q3 hlt' w4
        refine g_pop hC rfl d_Comp_area_229 ?_
        refine g_iload hC rfl d_Comp_area_230 ?_
        refine g_if_ne hC (bz_I _) d_Comp_area_232 (fun c5 => ?_) (fun c5 => ?_)
        · have hbt : b = true := by cases b with | true => rfl | false => exact absurd bz_f c5
          rw [if_pos hbt, if_pos hbt] at hQ
          obtain ⟨u, hou⟩ := hop hbt
          have ho4 := hou.kp hkp
          have hab := acc_b (hb ▸ hbt : aok xs cs (cs.length - 1) = true)
          refine g_aload_n hC rfl d_Comp_area_238 ?_
          refine g_get hC fb_Comp_29 h4.o rfl d_Comp_area_239 ?_
          refine g_get hC fb_Comp_63 h4.d.o rfl d_Comp_area_242 ?_
          refine g_aload hC rfl d_Comp_area_245 ?_
          refine g_callV1 hC (sp_copyQ h4.d.fxm ho4 (by omega) (b740 hab (by decide) (by decide)) (by decide) (by decide)) oc_Frac_copy ov_Frac_copy ml_Comp_74 h4.d.fxm.rc.choose_spec rfl hR (Nat.le_of_ble_eq_true rfl) (Nat.le_of_ble_eq_true rfl) (Nat.le_of_ble_eq_true rfl) (Nat.le_of_ble_eq_true rfl) (Nat.le_of_ble_eq_true rfl) d_Comp_area_247 (fun r M5 hp => ?_)
          obtain ⟨rfl, oc, fc⟩ := hp
          refine g_s0 ?_
          obtain ⟨h5, m5⟩ := h4.cp fc oc
          obtain ⟨⟨e1, cap1, t1, t3⟩, ⟨e2, cap2, t4, t6⟩, g5, po5, ho5, _⟩ := pl M5 _ h5 0 (by omega)
          obtain ⟨mi5, a5, b5, hF5, _⟩ := po5
          obtain ⟨mi6, a6, b6, hF6, _⟩ := ho5
          obtain ⟨mi7, a7, b7, D7, hA7, hB7, q7⟩ := m5
          refine g_aload_n hC rfl d_Comp_area_250 ?_
          refine g_get hC fb_Comp_29 h5.o rfl d_Comp_area_251 ?_
          refine g_get hC fb_Comp_63 D7.o rfl d_Comp_area_254 ?_
          refine g_aload_n hC rfl d_Comp_area_257 ?_
          refine g_get hC fb_Comp_175 g5 rfl d_Comp_area_258 ?_
          refine g_iconst hC d_Comp_area_261 ?_
          refine g_callV1 hC (sp_AL_get (i := 0) t3 (by omega) (mp1 (by omega))) oc_AL_get ov_AL_get ml_Comp_47 t3.1.choose_spec rfl hR (Nat.le_of_ble_eq_true rfl) (Nat.le_of_ble_eq_true rfl) (Nat.le_of_ble_eq_true rfl) (Nat.le_of_ble_eq_true rfl) (Nat.le_of_ble_eq_true rfl) d_Comp_area_262 (fun r M5 hp => ?_)
          obtain ⟨rfl, rfl⟩ := hp
          refine g_sv ?_
          refine g_castY hC ck_Frac cl_Comp_51 hF5.1 d_Comp_area_265 ?_
          refine g_get hC fb_Comp_104 hF5.1 rfl d_Comp_area_268 ?_
          refine g_aload_n hC rfl d_Comp_area_271 ?_
          refine g_get hC fb_Comp_178 g5 rfl d_Comp_area_272 ?_
          refine g_iconst hC d_Comp_area_275 ?_
          refine g_callV1 hC (sp_AL_get (i := 0) t6 (by omega) (mp2 (by omega))) oc_AL_get ov_AL_get ml_Comp_47 t6.1.choose_spec rfl hR (Nat.le_of_ble_eq_true rfl) (Nat.le_of_ble_eq_true rfl) (Nat.le_of_ble_eq_true rfl) (Nat.le_of_ble_eq_true rfl) (Nat.le_of_ble_eq_true rfl) d_Comp_area_276 (fun r M5 hp => ?_)
          obtain ⟨rfl, rfl⟩ := hp
          refine g_sv ?_
          refine g_castY hC ck_Frac cl_Comp_51 hF6.1 d_Comp_area_279 ?_
          refine g_get hC fb_Comp_104 hF6.1 rfl d_Comp_area_282 ?_
          refine g_iadd hC d_Comp_area_285 ?_
          refine g_put hC fb_Comp_104 D7.m rfl rfl (Nat.le_of_ble_eq_true rfl) d_Comp_area_286 ?_
          have D8 := D7.sm (mi' := mi7) (un' := (vx xs (cg cs 0).1).2 + (vx xs (cg cs 0).2).2)
          have m8 : mdx X.K (ups M5 (c + 5 + 1) (oO 1 [.ref (c + 5 + 2), .ref (c + 5 + 4), iv (bz mi7), iv ((vx xs (cg cs 0).1).2 + (vx xs (cg cs 0).2).2)])) (c + 5) (acc xs cs (cs.length - 1)) ((vx xs (cg cs 0).1).2 + (vx xs (cg cs 0).2).2) := ⟨mi7, a7, b7, D8, hA7.sm (by omega) (by omega), hB7.sm (by omega) (by omega), q7⟩
          have h8 := h5.md (frM.rf.sm) m8.x
          refine g_aload_n hC rfl d_Comp_area_289 ?_
          refine g_callV0 hC (sp_Comp_keep ⟨_, _, _, h8⟩ hms hx2 m8) oc_Comp_keep ov_Comp_keep ml_Comp_97 h8.o rfl hR (Nat.le_of_ble_eq_true rfl) (Nat.le_of_ble_eq_true rfl) (Nat.le_of_ble_eq_true rfl) (Nat.le_of_ble_eq_true rfl) (Nat.le_of_ble_eq_true rfl) d_Comp_area_290 (fun r M9 hp => ?_)
          obtain ⟨rfl, h9⟩ := hp
          refine g_sv ?_
          refine g_iret hC hQ (by decide) (by decide) d_Comp_area_293 ⟨rfl, h9⟩
        · have hbt : b = false := by cases b with | false => rfl | true => rw [bz_t] at c5; omega
          have hbn : ¬ (b = true) := by rw [hbt]; decide
          rw [if_neg hbn, if_neg hbn] at hQ
          refine g_bipush hC (by decide) d_Comp_area_235 ?_
          refine g_iret hC hQ (by decide) (by decide) d_Comp_area_237 ⟨rfl, _, _, _, h4⟩
      -- the strips
      have lp : ∀ (d t : Nat) (M' : AH) (u : Int), cs.length - 1 - t = d → t ≤ cs.length - 1 → aok xs cs t = true → CI X.K M' c vs ss' rs xs ws wl → opx X.K M' p 100 (acc xs cs t) u → G X 5 208 M' 94 [some (.ref c), some (iv rw), some (.ref r), some (iv (rfs (isU ((vx xs (cg cs 0).1).2 + (vx xs (cg cs 0).2).2)) xs.length)), some (.ref p), some (iv (bz true)), some (iv ((t : Int) + 1))] [] := by
        intro d
        induction d with
        | zero =>
          intro t M' u hd ht hok h' hop
          obtain rfl : t = cs.length - 1 := by omega
          have hrz := rsz M' _ h'
          refine g_iload hC rfl d_Comp_area_94 ?_
          refine g_aload_n hC rfl d_Comp_area_96 ?_
          refine g_callV0 hC (sp_Row_size hrz) oc_Row_size ov_Row_size ml_Comp_174 hrz.1 rfl hR (Nat.le_of_ble_eq_true rfl) (Nat.le_of_ble_eq_true rfl) (Nat.le_of_ble_eq_true rfl) (Nat.le_of_ble_eq_true rfl) (Nat.le_of_ble_eq_true rfl) d_Comp_area_97 (fun r M' hp => ?_)
          obtain ⟨rfl, rfl⟩ := hp
          refine g_sv ?_
          refine g_icmp_ge hC (by unfold I32; omega) (by unfold I32; omega) d_Comp_area_100 (fun c5 => ?_) (fun c5 => ?_)
          · exact fin M' 5 208 true _ (by decide) (by decide) hok.symm h' hop.fx (fun _ => ⟨u, hop⟩)
          · omega
        | succ d ih =>
          intro t M' u hd ht hok h' hop
          have hrz := rsz M' _ h'
          obtain ⟨⟨e1, cap1, t1, t3⟩, ⟨e2, cap2, t4, t6⟩, g1, po0, ho0, pc0, hc0, pb0, hb0⟩ := pl M' _ h' t (by omega)
          obtain ⟨_, _, _, po1, ho1, pc1, hc1, pb1, hb1⟩ := pl M' _ h' (t + 1) (by omega)
          obtain ⟨f5, hf5⟩ := po0.rc
          obtain ⟨f6, hf6⟩ := ho0.rc
          obtain ⟨f7, hf7⟩ := po1.rc
          obtain ⟨f8, hf8⟩ := ho1.rc
          have ab := acc_b hok
          refine g_iload hC rfl d_Comp_area_94 ?_
          refine g_aload_n hC rfl d_Comp_area_96 ?_
          refine g_callV0 hC (sp_Row_size hrz) oc_Row_size ov_Row_size ml_Comp_174 hrz.1 rfl hR (Nat.le_of_ble_eq_true rfl) (Nat.le_of_ble_eq_true rfl) (Nat.le_of_ble_eq_true rfl) (Nat.le_of_ble_eq_true rfl) (Nat.le_of_ble_eq_true rfl) d_Comp_area_97 (fun r M' hp => ?_)
          obtain ⟨rfl, rfl⟩ := hp
          refine g_sv ?_
          refine g_icmp_ge hC (by unfold I32; omega) (by unfold I32; omega) d_Comp_area_100 (fun c5 => ?_) (fun c5 => ?_)
          · omega
          · refine g_iload hC rfl d_Comp_area_103 ?_
            refine g_if_eq hC (bz_I _) d_Comp_area_105 (fun c6 => ?_) (fun c6 => ?_)
            · exact absurd c6 (by decide)
            · skip
              refine g_aload_n hC rfl d_Comp_area_108 ?_
              refine g_get hC fb_Comp_29 h'.o rfl d_Comp_area_109 ?_
              refine g_aload_n hC rfl d_Comp_area_112 ?_
              refine g_get hC fb_Comp_175 g1 rfl d_Comp_area_113 ?_
              refine g_iload hC rfl d_Comp_area_116 ?_
              refine g_iconst hC d_Comp_area_118 ?_
              refine g_isub hC d_Comp_area_119 ?_
              rw [show (t : Int) + 1 - 1 = (t : Int) by omega]
              refine g_callV1 hC (sp_AL_get (i := t) t3 (by omega) (mp1 (by omega))) oc_AL_get ov_AL_get ml_Comp_47 t3.1.choose_spec rfl hR (Nat.le_of_ble_eq_true rfl) (Nat.le_of_ble_eq_true rfl) (Nat.le_of_ble_eq_true rfl) (Nat.le_of_ble_eq_true rfl) (Nat.le_of_ble_eq_true rfl) d_Comp_area_120 (fun r M' hp => ?_)
              obtain ⟨rfl, rfl⟩ := hp
              refine g_sv ?_
              refine g_castY hC ck_Frac cl_Comp_51 hf5 d_Comp_area_123 ?_
              refine g_aload_n hC rfl d_Comp_area_126 ?_
              refine g_get hC fb_Comp_178 g1 rfl d_Comp_area_127 ?_
              refine g_iload hC rfl d_Comp_area_130 ?_
              refine g_iconst hC d_Comp_area_132 ?_
              refine g_isub hC d_Comp_area_133 ?_
              rw [show (t : Int) + 1 - 1 = (t : Int) by omega]
              refine g_callV1 hC (sp_AL_get (i := t) t6 (by omega) (mp2 (by omega))) oc_AL_get ov_AL_get ml_Comp_47 t6.1.choose_spec rfl hR (Nat.le_of_ble_eq_true rfl) (Nat.le_of_ble_eq_true rfl) (Nat.le_of_ble_eq_true rfl) (Nat.le_of_ble_eq_true rfl) (Nat.le_of_ble_eq_true rfl) d_Comp_area_134 (fun r M' hp => ?_)
              obtain ⟨rfl, rfl⟩ := hp
              refine g_sv ?_
              refine g_castY hC ck_Frac cl_Comp_51 hf6 d_Comp_area_137 ?_
              refine g_aload_n hC rfl d_Comp_area_140 ?_
              refine g_get hC fb_Comp_175 g1 rfl d_Comp_area_141 ?_
              refine g_iload hC rfl d_Comp_area_144 ?_
              rw [show (t : Int) + 1 = ((t + 1 : Nat) : Int) by omega]
              refine g_callV1 hC (sp_AL_get (i := t + 1) t3 (by omega) (mp1 (by omega))) oc_AL_get ov_AL_get ml_Comp_47 t3.1.choose_spec rfl hR (Nat.le_of_ble_eq_true rfl) (Nat.le_of_ble_eq_true rfl) (Nat.le_of_ble_eq_true rfl) (Nat.le_of_ble_eq_true rfl) (Nat.le_of_ble_eq_true rfl) d_Comp_area_146 (fun r M' hp => ?_)
              obtain ⟨rfl, rfl⟩ := hp
              refine g_sv ?_
              refine g_castY hC ck_Frac cl_Comp_51 hf7 d_Comp_area_149 ?_
              refine g_aload_n hC rfl d_Comp_area_152 ?_
              refine g_get hC fb_Comp_178 g1 rfl d_Comp_area_153 ?_
              refine g_iload hC rfl d_Comp_area_156 ?_
              refine g_callV1 hC (sp_AL_get (i := t + 1) t6 (by omega) (mp2 (by omega))) oc_AL_get ov_AL_get ml_Comp_47 t6.1.choose_spec rfl hR (Nat.le_of_ble_eq_true rfl) (Nat.le_of_ble_eq_true rfl) (Nat.le_of_ble_eq_true rfl) (Nat.le_of_ble_eq_true rfl) (Nat.le_of_ble_eq_true rfl) d_Comp_area_158 (fun r M' hp => ?_)
              obtain ⟨rfl, rfl⟩ := hp
              refine g_sv ?_
              refine g_castY hC ck_Frac cl_Comp_51 hf8 d_Comp_area_161 ?_
              refine g_callV4 hC (sp_Desk_strip h'.d (by exact h'.hx) po0 ho0 po1 ho1 (by unfold dd; omega) (by unfold dd; omega) (by unfold dd; omega) (by unfold dd; omega) (by decide) (by decide) (by decide) (by decide) pb0 hb0 pb1 hb1) oc_Desk_strip ov_Desk_strip ml_Comp_188 h'.d.o rfl hR (Nat.le_of_ble_eq_true rfl) (Nat.le_of_ble_eq_true rfl) (Nat.le_of_ble_eq_true rfl) (Nat.le_of_ble_eq_true rfl) (Nat.le_of_ble_eq_true rfl) d_Comp_area_164 (fun r M4 hp => ?_)
              obtain ⟨rfl, ⟨un4, m4⟩, x4, f4⟩ := hp
              refine g_s0 ?_
              have h4 := h'.desk f4 m4.x x4
              have hop4 := hop.d f4 (by omega)
              have sb := bd_half (bdq_mul (bd_sub hb1 hb0 false) (bd_sub pb1 pb0 true))
              rw [lsq_f, lsq_t, ← Rat.sub_eq_add_neg] at sb
              refine g_aload_n hC rfl d_Comp_area_167 ?_
              refine g_get hC fb_Comp_29 h4.o rfl d_Comp_area_168 ?_
              refine g_aload hC rfl d_Comp_area_171 ?_
              refine g_iconst hC d_Comp_area_173 ?_
              refine g_callV2 hC (sp_Desk_add (less := false) (m := 510) m4 hop4 (by omega) (by decide) sb ab (by decide) (by decide) (by decide) (by decide)) oc_Desk_add ov_Desk_add ml_Comp_112 h4.d.o rfl hR (Nat.le_of_ble_eq_true rfl) (Nat.le_of_ble_eq_true rfl) (Nat.le_of_ble_eq_true rfl) (Nat.le_of_ble_eq_true rfl) (Nat.le_of_ble_eq_true rfl) d_Comp_area_174 (fun r M5 hp => ?_)
              obtain ⟨rfl, m5, f5⟩ := hp
              refine g_s0 ?_
              rw [lsq_f] at m5
              have ea : (Ht xs cs (t + 1) + Ht xs cs t) * (Pl xs cs (t + 1) - Pl xs cs t) / ((2 : Nat) : Rat) + acc xs cs t = acc xs cs (t + 1) := rfl
              rw [ea] at m5
              have h5 := h4.md f5 m5.x
              have hop5 := hop4.eq (M' := M5) (fun z _ _ => f5.2 z (by omega))
              obtain ⟨mi5, a5, b5, hF5, qx⟩ := m5.op
              have efit : decide (¬ ((a5 : Int) < pw 100 ∧ (b5 : Int) < pw 100)) = !fitB (acc xs cs (t + 1)) := by
                rw [qx.1, qx.2.1]
                unfold fitB
                by_cases q : (((acc xs cs (t + 1)).num.natAbs : Int) < pw 100 ∧ ((acc xs cs (t + 1)).den : Int) < pw 100)
                · rw [decide_eq_true q, decide_eq_false (fun z => z q)]; rfl
                · rw [decide_eq_false q, decide_eq_true q]; rfl
              have eok : aok xs cs (t + 1) = fitB (acc xs cs (t + 1)) := by show (aok xs cs t && _) = _; rw [hok, Bool.true_and]
              refine g_aload_n hC rfl d_Comp_area_177 ?_
              refine g_get hC fb_Comp_29 h5.o rfl d_Comp_area_178 ?_
              refine g_get hC fb_Comp_63 h5.d.o rfl d_Comp_area_181 ?_
              refine g_callV0 hC (sp_Frac_isLong hF5 (by decide)) oc_Frac_isLong ov_Frac_isLong ml_Comp_67 hF5.1 rfl hR (Nat.le_of_ble_eq_true rfl) (Nat.le_of_ble_eq_true rfl) (Nat.le_of_ble_eq_true rfl) (Nat.le_of_ble_eq_true rfl) (Nat.le_of_ble_eq_true rfl) d_Comp_area_184 (fun r M5 hp => ?_)
              obtain ⟨rfl, rfl⟩ := hp
              refine g_sv ?_
              rw [efit]
              refine g_if_ne hC (bz_I _) d_Comp_area_187 (fun c7 => ?_) (fun c7 => ?_)
              · have hf0 : fitB (acc xs cs (t + 1)) = false := by
                  cases q : fitB (acc xs cs (t + 1)) with
                  | false => rfl
                  | true => rw [q] at c7; exact absurd rfl c7
                rw [hf0] at eok
                have hrz5 := rsz M5 _ h5
                refine g_iconst hC d_Comp_area_194 ?_
                first | refine g_ist5 hC d_Comp_area_195 rfl (hN 5 rfl) ?_ | (refine g_fg4 ?_; refine g_ist5 hC d_Comp_area_195 rfl (hN 5 rfl) ?_)
                refine g_iload hC rfl d_Comp_area_197 ?_
                refine g_if_eq hC (by unfold I32; omega) d_Comp_area_199 (fun c8 => ?_) (fun c8 => ?_)
                · refine g_inc6 hC d_Comp_area_214 rfl (hN 6 rfl) ?_
                  rw [show ((t + 1 : Nat) : Int) + 1 = (t : Int) + 2 by omega]
                  refine g_goto hC d_Comp_area_217 ?_
                  refine g_iload hC rfl d_Comp_area_94 ?_
                  refine g_aload_n hC rfl d_Comp_area_96 ?_
                  refine g_callV0 hC (sp_Row_size hrz5) oc_Row_size ov_Row_size ml_Comp_174 hrz5.1 rfl hR (Nat.le_of_ble_eq_true rfl) (Nat.le_of_ble_eq_true rfl) (Nat.le_of_ble_eq_true rfl) (Nat.le_of_ble_eq_true rfl) (Nat.le_of_ble_eq_true rfl) d_Comp_area_97 (fun r M5 hp => ?_)
                  obtain ⟨rfl, rfl⟩ := hp
                  refine g_sv ?_
                  refine g_icmp_ge hC (by unfold I32; omega) (by unfold I32; omega) d_Comp_area_100 (fun c9 => ?_) (fun c9 => ?_)
                  · exact fin M5 5 208 false _ (by decide) (by decide) (aok_le eok _ (by omega)).symm h5 hop5.fx (fun q => by cases q)
                  · refine g_iload hC rfl d_Comp_area_103 ?_
                    refine g_if_eq hC (by unfold I32; omega) d_Comp_area_105 (fun ca => ?_) (fun ca => ?_)
                    · exact fin M5 5 208 false _ (by decide) (by decide) (aok_le eok _ (by omega)).symm h5 hop5.fx (fun q => by cases q)
                    · omega
                · omega
              · have hf1 : fitB (acc xs cs (t + 1)) = true := by
                  cases q : fitB (acc xs cs (t + 1)) with
                  | true => rfl
                  | false => rw [q] at c7; exact absurd c7 (by decide)
                rw [hf1] at eok
                refine g_iconst hC d_Comp_area_190 ?_
                refine g_goto hC d_Comp_area_191 ?_
                first | refine g_ist5 hC d_Comp_area_195 rfl (hN 5 rfl) ?_ | (refine g_fg4 ?_; refine g_ist5 hC d_Comp_area_195 rfl (hN 5 rfl) ?_)
                refine g_iload hC rfl d_Comp_area_197 ?_
                refine g_if_eq hC (by unfold I32; omega) d_Comp_area_199 (fun c8 => ?_) (fun c8 => ?_)
                · omega
                · skip
                  refine g_aload hC rfl d_Comp_area_202 ?_
                  refine g_aload_n hC rfl d_Comp_area_204 ?_
                  refine g_get hC fb_Comp_29 h5.o rfl d_Comp_area_205 ?_
                  refine g_get hC fb_Comp_63 h5.d.o rfl d_Comp_area_208 ?_
                  refine g_callV1 hC (sp_copyQ hop5.fx m5.op (by omega) (fitB_t hf1) (by decide) (by decide)) oc_Frac_copy ov_Frac_copy ml_Comp_74 hop5.fx.rc.choose_spec rfl hR (Nat.le_of_ble_eq_true rfl) (Nat.le_of_ble_eq_true rfl) (Nat.le_of_ble_eq_true rfl) (Nat.le_of_ble_eq_true rfl) (Nat.le_of_ble_eq_true rfl) d_Comp_area_211 (fun r M6 hp => ?_)
                  obtain ⟨rfl, o6, f6⟩ := hp
                  refine g_s0 ?_
                  have h6 := h5.cpf hop5.fx hpc hpn f6
                  refine g_inc6 hC d_Comp_area_214 rfl (hN 6 rfl) ?_
                  refine g_goto hC d_Comp_area_217 ?_
                  exact ih (t + 1) M6 _ (by omega) (by omega) eok h6 o6
      exact lp _ 0 M3 _ rfl (by omega) rfl h3 o3
    · rw [if_pos c2, if_pos c2] at hQ
      refine g_iload_n hC rfl d_Comp_area_58 ?_
      refine g_iret hC hQ (by decide) (by decide) d_Comp_area_59 ⟨rfl, vs, ss, rs, h⟩
  · have eF : arF xs cs = -5 := by unfold arF; rw [if_pos (by omega)]
    unfold arR arS at hQ
    rw [eF, if_pos (by decide), if_pos (by decide)] at hQ
    refine g_bipush hC (by decide) d_Comp_area_14 ?_
    refine g_iret hC hQ (by decide) (by decide) d_Comp_area_16 ⟨rfl, vs, ss, rs, h⟩
theorem st_Comp_area {a : Int} (htr : l.stackTraces = false) (hcx : CX K M c xs ws wl) (ha : I32 a) (hv : rat ws a = none) : St l K m_Comp_area 8 12 1016 [.ref c, iv a] M R_IoE := by
  refine St.ofG R_Comp rfl (by decide) [some (.ref c), some (iv a), none, none, none, none, none] rfl (Nat.le_of_ble_eq_true rfl) ?_
  intro X hl hK hN hR hC hQ
  subst hl hK
  obtain ⟨vs, ss, rs, h⟩ := hcx
  refine g_aload_n hC rfl d_Comp_area_0 ?_
  refine g_iload_n hC rfl d_Comp_area_1 ?_
  exact g_callVT hC hQ rfl (st_Comp_rowOf htr h ha (rat_none hv)) oc_Comp_rowOf ov_Comp_rowOf ml_Comp_170 h.o rfl rfl (st := []) rfl hR (by decide) (by decide) (by decide) (by decide) (by decide) d_Comp_area_2
end CAr
