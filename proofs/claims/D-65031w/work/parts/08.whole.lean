/-! Whole: its cells, and its methods -/
def isW (K : KC) (M : AH) (q cap n : Nat) (f : Int → Int) : Prop := M.1 q = some (oO 0 [.ref (q + 1), iv n]) ∧ M.1 (q + 1) = some (oI K cap f)
/-- nothing but the Whole at q has changed -/
def frW (M M' : AH) (q : Nat) : Prop := M'.2 = M.2 ∧ ∀ p, p ≠ q → p ≠ q + 1 → M'.1 p = M.1 p
theorem frW.rf {M : AH} {q : Nat} : frW M M q := ⟨rfl, fun _ _ _ => rfl⟩
theorem frW.trans {M M1 M2 : AH} {q : Nat} (h1 : frW M M1 q) (h2 : frW M1 M2 q) : frW M M2 q := ⟨h2.1.trans h1.1, fun p a b => (h2.2 p a b).trans (h1.2 p a b)⟩
theorem frW.o {M M' : AH} {q : Nat} {e : va_E} (h : frW M M' q) : frW M (ups M' q e) q := ⟨h.1, fun p a b => (ups_n a).trans (h.2 p a b)⟩
theorem frW.a {M M' : AH} {q : Nat} {e : va_E} (h : frW M M' q) : frW M (ups M' (q + 1) e) q := ⟨h.1, fun p a b => (ups_n b).trans (h.2 p a b)⟩
theorem isW.st {K : KC} {M : AH} {q cap n : Nat} {f f' : Int → Int} (h : isW K M q cap n f) : isW K (ups M (q + 1) (oI K cap f')) q cap n f' := ⟨(ups_n (by omega)).trans h.1, ups_s⟩
theorem isW.sz {K : KC} {M : AH} {q cap n n' : Nat} {f : Int → Int} (h : isW K M q cap n f) : isW K (ups M q (oO 0 [.ref (q + 1), iv n'])) q cap n' f := ⟨ups_s, (ups_n (by omega)).trans h.2⟩
theorem isW.ne {K : KC} {M : AH} {q r c1 n1 c2 n2 : Nat} {f g : Int → Int} (h : isW K M q c1 n1 f) (h' : isW K M r c2 n2 g) : r ≠ q + 1 := by
  intro e; subst e
  have := h.2.symm.trans h'.1
  simp [oI] at this
theorem isW.fr {K : KC} {M M' : AH} {q r cap n : Nat} {g : Int → Int} (h : isW K M r cap n g) (hf : frW M M' q) (h1 : r ≠ q) (h2 : r ≠ q + 1) (h3 : r + 1 ≠ q) : isW K M' r cap n g :=
  ⟨(hf.2 r h1 h2).trans h.1, (hf.2 (r + 1) h3 (by omega)).trans h.2⟩
theorem isW.oth {K : KC} {M M' : AH} {q r cap n c1 n1 : Nat} {f g : Int → Int} (h : isW K M r cap n g) (hq : isW K M q c1 n1 f) (hf : frW M M' q) (h1 : r ≠ q) : isW K M' r cap n g :=
  h.fr hf h1 (hq.ne h) (fun e => h.ne hq e.symm)
theorem g_sv {X : CT} {cs sl : Nat} {M : AH} {pc : Nat} {L : List (Option Value)} {st : List Value} {v : Value} (h : G X cs sl M pc L (v :: st)) : G X cs sl M pc L ((some v).toList ++ st) := h
theorem g_s0 {X : CT} {cs sl : Nat} {M : AH} {pc : Nat} {L : List (Option Value)} {st : List Value} (h : G X cs sl M pc L st) : G X cs sl M pc L ((none : Option Value).toList ++ st) := h
theorem tpn_s {f : Int → Int} {k : Nat} (h : f (k : Int) ≠ 0) : tpn f (k + 1) := fun j hj => by
  obtain rfl : j = k := by omega
  exact h
theorem tpn_z {f : Int → Int} {n : Nat} (h : n = 0) : tpn f n := fun j hj => by omega
theorem d_Whole_trim_0 : dn m_Whole_trim.2.1 0 (.aload_n 0) 1 1 := ⟨by decide +kernel, rfl⟩
theorem d_Whole_trim_1 : dn m_Whole_trim.2.1 1 (.getfield 15) 3 4 := ⟨by decide +kernel, rfl⟩
theorem d_Whole_trim_4 : db m_Whole_trim.2.1 4 (.ifCond .le) 34 7 := ⟨30, by decide +kernel, by decide, rfl⟩
theorem d_Whole_trim_7 : dn m_Whole_trim.2.1 7 (.aload_n 0) 1 8 := ⟨by decide +kernel, rfl⟩
theorem d_Whole_trim_8 : dn m_Whole_trim.2.1 8 (.getfield 9) 3 11 := ⟨by decide +kernel, rfl⟩
theorem d_Whole_trim_11 : dn m_Whole_trim.2.1 11 (.aload_n 0) 1 12 := ⟨by decide +kernel, rfl⟩
theorem d_Whole_trim_12 : dn m_Whole_trim.2.1 12 (.getfield 15) 3 15 := ⟨by decide +kernel, rfl⟩
theorem d_Whole_trim_15 : dn m_Whole_trim.2.1 15 (.iconst 1) 1 16 := ⟨by decide +kernel, rfl⟩
theorem d_Whole_trim_16 : dn m_Whole_trim.2.1 16 (.isub) 1 17 := ⟨by decide +kernel, rfl⟩
theorem d_Whole_trim_17 : dn m_Whole_trim.2.1 17 (.iaload) 1 18 := ⟨by decide +kernel, rfl⟩
theorem d_Whole_trim_18 : db m_Whole_trim.2.1 18 (.ifCond .ne) 34 21 := ⟨16, by decide +kernel, by decide, rfl⟩
theorem d_Whole_trim_21 : dn m_Whole_trim.2.1 21 (.aload_n 0) 1 22 := ⟨by decide +kernel, rfl⟩
theorem d_Whole_trim_22 : dn m_Whole_trim.2.1 22 (.dup) 1 23 := ⟨by decide +kernel, rfl⟩
theorem d_Whole_trim_23 : dn m_Whole_trim.2.1 23 (.getfield 15) 3 26 := ⟨by decide +kernel, rfl⟩
theorem d_Whole_trim_26 : dn m_Whole_trim.2.1 26 (.iconst 1) 1 27 := ⟨by decide +kernel, rfl⟩
theorem d_Whole_trim_27 : dn m_Whole_trim.2.1 27 (.isub) 1 28 := ⟨by decide +kernel, rfl⟩
theorem d_Whole_trim_28 : dn m_Whole_trim.2.1 28 (.putfield 15) 3 31 := ⟨by decide +kernel, rfl⟩
theorem d_Whole_trim_31 : db m_Whole_trim.2.1 31 (.goto) 0 34 := ⟨(-31), by decide +kernel, by decide, rfl⟩
theorem d_Whole_trim_34 : dn m_Whole_trim.2.1 34 (.return_) 1 35 := ⟨by decide +kernel, rfl⟩
/-- trim(): the zeros above go -/
theorem sp_Whole_trim {l : Launch} {K : KC} {M : AH} {q cap n : Nat} {f : Int → Int} (hW : isW K M q cap n f) (hn : n ≤ cap) (hcap : cap ≤ 1000) (hd : dg f n) :
    Sp l K m_Whole_trim 0 0 0 [.ref q] M (fun r M' => r = none ∧ ∃ n', n' ≤ n ∧ isW K M' q cap n' f ∧ tpn f n' ∧ vl f n' = vl f n ∧ frW M M' q) := by
  refine Sp.ofG R_Whole rfl (by decide) [some (.ref q)] rfl (Nat.le_of_ble_eq_true rfl) ?_
  intro X hl hK hN hR hC hQ
  subst hl hK
  suffices key : ∀ (n' : Nat) (M' : AH), isW X.K M' q cap n' f → n' ≤ n → vl f n' = vl f n → frW M M' q → G X 0 0 M' 0 [some (.ref q)] [] from key n M hW (Nat.le_refl n) rfl frW.rf
  intro n'
  induction n' using Nat.strongRecOn with
  | ind n' ih =>
    intro M' hW' hn' hv hf
    refine g_aload_n hC rfl d_Whole_trim_0 ?_
    refine g_get hC fb_Whole_15 hW'.1 rfl d_Whole_trim_1 ?_
    refine g_if_le hC (by unfold I32; omega) d_Whole_trim_4 (fun c => ?_) (fun c => ?_)
    · refine g_vret hC hQ (by decide) (by decide) d_Whole_trim_34 ⟨rfl, n', hn', hW', tpn_z (by omega), hv, hf⟩
    · obtain ⟨k, rfl⟩ : ∃ k, n' = k + 1 := ⟨n' - 1, by omega⟩
      have e : ((k + 1 : Nat) : Int) - 1 = (k : Int) := by omega
      have hb := hd k (by omega)
      refine g_aload_n hC rfl d_Whole_trim_7 ?_
      refine g_get hC fb_Whole_9 hW'.1 rfl d_Whole_trim_8 ?_
      refine g_aload_n hC rfl d_Whole_trim_11 ?_
      refine g_get hC fb_Whole_15 hW'.1 rfl d_Whole_trim_12 ?_
      refine g_iconst hC d_Whole_trim_15 ?_
      refine g_isub hC d_Whole_trim_16 ?_
      refine g_iald hC hW'.2 (by omega) (by omega) (by omega) d_Whole_trim_17 ?_
      rw [e]
      refine g_if_ne hC (by unfold I32; omega) d_Whole_trim_18 (fun c => ?_) (fun c => ?_)
      · refine g_vret hC hQ (by decide) (by decide) d_Whole_trim_34 ⟨rfl, k + 1, hn', hW', tpn_s c, hv, hf⟩
      · refine g_aload_n hC rfl d_Whole_trim_21 ?_
        refine g_dup hC rfl d_Whole_trim_22 ?_
        refine g_get hC fb_Whole_15 hW'.1 rfl d_Whole_trim_23 ?_
        refine g_iconst hC d_Whole_trim_26 ?_
        refine g_isub hC d_Whole_trim_27 ?_
        refine g_put hC fb_Whole_15 hW'.1 rfl rfl (Nat.le_of_ble_eq_true rfl) d_Whole_trim_28 ?_
        rw [e]
        refine g_goto hC d_Whole_trim_31 ?_
        exact ih k (by omega) _ hW'.sz (by omega) (by rw [← hv, vl_s, c]; omega) hf.o
