/-! Desk: its cells, reduce -/
def DK (K : KC) (M : AH) (d : Nat) (mi : Bool) (un : Int) : Prop := M.1 d = some (oO 2 [.ref (d + 1), .ref (d + 6), .ref (d + 8), .ref (d + 10), .ref (d + 12), .ref (d + 14)]) ∧ M.1 (d + 1) = some (oO 1 [.ref (d + 2), .ref (d + 4), iv (bz mi), iv un]) ∧
  wx K M (d + 2) 740 ∧ wx K M (d + 4) 740 ∧ wx K M (d + 6) 740 ∧ wx K M (d + 8) 740 ∧ wx K M (d + 10) 740 ∧ wx K M (d + 12) 740
section DKs
variable {K : KC} {M M' : AH} {d : Nat} {mi : Bool} {un : Int}
theorem DK.o (h : DK K M d mi un) : M.1 d = some (oO 2 [.ref (d + 1), .ref (d + 6), .ref (d + 8), .ref (d + 10), .ref (d + 12), .ref (d + 14)]) := h.1
theorem DK.m (h : DK K M d mi un) : M.1 (d + 1) = some (oO 1 [.ref (d + 2), .ref (d + 4), iv (bz mi), iv un]) := h.2.1
theorem DK.a (h : DK K M d mi un) : wx K M (d + 2) 740 := h.2.2.1
theorem DK.b (h : DK K M d mi un) : wx K M (d + 4) 740 := h.2.2.2.1
theorem DK.x (h : DK K M d mi un) : wx K M (d + 6) 740 := h.2.2.2.2.1
theorem DK.y (h : DK K M d mi un) : wx K M (d + 8) 740 := h.2.2.2.2.2.1
theorem DK.q (h : DK K M d mi un) : wx K M (d + 10) 740 := h.2.2.2.2.2.2.1
theorem DK.s (h : DK K M d mi un) : wx K M (d + 12) 740 := h.2.2.2.2.2.2.2
/-- nothing but what is between the Desk's made and its scaled has changed -/
def frM (M M' : AH) (d : Nat) : Prop := M'.2 = M.2 ∧ ∀ p, p ≤ d ∨ d + 14 ≤ p → M'.1 p = M.1 p
theorem frM.rf : frM M M d := ⟨rfl, fun _ _ => rfl⟩
theorem frM.trans {M1 : AH} (h1 : frM M M1 d) (h2 : frM M1 M' d) : frM M M' d := ⟨h2.1.trans h1.1, fun p a => (h2.2 p a).trans (h1.2 p a)⟩
/-- a place of a Whole within the Desk -/
def inD (o : Nat) : Prop := o = 2 ∨ o = 4 ∨ o = 6 ∨ o = 8 ∨ o = 10 ∨ o = 12
theorem DK.fw {o : Nat} (ho : inD o) (h : DK K M d mi un) (hf : frW M M' (d + o)) (hx : wx K M' (d + o) 740) : DK K M' d mi un := by
  obtain ⟨h1, h2, h3, h4, h5, h6, h7, h8⟩ := h
  rcases ho with rfl | rfl | rfl | rfl | rfl | rfl
  all_goals
    refine ⟨(hf.2 d (by omega) (by omega)).trans h1, (hf.2 (d + 1) (by omega) (by omega)).trans h2, ?_, ?_, ?_, ?_, ?_, ?_⟩
    all_goals first
      | exact hx
      | exact h3.fr hf (by omega) (by omega) (by omega)
      | exact h4.fr hf (by omega) (by omega) (by omega)
      | exact h5.fr hf (by omega) (by omega) (by omega)
      | exact h6.fr hf (by omega) (by omega) (by omega)
      | exact h7.fr hf (by omega) (by omega) (by omega)
      | exact h8.fr hf (by omega) (by omega) (by omega)
theorem frM.fw {o : Nat} {M1 : AH} (ho : inD o) (h : frM M M1 d) (hf : frW M1 M' (d + o)) : frM M M' d := by
  refine ⟨hf.1.trans h.1, fun p hp => (hf.2 p ?_ ?_).trans (h.2 p hp)⟩
  · rcases ho with rfl | rfl | rfl | rfl | rfl | rfl <;> omega
  · rcases ho with rfl | rfl | rfl | rfl | rfl | rfl <;> omega
theorem DK.sm {mi' : Bool} {un' : Int} (h : DK K M d mi un) : DK K (ups M (d + 1) (oO 1 [.ref (d + 2), .ref (d + 4), iv (bz mi'), iv un'])) d mi' un' := by
  obtain ⟨h1, h2, h3, h4, h5, h6, h7, h8⟩ := h
  exact ⟨(ups_n (by omega)).trans h1, ups_s, h3.eq (ups_n (by omega)) (ups_n (by omega)), h4.eq (ups_n (by omega)) (ups_n (by omega)), h5.eq (ups_n (by omega)) (ups_n (by omega)), h6.eq (ups_n (by omega)) (ups_n (by omega)), h7.eq (ups_n (by omega)) (ups_n (by omega)), h8.eq (ups_n (by omega)) (ups_n (by omega))⟩
theorem frM.sm {M1 : AH} {e : va_E} (h : frM M M1 d) : frM M (ups M1 (d + 1) e) d := ⟨h.1, fun p hp => (ups_n (by omega)).trans (h.2 p hp)⟩
theorem wv.sm {q cap v : Nat} {e : va_E} (h : wv K M q cap v) (h1 : q ≠ d + 1) (h2 : q + 1 ≠ d + 1) : wv K (ups M (d + 1) e) q cap v := h.eq (ups_n h1) (ups_n h2)
theorem i2 : inD 2 := Or.inl rfl
theorem i4 : inD 4 := Or.inr (Or.inl rfl)
theorem i6 : inD 6 := Or.inr (Or.inr (Or.inl rfl))
theorem i8 : inD 8 := Or.inr (Or.inr (Or.inr (Or.inl rfl)))
theorem i10 : inD 10 := Or.inr (Or.inr (Or.inr (Or.inr (Or.inl rfl))))
theorem i12 : inD 12 := Or.inr (Or.inr (Or.inr (Or.inr (Or.inr rfl))))
/-- a division within the Desk, into quotient and scaled -/
theorem DK.f3 {o : Nat} (ho : o = 2 ∨ o = 4 ∨ o = 6 ∨ o = 8) (h : DK K M d mi un) (hf : fr3 M M' (d + o) (d + 10) (d + 12)) (hx : wx K M' (d + o) 740) (hq : wx K M' (d + 10) 740) (hs : wx K M' (d + 12) 740) : DK K M' d mi un := by
  obtain ⟨h1, h2, h3, h4, h5, h6, h7, h8⟩ := h
  have e : ∀ p, p ≠ d + o → p ≠ d + o + 1 → p ≠ d + 10 → p ≠ d + 10 + 1 → p ≠ d + 12 → p ≠ d + 12 + 1 → M'.1 p = M.1 p := hf.2
  rcases ho with rfl | rfl | rfl | rfl
  all_goals
    refine ⟨(e d (by omega) (by omega) (by omega) (by omega) (by omega) (by omega)).trans h1, (e (d + 1) (by omega) (by omega) (by omega) (by omega) (by omega) (by omega)).trans h2, ?_, ?_, ?_, ?_, hq, hs⟩
    all_goals first
      | exact hx
      | exact h3.eq (e _ (by omega) (by omega) (by omega) (by omega) (by omega) (by omega)) (e _ (by omega) (by omega) (by omega) (by omega) (by omega) (by omega))
      | exact h4.eq (e _ (by omega) (by omega) (by omega) (by omega) (by omega) (by omega)) (e _ (by omega) (by omega) (by omega) (by omega) (by omega) (by omega))
      | exact h5.eq (e _ (by omega) (by omega) (by omega) (by omega) (by omega) (by omega)) (e _ (by omega) (by omega) (by omega) (by omega) (by omega) (by omega))
      | exact h6.eq (e _ (by omega) (by omega) (by omega) (by omega) (by omega) (by omega)) (e _ (by omega) (by omega) (by omega) (by omega) (by omega) (by omega))
theorem frM.f3 {o : Nat} {M1 : AH} (ho : o = 2 ∨ o = 4 ∨ o = 6 ∨ o = 8) (h : frM M M1 d) (hf : fr3 M1 M' (d + o) (d + 10) (d + 12)) : frM M M' d := by
  refine ⟨hf.1.trans h.1, fun p hp => (hf.2 p ?_ ?_ ?_ ?_ ?_ ?_).trans (h.2 p hp)⟩ <;> rcases ho with rfl | rfl | rfl | rfl <;> omega
theorem wv.f3 {q t cap v o : Nat} (h : wv K M q cap v) (hf : fr3 M M' (d + o) (d + 10) (d + 12)) (ht : q = d + t) (h1 : t + 1 < o ∨ o + 1 < t) (h2 : t + 1 < 10) : wv K M' q cap v := by
  subst ht
  exact h.eq (hf.2 _ (by omega) (by omega) (by omega) (by omega) (by omega) (by omega)) (hf.2 _ (by omega) (by omega) (by omega) (by omega) (by omega) (by omega))
/-- made is the fraction x -/
def mdx (K : KC) (M : AH) (d : Nat) (x : Rat) (un : Int) : Prop := ∃ (mi : Bool) (a b : Nat), DK K M d mi un ∧ wv K M (d + 2) 740 a ∧ wv K M (d + 4) 740 b ∧ isQ mi a b x
end DKs
theorem d_Desk_reduce_0 : dn m_Desk_reduce.2.1 0 (.aload_n 0) 1 1 := ⟨by decide +kernel, rfl⟩
theorem d_Desk_reduce_1 : dn m_Desk_reduce.2.1 1 (.getfield 14) 3 4 := ⟨by decide +kernel, rfl⟩
theorem d_Desk_reduce_4 : dn m_Desk_reduce.2.1 4 (.getfield 39) 3 7 := ⟨by decide +kernel, rfl⟩
theorem d_Desk_reduce_7 : dn m_Desk_reduce.2.1 7 (.invokevirtual 60) 3 10 := ⟨by decide +kernel, rfl⟩
theorem d_Desk_reduce_10 : db m_Desk_reduce.2.1 10 (.ifCond .eq) 25 13 := ⟨15, by decide +kernel, by decide, rfl⟩
theorem d_Desk_reduce_13 : dn m_Desk_reduce.2.1 13 (.aload_n 0) 1 14 := ⟨by decide +kernel, rfl⟩
theorem d_Desk_reduce_14 : dn m_Desk_reduce.2.1 14 (.getfield 14) 3 17 := ⟨by decide +kernel, rfl⟩
theorem d_Desk_reduce_17 : dn m_Desk_reduce.2.1 17 (.getfield 46) 3 20 := ⟨by decide +kernel, rfl⟩
theorem d_Desk_reduce_20 : dn m_Desk_reduce.2.1 20 (.lconst 1) 1 21 := ⟨by decide +kernel, rfl⟩
theorem d_Desk_reduce_21 : dn m_Desk_reduce.2.1 21 (.invokevirtual 42) 3 24 := ⟨by decide +kernel, rfl⟩
theorem d_Desk_reduce_24 : dn m_Desk_reduce.2.1 24 (.return_) 1 25 := ⟨by decide +kernel, rfl⟩
theorem d_Desk_reduce_25 : dn m_Desk_reduce.2.1 25 (.aload_n 0) 1 26 := ⟨by decide +kernel, rfl⟩
theorem d_Desk_reduce_26 : dn m_Desk_reduce.2.1 26 (.getfield 23) 3 29 := ⟨by decide +kernel, rfl⟩
theorem d_Desk_reduce_29 : dn m_Desk_reduce.2.1 29 (.aload_n 0) 1 30 := ⟨by decide +kernel, rfl⟩
theorem d_Desk_reduce_30 : dn m_Desk_reduce.2.1 30 (.getfield 14) 3 33 := ⟨by decide +kernel, rfl⟩
theorem d_Desk_reduce_33 : dn m_Desk_reduce.2.1 33 (.getfield 39) 3 36 := ⟨by decide +kernel, rfl⟩
theorem d_Desk_reduce_36 : dn m_Desk_reduce.2.1 36 (.invokevirtual 64) 3 39 := ⟨by decide +kernel, rfl⟩
theorem d_Desk_reduce_39 : dn m_Desk_reduce.2.1 39 (.aload_n 0) 1 40 := ⟨by decide +kernel, rfl⟩
theorem d_Desk_reduce_40 : dn m_Desk_reduce.2.1 40 (.getfield 27) 3 43 := ⟨by decide +kernel, rfl⟩
theorem d_Desk_reduce_43 : dn m_Desk_reduce.2.1 43 (.aload_n 0) 1 44 := ⟨by decide +kernel, rfl⟩
theorem d_Desk_reduce_44 : dn m_Desk_reduce.2.1 44 (.getfield 14) 3 47 := ⟨by decide +kernel, rfl⟩
theorem d_Desk_reduce_47 : dn m_Desk_reduce.2.1 47 (.getfield 46) 3 50 := ⟨by decide +kernel, rfl⟩
theorem d_Desk_reduce_50 : dn m_Desk_reduce.2.1 50 (.invokevirtual 64) 3 53 := ⟨by decide +kernel, rfl⟩
theorem d_Desk_reduce_53 : dn m_Desk_reduce.2.1 53 (.aload_n 0) 1 54 := ⟨by decide +kernel, rfl⟩
theorem d_Desk_reduce_54 : dn m_Desk_reduce.2.1 54 (.getfield 23) 3 57 := ⟨by decide +kernel, rfl⟩
theorem d_Desk_reduce_57 : dn m_Desk_reduce.2.1 57 (.astore_n 1) 1 58 := ⟨by decide +kernel, rfl⟩
theorem d_Desk_reduce_58 : dn m_Desk_reduce.2.1 58 (.aload_n 0) 1 59 := ⟨by decide +kernel, rfl⟩
theorem d_Desk_reduce_59 : dn m_Desk_reduce.2.1 59 (.getfield 27) 3 62 := ⟨by decide +kernel, rfl⟩
theorem d_Desk_reduce_62 : dn m_Desk_reduce.2.1 62 (.astore_n 2) 1 63 := ⟨by decide +kernel, rfl⟩
theorem d_Desk_reduce_63 : dn m_Desk_reduce.2.1 63 (.aload_n 2) 1 64 := ⟨by decide +kernel, rfl⟩
theorem d_Desk_reduce_64 : dn m_Desk_reduce.2.1 64 (.invokevirtual 60) 3 67 := ⟨by decide +kernel, rfl⟩
theorem d_Desk_reduce_67 : db m_Desk_reduce.2.1 67 (.ifCond .ne) 92 70 := ⟨25, by decide +kernel, by decide, rfl⟩
theorem d_Desk_reduce_70 : dn m_Desk_reduce.2.1 70 (.aload_n 1) 1 71 := ⟨by decide +kernel, rfl⟩
theorem d_Desk_reduce_71 : dn m_Desk_reduce.2.1 71 (.aload_n 2) 1 72 := ⟨by decide +kernel, rfl⟩
theorem d_Desk_reduce_72 : dn m_Desk_reduce.2.1 72 (.aload_n 0) 1 73 := ⟨by decide +kernel, rfl⟩
theorem d_Desk_reduce_73 : dn m_Desk_reduce.2.1 73 (.getfield 30) 3 76 := ⟨by decide +kernel, rfl⟩
theorem d_Desk_reduce_76 : dn m_Desk_reduce.2.1 76 (.aload_n 0) 1 77 := ⟨by decide +kernel, rfl⟩
theorem d_Desk_reduce_77 : dn m_Desk_reduce.2.1 77 (.getfield 33) 3 80 := ⟨by decide +kernel, rfl⟩
theorem d_Desk_reduce_80 : dn m_Desk_reduce.2.1 80 (.invokevirtual 68) 3 83 := ⟨by decide +kernel, rfl⟩
theorem d_Desk_reduce_83 : dn m_Desk_reduce.2.1 83 (.aload_n 1) 1 84 := ⟨by decide +kernel, rfl⟩
theorem d_Desk_reduce_84 : dn m_Desk_reduce.2.1 84 (.astore_n 3) 1 85 := ⟨by decide +kernel, rfl⟩
theorem d_Desk_reduce_85 : dn m_Desk_reduce.2.1 85 (.aload_n 2) 1 86 := ⟨by decide +kernel, rfl⟩
theorem d_Desk_reduce_86 : dn m_Desk_reduce.2.1 86 (.astore_n 1) 1 87 := ⟨by decide +kernel, rfl⟩
theorem d_Desk_reduce_87 : dn m_Desk_reduce.2.1 87 (.aload_n 3) 1 88 := ⟨by decide +kernel, rfl⟩
theorem d_Desk_reduce_88 : dn m_Desk_reduce.2.1 88 (.astore_n 2) 1 89 := ⟨by decide +kernel, rfl⟩
theorem d_Desk_reduce_89 : db m_Desk_reduce.2.1 89 (.goto) 63 92 := ⟨(-26), by decide +kernel, by decide, rfl⟩
theorem d_Desk_reduce_92 : dn m_Desk_reduce.2.1 92 (.aload_n 0) 1 93 := ⟨by decide +kernel, rfl⟩
theorem d_Desk_reduce_93 : dn m_Desk_reduce.2.1 93 (.getfield 14) 3 96 := ⟨by decide +kernel, rfl⟩
theorem d_Desk_reduce_96 : dn m_Desk_reduce.2.1 96 (.getfield 39) 3 99 := ⟨by decide +kernel, rfl⟩
theorem d_Desk_reduce_99 : dn m_Desk_reduce.2.1 99 (.aload_n 1) 1 100 := ⟨by decide +kernel, rfl⟩
theorem d_Desk_reduce_100 : dn m_Desk_reduce.2.1 100 (.aload_n 0) 1 101 := ⟨by decide +kernel, rfl⟩
theorem d_Desk_reduce_101 : dn m_Desk_reduce.2.1 101 (.getfield 30) 3 104 := ⟨by decide +kernel, rfl⟩
theorem d_Desk_reduce_104 : dn m_Desk_reduce.2.1 104 (.aload_n 0) 1 105 := ⟨by decide +kernel, rfl⟩
theorem d_Desk_reduce_105 : dn m_Desk_reduce.2.1 105 (.getfield 33) 3 108 := ⟨by decide +kernel, rfl⟩
theorem d_Desk_reduce_108 : dn m_Desk_reduce.2.1 108 (.invokevirtual 68) 3 111 := ⟨by decide +kernel, rfl⟩
theorem d_Desk_reduce_111 : dn m_Desk_reduce.2.1 111 (.aload_n 0) 1 112 := ⟨by decide +kernel, rfl⟩
theorem d_Desk_reduce_112 : dn m_Desk_reduce.2.1 112 (.getfield 14) 3 115 := ⟨by decide +kernel, rfl⟩
theorem d_Desk_reduce_115 : dn m_Desk_reduce.2.1 115 (.getfield 39) 3 118 := ⟨by decide +kernel, rfl⟩
theorem d_Desk_reduce_118 : dn m_Desk_reduce.2.1 118 (.aload_n 0) 1 119 := ⟨by decide +kernel, rfl⟩
theorem d_Desk_reduce_119 : dn m_Desk_reduce.2.1 119 (.getfield 30) 3 122 := ⟨by decide +kernel, rfl⟩
theorem d_Desk_reduce_122 : dn m_Desk_reduce.2.1 122 (.invokevirtual 64) 3 125 := ⟨by decide +kernel, rfl⟩
theorem d_Desk_reduce_125 : dn m_Desk_reduce.2.1 125 (.aload_n 0) 1 126 := ⟨by decide +kernel, rfl⟩
theorem d_Desk_reduce_126 : dn m_Desk_reduce.2.1 126 (.getfield 14) 3 129 := ⟨by decide +kernel, rfl⟩
theorem d_Desk_reduce_129 : dn m_Desk_reduce.2.1 129 (.getfield 46) 3 132 := ⟨by decide +kernel, rfl⟩
theorem d_Desk_reduce_132 : dn m_Desk_reduce.2.1 132 (.aload_n 1) 1 133 := ⟨by decide +kernel, rfl⟩
theorem d_Desk_reduce_133 : dn m_Desk_reduce.2.1 133 (.aload_n 0) 1 134 := ⟨by decide +kernel, rfl⟩
theorem d_Desk_reduce_134 : dn m_Desk_reduce.2.1 134 (.getfield 30) 3 137 := ⟨by decide +kernel, rfl⟩
theorem d_Desk_reduce_137 : dn m_Desk_reduce.2.1 137 (.aload_n 0) 1 138 := ⟨by decide +kernel, rfl⟩
theorem d_Desk_reduce_138 : dn m_Desk_reduce.2.1 138 (.getfield 33) 3 141 := ⟨by decide +kernel, rfl⟩
theorem d_Desk_reduce_141 : dn m_Desk_reduce.2.1 141 (.invokevirtual 68) 3 144 := ⟨by decide +kernel, rfl⟩
theorem d_Desk_reduce_144 : dn m_Desk_reduce.2.1 144 (.aload_n 0) 1 145 := ⟨by decide +kernel, rfl⟩
theorem d_Desk_reduce_145 : dn m_Desk_reduce.2.1 145 (.getfield 14) 3 148 := ⟨by decide +kernel, rfl⟩
theorem d_Desk_reduce_148 : dn m_Desk_reduce.2.1 148 (.getfield 46) 3 151 := ⟨by decide +kernel, rfl⟩
theorem d_Desk_reduce_151 : dn m_Desk_reduce.2.1 151 (.aload_n 0) 1 152 := ⟨by decide +kernel, rfl⟩
theorem d_Desk_reduce_152 : dn m_Desk_reduce.2.1 152 (.getfield 30) 3 155 := ⟨by decide +kernel, rfl⟩
theorem d_Desk_reduce_155 : dn m_Desk_reduce.2.1 155 (.invokevirtual 64) 3 158 := ⟨by decide +kernel, rfl⟩
theorem d_Desk_reduce_158 : dn m_Desk_reduce.2.1 158 (.return_) 1 159 := ⟨by decide +kernel, rfl⟩
theorem sp_Desk_reduce {l : Launch} {K : KC} {M : AH} {d a b i : Nat} {mi : Bool} {un : Int} (hD : DK K M d mi un) (hA : wv K M (d + 2) 740 a) (hB : wv K M (d + 4) 740 b) (hb0 : 0 < b) (ha : (a : Int) < pw i) (hb : (b : Int) < pw i) (hi : i ≤ 730) :
    Sp l K m_Desk_reduce 3 0 0 [.ref d] M (fun r M' => r = none ∧ mdx K M' d (mkRat (sg mi a) b) un ∧ frM M M' d) := by
  refine Sp.ofG R_Desk rfl (by decide) [some (.ref d), none, none, none] rfl (Nat.le_of_ble_eq_true rfl) ?_
  intro X hl hK hN hR hC hQ
  subst hl hK
  refine g_aload_n hC rfl d_Desk_reduce_0 ?_
  refine g_get hC fb_Desk_14 hD.o rfl d_Desk_reduce_1 ?_
  refine g_get hC fb_Desk_39 hD.m rfl d_Desk_reduce_4 ?_
  refine g_callV0 hC (sp_Whole_isNothing hA (by decide)) oc_Whole_isNothing ov_Whole_isNothing ml_Desk_60 hA.rc.choose_spec rfl hR (Nat.le_of_ble_eq_true rfl) (Nat.le_of_ble_eq_true rfl) (Nat.le_of_ble_eq_true rfl) (Nat.le_of_ble_eq_true rfl) (Nat.le_of_ble_eq_true rfl) d_Desk_reduce_7 (fun r M hp => ?_)
  obtain ⟨rfl, rfl⟩ := hp
  refine g_sv ?_
  refine g_if_eq hC (by unfold I32; split <;> omega) d_Desk_reduce_10 (fun c => ?_) (fun c => ?_)
  rotate_left
  · have ha0 : a = 0 := by
      by_cases h : a = 0
      · exact h
      · rw [if_neg h] at c; omega
    subst ha0
    refine g_aload_n hC rfl d_Desk_reduce_13 ?_
    refine g_get hC fb_Desk_14 hD.o rfl d_Desk_reduce_14 ?_
    refine g_get hC fb_Desk_46 hD.m rfl d_Desk_reduce_17 ?_
    refine g_lconst (z := 1) hC (by decide) d_Desk_reduce_20 ?_
    refine g_callV1 hC (sp_Whole_set hD.b (by unfold I64; omega) (by decide) (by decide)) oc_Whole_set ov_Whole_set ml_Desk_42 hD.b.rc.choose_spec rfl hR (Nat.le_of_ble_eq_true rfl) (Nat.le_of_ble_eq_true rfl) (Nat.le_of_ble_eq_true rfl) (Nat.le_of_ble_eq_true rfl) (Nat.le_of_ble_eq_true rfl) d_Desk_reduce_21 (fun r M1 hp => ?_)
    obtain ⟨rfl, hB1, f1⟩ := hp
    refine g_s0 ?_
    refine g_vret hC hQ (by decide) (by decide) d_Desk_reduce_24 ⟨rfl, ⟨mi, 0, 1, hD.fw i4 f1 hB1.tox, hA.fr f1 (by omega) (by omega) (by omega), hB1, by rw [sg_0, Rat.zero_mkRat]; exact isQ_0⟩, (frM.rf).fw i4 f1⟩
  have ha0 : a ≠ 0 := fun h => by rw [if_pos h] at c; omega
  clear c
  have h730 := fun {v : Nat} (h : (v : Int) < pw i) => Int.lt_of_lt_of_le h (pow_le (show i ≤ 740 by omega))
  refine g_aload_n hC rfl d_Desk_reduce_25 ?_
  refine g_get hC fb_Desk_23 hD.o rfl d_Desk_reduce_26 ?_
  refine g_aload_n hC rfl d_Desk_reduce_29 ?_
  refine g_get hC fb_Desk_14 hD.o rfl d_Desk_reduce_30 ?_
  refine g_get hC fb_Desk_39 hD.m rfl d_Desk_reduce_33 ?_
  refine g_callV1 hC (sp_Whole_copy hD.x hA (h730 ha) (by omega) (by decide) (by decide)) oc_Whole_copy ov_Whole_copy ml_Desk_64 hD.x.rc.choose_spec rfl hR (Nat.le_of_ble_eq_true rfl) (Nat.le_of_ble_eq_true rfl) (Nat.le_of_ble_eq_true rfl) (Nat.le_of_ble_eq_true rfl) (Nat.le_of_ble_eq_true rfl) d_Desk_reduce_36 (fun r M1 hp => ?_)
  obtain ⟨rfl, hX1, f1⟩ := hp
  refine g_s0 ?_
  have D1 := hD.fw i6 f1 hX1.tox
  have F1 := (frM.rf).fw i6 f1
  have hA1 := hA.fr f1 (by omega) (by omega) (by omega)
  have hB1 := hB.fr f1 (by omega) (by omega) (by omega)
  clear f1
  refine g_aload_n hC rfl d_Desk_reduce_39 ?_
  refine g_get hC fb_Desk_27 D1.o rfl d_Desk_reduce_40 ?_
  refine g_aload_n hC rfl d_Desk_reduce_43 ?_
  refine g_get hC fb_Desk_14 D1.o rfl d_Desk_reduce_44 ?_
  refine g_get hC fb_Desk_46 D1.m rfl d_Desk_reduce_47 ?_
  refine g_callV1 hC (sp_Whole_copy D1.y hB1 (h730 hb) (by omega) (by decide) (by decide)) oc_Whole_copy ov_Whole_copy ml_Desk_64 D1.y.rc.choose_spec rfl hR (Nat.le_of_ble_eq_true rfl) (Nat.le_of_ble_eq_true rfl) (Nat.le_of_ble_eq_true rfl) (Nat.le_of_ble_eq_true rfl) (Nat.le_of_ble_eq_true rfl) d_Desk_reduce_50 (fun r M2 hp => ?_)
  obtain ⟨rfl, hY2, f2⟩ := hp
  refine g_s0 ?_
  have D2 := D1.fw i8 f2 hY2.tox
  have F2 := F1.fw i8 f2
  have hX2 := hX1.fr f2 (by omega) (by omega) (by omega)
  have hA2 := hA1.fr f2 (by omega) (by omega) (by omega)
  have hB2 := hB1.fr f2 (by omega) (by omega) (by omega)
  clear f2 D1 F1 hX1 hA1 hB1 hD hA hB
  refine g_aload_n hC rfl d_Desk_reduce_53 ?_
  refine g_get hC fb_Desk_23 D2.o rfl d_Desk_reduce_54 ?_
  first | refine g_ast1 hC d_Desk_reduce_57 rfl (hN 1 rfl) ?_ | (refine g_fg0 ?_; refine g_ast1 hC d_Desk_reduce_57 rfl (hN 1 rfl) ?_)
  refine g_aload_n hC rfl d_Desk_reduce_58 ?_
  refine g_get hC fb_Desk_27 D2.o rfl d_Desk_reduce_59 ?_
  first | refine g_ast2 hC d_Desk_reduce_62 rfl (hN 2 rfl) ?_ | (refine g_fg1 ?_; refine g_ast2 hC d_Desk_reduce_62 rfl (hN 2 rfl) ?_)
  have key : ∀ (w : Nat) (M' : AH) (u o1 o2 : Nat) (v3 : Option Value), (o1 = 6 ∧ o2 = 8 ∨ o1 = 8 ∧ o2 = 6) → DK X.K M' d mi un → wv X.K M' (d + o1) 740 u → wv X.K M' (d + o2) 740 w → (u : Int) < pw i → (w : Int) < pw i → u.gcd w = a.gcd b → wv X.K M' (d + 2) 740 a → wv X.K M' (d + 4) 740 b → frM M M' d → G X 0 0 M' 63 [some (.ref d), some (.ref (d + o1)), some (.ref (d + o2)), none] [] := by
    intro w
    induction w using Nat.strongRecOn with
    | ind w ih =>
      intro M' u o1 o2 v3 ho D3 hU hW hu hw hg hA3 hB3 F3
      refine g_aload_n hC rfl d_Desk_reduce_63 ?_
      refine g_callV0 hC (sp_Whole_isNothing hW (by decide)) oc_Whole_isNothing ov_Whole_isNothing ml_Desk_60 hW.rc.choose_spec rfl hR (Nat.le_of_ble_eq_true rfl) (Nat.le_of_ble_eq_true rfl) (Nat.le_of_ble_eq_true rfl) (Nat.le_of_ble_eq_true rfl) (Nat.le_of_ble_eq_true rfl) d_Desk_reduce_64 (fun r M' hp => ?_)
      obtain ⟨rfl, rfl⟩ := hp
      refine g_sv ?_
      refine g_if_ne hC (by unfold I32; split <;> omega) d_Desk_reduce_67 (fun c => ?_) (fun c => ?_)
      · have hw0 : w = 0 := by
          by_cases h : w = 0
          · exact h
          · rw [if_neg h] at c; omega
        subst hw0
        rw [Nat.gcd_zero_right] at hg
        subst hg
        have hg0 : 0 < a.gcd b := Nat.gcd_pos_of_pos_right a hb0
        have o1x : o1 = 6 ∨ o1 = 8 := by omega
        -- above
        refine g_aload_n hC rfl d_Desk_reduce_92 ?_
        refine g_get hC fb_Desk_14 D3.o rfl d_Desk_reduce_93 ?_
        refine g_get hC fb_Desk_39 D3.m rfl d_Desk_reduce_96 ?_
        refine g_aload_n hC rfl d_Desk_reduce_99 ?_
        refine g_aload_n hC rfl d_Desk_reduce_100 ?_
        refine g_get hC fb_Desk_30 D3.o rfl d_Desk_reduce_101 ?_
        refine g_aload_n hC rfl d_Desk_reduce_104 ?_
        refine g_get hC fb_Desk_33 D3.o rfl d_Desk_reduce_105 ?_
        refine g_callV3 hC (sp_Whole_divide (i := i) hA3 hU D3.q D3.s (by omega) (by omega) (by omega) (by omega) (by omega) (by omega) hg0 ha (by omega) (by omega) (by omega) (by decide) (by decide) (by decide) (by decide)) oc_Whole_divide ov_Whole_divide ml_Desk_68 hA3.rc.choose_spec rfl hR (Nat.le_of_ble_eq_true rfl) (Nat.le_of_ble_eq_true rfl) (Nat.le_of_ble_eq_true rfl) (Nat.le_of_ble_eq_true rfl) (Nat.le_of_ble_eq_true rfl) d_Desk_reduce_108 (fun r M4 hp => ?_)
        obtain ⟨rfl, hA4, hQ4, hS4, f4⟩ := hp
        refine g_s0 ?_
        have D4 := D3.f3 (Or.inl rfl) f4 hA4.tox hQ4.tox hS4
        have F4 := F3.f3 (Or.inl rfl) f4
        have hU4 : wv X.K M4 (d + o1) 740 (a.gcd b) := hU.f3 (t := o1) f4 rfl (by omega) (by omega)
        have hB4 := hB3.f3 (t := 4) f4 rfl (by omega) (by omega)
        have hqa : ((a / a.gcd b : Nat) : Int) < pw i := by have := Nat.div_le_self a (a.gcd b); omega
        have hqb : ((b / a.gcd b : Nat) : Int) < pw i := by have := Nat.div_le_self b (a.gcd b); omega
        refine g_aload_n hC rfl d_Desk_reduce_111 ?_
        refine g_get hC fb_Desk_14 D4.o rfl d_Desk_reduce_112 ?_
        refine g_get hC fb_Desk_39 D4.m rfl d_Desk_reduce_115 ?_
        refine g_aload_n hC rfl d_Desk_reduce_118 ?_
        refine g_get hC fb_Desk_30 D4.o rfl d_Desk_reduce_119 ?_
        refine g_callV1 hC (sp_Whole_copy D4.a hQ4 (h730 hqa) (by omega) (by decide) (by decide)) oc_Whole_copy ov_Whole_copy ml_Desk_64 D4.a.rc.choose_spec rfl hR (Nat.le_of_ble_eq_true rfl) (Nat.le_of_ble_eq_true rfl) (Nat.le_of_ble_eq_true rfl) (Nat.le_of_ble_eq_true rfl) (Nat.le_of_ble_eq_true rfl) d_Desk_reduce_122 (fun r M5 hp => ?_)
        obtain ⟨rfl, hA5, f5⟩ := hp
        refine g_s0 ?_
        have D5 := D4.fw i2 f5 hA5.tox
        have F5 := F4.fw i2 f5
        have hU5 := hU4.fr f5 (by omega) (by omega) (by omega)
        have hB5 := hB4.fr f5 (by omega) (by omega) (by omega)
        refine g_aload_n hC rfl d_Desk_reduce_125 ?_
        refine g_get hC fb_Desk_14 D5.o rfl d_Desk_reduce_126 ?_
        refine g_get hC fb_Desk_46 D5.m rfl d_Desk_reduce_129 ?_
        refine g_aload_n hC rfl d_Desk_reduce_132 ?_
        refine g_aload_n hC rfl d_Desk_reduce_133 ?_
        refine g_get hC fb_Desk_30 D5.o rfl d_Desk_reduce_134 ?_
        refine g_aload_n hC rfl d_Desk_reduce_137 ?_
        refine g_get hC fb_Desk_33 D5.o rfl d_Desk_reduce_138 ?_
        refine g_callV3 hC (sp_Whole_divide (i := i) hB5 hU5 D5.q D5.s (by omega) (by omega) (by omega) (by omega) (by omega) (by omega) hg0 hb (by omega) (by omega) (by omega) (by decide) (by decide) (by decide) (by decide)) oc_Whole_divide ov_Whole_divide ml_Desk_68 hB5.rc.choose_spec rfl hR (Nat.le_of_ble_eq_true rfl) (Nat.le_of_ble_eq_true rfl) (Nat.le_of_ble_eq_true rfl) (Nat.le_of_ble_eq_true rfl) (Nat.le_of_ble_eq_true rfl) d_Desk_reduce_141 (fun r M6 hp => ?_)
        obtain ⟨rfl, hB6, hQ6, hS6, f6⟩ := hp
        refine g_s0 ?_
        have D6 := D5.f3 (Or.inr (Or.inl rfl)) f6 hB6.tox hQ6.tox hS6
        have F6 := F5.f3 (Or.inr (Or.inl rfl)) f6
        have hA6 := hA5.f3 (t := 2) f6 rfl (by omega) (by omega)
        refine g_aload_n hC rfl d_Desk_reduce_144 ?_
        refine g_get hC fb_Desk_14 D6.o rfl d_Desk_reduce_145 ?_
        refine g_get hC fb_Desk_46 D6.m rfl d_Desk_reduce_148 ?_
        refine g_aload_n hC rfl d_Desk_reduce_151 ?_
        refine g_get hC fb_Desk_30 D6.o rfl d_Desk_reduce_152 ?_
        refine g_callV1 hC (sp_Whole_copy D6.b hQ6 (h730 hqb) (by omega) (by decide) (by decide)) oc_Whole_copy ov_Whole_copy ml_Desk_64 D6.b.rc.choose_spec rfl hR (Nat.le_of_ble_eq_true rfl) (Nat.le_of_ble_eq_true rfl) (Nat.le_of_ble_eq_true rfl) (Nat.le_of_ble_eq_true rfl) (Nat.le_of_ble_eq_true rfl) d_Desk_reduce_155 (fun r M7 hp => ?_)
        obtain ⟨rfl, hB7, f7⟩ := hp
        refine g_s0 ?_
        refine g_vret hC hQ (by decide) (by decide) d_Desk_reduce_158 ⟨rfl, ⟨mi, _, _, D6.fw i4 f7 hB7.tox, hA6.fr f7 (by omega) (by omega) (by omega), hB7, isQ_mk hb0⟩, F6.fw i4 f7⟩
      · have hw0 : w ≠ 0 := fun h => by rw [if_pos h] at c; omega
        refine g_aload_n hC rfl d_Desk_reduce_70 ?_
        refine g_aload_n hC rfl d_Desk_reduce_71 ?_
        refine g_aload_n hC rfl d_Desk_reduce_72 ?_
        refine g_get hC fb_Desk_30 D3.o rfl d_Desk_reduce_73 ?_
        refine g_aload_n hC rfl d_Desk_reduce_76 ?_
        refine g_get hC fb_Desk_33 D3.o rfl d_Desk_reduce_77 ?_
        refine g_callV3 hC (sp_Whole_divide (i := i) hU hW D3.q D3.s (by omega) (by omega) (by omega) (by omega) (by omega) (by omega) (by omega) hu (by omega) (by omega) (by omega) (by decide) (by decide) (by decide) (by decide)) oc_Whole_divide ov_Whole_divide ml_Desk_68 hU.rc.choose_spec rfl hR (Nat.le_of_ble_eq_true rfl) (Nat.le_of_ble_eq_true rfl) (Nat.le_of_ble_eq_true rfl) (Nat.le_of_ble_eq_true rfl) (Nat.le_of_ble_eq_true rfl) d_Desk_reduce_80 (fun r M4 hp => ?_)
        obtain ⟨rfl, hU4, hQ4, hS4, f4⟩ := hp
        refine g_s0 ?_
        have D4 : DK X.K M4 d mi un := by
          rcases ho with ⟨rfl, rfl⟩ | ⟨rfl, rfl⟩
          · exact D3.f3 (Or.inr (Or.inr (Or.inl rfl))) f4 hU4.tox hQ4.tox hS4
          · exact D3.f3 (Or.inr (Or.inr (Or.inr rfl))) f4 hU4.tox hQ4.tox hS4
        have F4 : frM M M4 d := F3.f3 (by omega) f4
        have hml := Nat.mod_lt u (show w > 0 by omega)
        refine g_aload_n hC rfl d_Desk_reduce_83 ?_
        first | refine g_ast3 hC d_Desk_reduce_84 rfl (hN 3 rfl) ?_ | (refine g_fg2 ?_; refine g_ast3 hC d_Desk_reduce_84 rfl (hN 3 rfl) ?_)
        refine g_aload_n hC rfl d_Desk_reduce_85 ?_
        first | refine g_ast1 hC d_Desk_reduce_86 rfl (hN 1 rfl) ?_ | (refine g_fg0 ?_; refine g_ast1 hC d_Desk_reduce_86 rfl (hN 1 rfl) ?_)
        refine g_aload_n hC rfl d_Desk_reduce_87 ?_
        first | refine g_ast2 hC d_Desk_reduce_88 rfl (hN 2 rfl) ?_ | (refine g_fg1 ?_; refine g_ast2 hC d_Desk_reduce_88 rfl (hN 2 rfl) ?_)
        refine g_goto hC d_Desk_reduce_89 ?_
        refine g_fg3 ?_
        refine ih (u % w) hml M4 w o2 o1 none (by omega) D4 (hW.f3 (t := o2) f4 rfl (by omega) (by omega)) hU4 hw (by omega) ?_ (hA3.f3 (t := 2) f4 rfl (by omega) (by omega)) (hB3.f3 (t := 4) f4 rfl (by omega) (by omega)) F4
        rw [← hg, Nat.gcd_comm u w, Nat.gcd_rec w u, Nat.gcd_comm]
  exact key b M2 a 6 8 none (Or.inl ⟨rfl, rfl⟩) D2 hX2 hY2 ha hb rfl hA2 hB2 F2
