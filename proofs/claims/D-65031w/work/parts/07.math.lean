/-! numbers in limbs of nine digits -/
def pw (n : Nat) : Int := 1000000000 ^ n
def vl (f : Int → Int) : Nat → Int
  | 0 => 0
  | n + 1 => vl f n + f (n : Int) * pw n
def dg (f : Int → Int) (n : Nat) : Prop := ∀ k : Nat, k < n → 0 ≤ f (k : Int) ∧ f (k : Int) < 1000000000
def tpn (f : Int → Int) (n : Nat) : Prop := ∀ k : Nat, n = k + 1 → f (k : Int) ≠ 0
/-- n limbs of f are the number v, in lowest form -/
def rep (f : Int → Int) (n : Nat) (v : Nat) : Prop := dg f n ∧ tpn f n ∧ vl f n = (v : Int)
theorem vl_0 (f : Int → Int) : vl f 0 = 0 := rfl
theorem vl_s (f : Int → Int) (n : Nat) : vl f (n + 1) = vl f n + f (n : Int) * pw n := rfl
theorem pw_0 : pw 0 = 1 := rfl
theorem pw_pos (n : Nat) : 0 < pw n := Int.pow_pos (by decide)
theorem pw_s (n : Nat) : pw (n + 1) = 1000000000 * pw n := by unfold pw; rw [Int.pow_succ, Int.mul_comm]
theorem pw_add (a b : Nat) : pw (a + b) = pw a * pw b := Int.pow_add _ a b
theorem vl_congr {f g : Int → Int} : ∀ {n : Nat}, (∀ k : Nat, k < n → f (k : Int) = g (k : Int)) → vl f n = vl g n
  | 0, _ => rfl
  | n + 1, h => by rw [vl_s, vl_s, vl_congr (fun k hk => h k (by omega)), h n (by omega)]
theorem dg_le {f : Int → Int} {m n : Nat} (h : dg f n) (hm : m ≤ n) : dg f m := fun k hk => h k (by omega)
theorem dg_congr {f g : Int → Int} {n : Nat} (hd : dg f n) (h : ∀ k : Nat, k < n → g (k : Int) = f (k : Int)) : dg g n := fun k hk => by rw [h k hk]; exact hd k hk
theorem vl_nonneg {f : Int → Int} : ∀ {n : Nat}, dg f n → 0 ≤ vl f n
  | 0, _ => Int.le_refl 0
  | n + 1, h => by
    rw [vl_s]
    have h1 := vl_nonneg (dg_le h (Nat.le_succ n))
    have h2 := Int.mul_nonneg (h n (by omega)).1 (Int.le_of_lt (pw_pos n))
    omega
theorem vl_lt {f : Int → Int} : ∀ {n : Nat}, dg f n → vl f n < pw n
  | 0, _ => by rw [vl_0, pw_0]; decide
  | n + 1, h => by
    rw [vl_s, pw_s]
    have h1 := vl_lt (dg_le h (Nat.le_succ n))
    have h2 : f (n : Int) * pw n ≤ (1000000000 - 1) * pw n := Int.mul_le_mul_of_nonneg_right (by have := (h n (by omega)).2; omega) (Int.le_of_lt (pw_pos n))
    rw [Int.sub_mul] at h2
    omega
theorem vl_ge {f : Int → Int} {n : Nat} (h : dg f (n + 1)) (ht : f (n : Int) ≠ 0) : pw n ≤ vl f (n + 1) := by
  rw [vl_s]
  have h1 := vl_nonneg (dg_le h (Nat.le_succ n))
  have h2 := (h n (by omega)).1
  have h3 : 1 * pw n ≤ f (n : Int) * pw n := Int.mul_le_mul_of_nonneg_right (by omega) (Int.le_of_lt (pw_pos n))
  omega
theorem pow_le {a b : Nat} (h : a ≤ b) : pw a ≤ pw b := by
  induction h with
  | refl => exact Int.le_refl _
  | step h ih =>
    rw [pw_s]
    have := pw_pos a
    rename_i m
    have := pw_pos m
    omega
theorem pow_lt_of {a b : Nat} (h : pw a < pw b) : a < b := by
  rcases Nat.lt_or_ge a b with q | q
  · exact q
  · exact absurd h (Int.not_lt.mpr (pow_le q))
/-- the number of limbs is the number's own -/
theorem rep_size {f g : Int → Int} {m n v : Nat} (hf : rep f m v) (hg : rep g n v) : m = n := by
  obtain ⟨f1, f2, f3⟩ := hf
  obtain ⟨g1, g2, g3⟩ := hg
  have a1 := vl_lt f1
  have b1 := vl_lt g1
  rcases Nat.lt_trichotomy m n with h | h | h
  · obtain ⟨k, rfl⟩ : ∃ k, n = k + 1 := ⟨n - 1, by omega⟩
    have := vl_ge g1 (g2 k rfl)
    have := pow_le (show m ≤ k by omega)
    omega
  · exact h
  · obtain ⟨k, rfl⟩ : ∃ k, m = k + 1 := ⟨m - 1, by omega⟩
    have := vl_ge f1 (f2 k rfl)
    have := pow_le (show n ≤ k by omega)
    omega
theorem vl_inj {f g : Int → Int} : ∀ {n : Nat}, dg f n → dg g n → vl f n = vl g n → ∀ k : Nat, k < n → f (k : Int) = g (k : Int)
  | 0, _, _, _, k, hk => absurd hk (Nat.not_lt_zero k)
  | n + 1, hf, hg, h, k, hk => by
    have hf' := dg_le hf (Nat.le_succ n)
    have hg' := dg_le hg (Nat.le_succ n)
    rw [vl_s, vl_s] at h
    have a1 := vl_lt hf'
    have a2 := vl_nonneg hf'
    have b1 := vl_lt hg'
    have b2 := vl_nonneg hg'
    have hp := pw_pos n
    have he : f (n : Int) = g (n : Int) := by
      rcases Int.lt_trichotomy (f (n : Int)) (g (n : Int)) with q | q | q
      · have h3 : (f (n : Int) + 1) * pw n ≤ g (n : Int) * pw n := Int.mul_le_mul_of_nonneg_right (by omega) (Int.le_of_lt hp)
        rw [Int.add_mul] at h3
        omega
      · exact q
      · have h3 : (g (n : Int) + 1) * pw n ≤ f (n : Int) * pw n := Int.mul_le_mul_of_nonneg_right (by omega) (Int.le_of_lt hp)
        rw [Int.add_mul] at h3
        omega
    by_cases hkn : k = n
    · subst hkn; exact he
    · rw [he] at h
      exact vl_inj hf' hg' (by omega) k (by omega)
theorem rep_inj {f g : Int → Int} {m n v : Nat} (hf : rep f m v) (hg : rep g n v) : m = n ∧ ∀ k : Nat, k < n → f (k : Int) = g (k : Int) := by
  have h := rep_size hf hg
  subst h
  exact ⟨rfl, vl_inj hf.1 hg.1 (hf.2.2.trans hg.2.2.symm)⟩
theorem rep_0 {f : Int → Int} {n v : Nat} (h : rep f n v) : n = 0 ↔ v = 0 := by
  obtain ⟨h1, h2, h3⟩ := h
  constructor
  · intro q; subst q; rw [vl_0] at h3; omega
  · intro q
    cases n with
    | zero => rfl
    | succ k =>
      have := vl_ge h1 (h2 k rfl)
      have := pw_pos k
      omega
/-- sizes bound values and back -/
theorem rep_lt {f : Int → Int} {n v : Nat} (h : rep f n v) : (v : Int) < pw n := by have := vl_lt h.1; rw [h.2.2] at this; exact this
theorem rep_le {f : Int → Int} {n v c : Nat} (h : rep f n v) (hv : (v : Int) < pw c) : n ≤ c := by
  cases n with
  | zero => omega
  | succ k =>
    have h1 := vl_ge h.1 (h.2.1 k rfl)
    rw [h.2.2] at h1
    have := pow_lt_of (Int.lt_of_le_of_lt h1 hv)
    omega
theorem vl_up {f : Int → Int} {i x : Int} {n : Nat} (h : (n : Int) ≤ i) : vl (up f i x) n = vl f n := vl_congr (fun k hk => up_n (by omega))
theorem vl_add (f : Int → Int) (a : Nat) : ∀ b : Nat, vl f (a + b) = vl f a + vl (fun k => f ((a : Int) + k)) b * pw a
  | 0 => by rw [vl_0, Nat.add_zero]; omega
  | b + 1 => by
    rw [← Nat.add_assoc, vl_s, vl_add f a b, vl_s, Int.add_mul, Int.mul_assoc, ← pw_add, Nat.add_comm b a, ← Int.add_assoc]
    congr 3
