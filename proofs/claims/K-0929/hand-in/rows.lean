section
/-- the two objects hold the same level of decision, the same counts, the same levels and the same seen flags -/
def i_Rel (_ : Nat) (u : SX) (v : SY) : Prop := v = (u.1, u.2.1, u.2.2.1, u.2.2.2.2, u.2.2.2.1)
theorem i_up {k : Nat} {u : SX} {v : SY} (h : i_Rel k u v) : i_Rel (k + 3) u v := h
theorem uc_ns (z : Int32) : narrow .short (.int z.toInt16.toInt32) = .int z.toInt16.toInt32 := congrArg Value.int (by simp)
theorem uc_fs (r : Int32) : fits .short (.int r.toInt16.toInt32) = true := by
  have ⟨a, b⟩ := lg_i2s_range r
  have h1 : (-32768 : Int32).toInt = -32768 := by decide
  have h2 : (32767 : Int32).toInt = 32767 := by decide
  simp only [fits, Bool.and_eq_true, decide_eq_true_eq, Int32.le_iff_toInt_le, h1, h2]
  omega
/-- a number that is neither below 0 nor above 7 is an index of eight cells -/
theorem uc_in {x : Int32} (h0 : ¬ x < 0) (h7 : x ≤ 7) : vp_in x 8 := by
  have e0 : (0 : Int32).toInt = 0 := by decide
  have e7 : (7 : Int32).toInt = 7 := by decide
  rw [Int32.lt_iff_toInt_lt, e0] at h0
  rw [Int32.le_iff_toInt_le, e7] at h7
  rw [vp_in_iff]
  omega
theorem i_vc0 (k0 : Int32) : wpX_init (fun u => wpY_init (fun v => i_Rel 1 u v) k0) k0 :=
  And.intro (uc_ns k0) (And.intro (uc_fs k0) (And.intro (uc_ns k0) (And.intro (uc_fs k0) rfl)))
theorem i_vc_setLevel {k : Nat} {u : SX} {v : SY} (I : i_Rel k u v) (hk : k + 3 ≤ 1537) (v1 : Int32) (v2 : Int32) : wpX_setLevel (fun r u' => wpY_setLevel (fun r' v' => r' = r ∧ i_Rel (k + 3) u' v') v v1 v2) u v1 v2 := by
  obtain ⟨c, p, l, lv, sn⟩ := u
  cases I
  by_cases h0 : v1 < 0
  · exact br_t h0 (br_t h0 ⟨rfl, rfl⟩)
  · by_cases h7 : v1 ≤ 7
    · have hi := uc_in h0 h7
      by_cases z : sn v1.toNatClampNeg = 0
      · exact br_f h0 (br_t h7 ⟨hi, br_t z ⟨hi, nm_e (br_f h0 (br_t h7 ⟨hi, br_t z ⟨hi, nm_e ⟨rfl, rfl⟩⟩⟩))⟩⟩)
      · exact br_f h0 (br_t h7 ⟨hi, br_f z (br_f h0 (br_t h7 ⟨hi, br_f z ⟨rfl, rfl⟩⟩))⟩)
    · exact br_f h0 (br_f h7 (br_f h0 (br_f h7 ⟨rfl, rfl⟩)))
theorem i_vc_visit {k : Nat} {u : SX} {v : SY} (I : i_Rel k u v) (hk : k + 3 ≤ 1537) (v1 : Int32) : wpX_visit (fun r u' => wpY_visit (fun r' v' => r' = r ∧ i_Rel (k + 3) u' v') v v1) u v1 := by
  obtain ⟨c, p, l, lv, sn⟩ := u
  cases I
  by_cases h0 : v1 < 0
  · exact br_t h0 (br_t h0 ⟨rfl, rfl⟩)
  · by_cases h7 : v1 ≤ 7
    · have hi := uc_in h0 h7
      by_cases z : sn v1.toNatClampNeg = 0
      · by_cases g : 0 < lv v1.toNatClampNeg
        · by_cases b : lv v1.toNatClampNeg < c
          · exact br_f h0 (br_t h7 ⟨hi, br_t z ⟨hi, br_t g ⟨hi, nm_e ⟨hi, br_t b (nm_e (br_f h0 (br_t h7 ⟨hi, br_t z ⟨hi, br_t g ⟨hi, nm_e ⟨hi, br_t b (nm_e ⟨rfl, rfl⟩)⟩⟩⟩⟩)))⟩⟩⟩⟩)
          · exact br_f h0 (br_t h7 ⟨hi, br_t z ⟨hi, br_t g ⟨hi, nm_e ⟨hi, br_f b (nm_e (br_f h0 (br_t h7 ⟨hi, br_t z ⟨hi, br_t g ⟨hi, nm_e ⟨hi, br_f b (nm_e ⟨rfl, rfl⟩)⟩⟩⟩⟩)))⟩⟩⟩⟩)
        · exact br_f h0 (br_t h7 ⟨hi, br_t z ⟨hi, br_f g (br_f h0 (br_t h7 ⟨hi, br_t z ⟨hi, br_f g ⟨rfl, rfl⟩⟩⟩))⟩⟩)
      · exact br_f h0 (br_t h7 ⟨hi, br_f z (br_f h0 (br_t h7 ⟨hi, br_f z ⟨rfl, rfl⟩⟩))⟩)
    · exact br_f h0 (br_f h7 (br_f h0 (br_f h7 ⟨rfl, rfl⟩)))
theorem i_vc_resolveOn {k : Nat} {u : SX} {v : SY} (I : i_Rel k u v) (hk : k + 3 ≤ 1537) (v1 : Int32) : wpX_resolveOn (fun r u' => wpY_resolveOn (fun r' v' => r' = r ∧ i_Rel (k + 3) u' v') v v1) u v1 := by
  obtain ⟨c, p, l, lv, sn⟩ := u
  cases I
  by_cases h0 : v1 < 0
  · exact br_t h0 (br_t h0 ⟨rfl, rfl⟩)
  · by_cases h7 : v1 ≤ 7
    · have hi := uc_in h0 h7
      by_cases z : sn v1.toNatClampNeg = 0
      · exact br_f h0 (br_t h7 ⟨hi, br_t z (br_f h0 (br_t h7 ⟨hi, br_t z ⟨rfl, rfl⟩⟩))⟩)
      · by_cases b : c ≤ lv v1.toNatClampNeg
        · exact br_f h0 (br_t h7 ⟨hi, br_f z ⟨hi, br_t b ⟨hi, nm_e (nm_e (br_f h0 (br_t h7 ⟨hi, br_f z ⟨hi, br_t b ⟨hi, nm_e (nm_e ⟨rfl, rfl⟩)⟩⟩⟩)))⟩⟩⟩)
        · exact br_f h0 (br_t h7 ⟨hi, br_f z ⟨hi, br_f b (br_f h0 (br_t h7 ⟨hi, br_f z ⟨hi, br_f b ⟨rfl, rfl⟩⟩⟩))⟩⟩)
    · exact br_f h0 (br_f h7 (br_f h0 (br_f h7 ⟨rfl, rfl⟩)))
theorem i_vc_atUip {k : Nat} {u : SX} {v : SY} (I : i_Rel k u v) (hk : k + 3 ≤ 1537) : wpX_atUip (fun r => wpY_atUip (fun r' => r' = r ∧ i_Rel (k + 3) u v) v) u := by
  obtain ⟨c, p, l, lv, sn⟩ := u
  cases I
  by_cases h : p = 1
  · exact br_t h (br_t h ⟨rfl, rfl⟩)
  · exact br_f h (br_f h ⟨rfl, rfl⟩)
end
