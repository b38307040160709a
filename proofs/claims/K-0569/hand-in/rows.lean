section
/-- a row's number, a column's number and the flat cell's number lie within their arrays -/
theorem mt_ix {p q : Int32} (h0 : ¬ p < 0) (h2 : ¬ 2 < p) (h1 : ¬ q < 0) (h3 : q ≤ 3) : vp_in p 3 ∧ vp_in q 4 ∧ vp_in (p * 4 + q) 12 := by
  obtain ⟨a, ha, rfl⟩ := nI_of2 (n := 2) (M := 2) (by decide) h0 (Int32.not_lt.mp h2)
  obtain ⟨b, hb, rfl⟩ := nI_of2 (n := 3) (M := 3) (by decide) h1 h3
  refine ⟨vp_in_nI (by omega) (by omega), vp_in_nI (by omega) (by omega), ?_⟩
  have e : nI a * 4 + nI b = nI (a * 4 + b) := by
    have ca : a = 0 ∨ a = 1 ∨ a = 2 := by omega
    have cb : b = 0 ∨ b = 1 ∨ b = 2 ∨ b = 3 := by omega
    rcases ca with rfl | rfl | rfl <;> rcases cb with rfl | rfl | rfl | rfl <;> decide +kernel
  rw [e]
  exact vp_in_nI (by omega) (by omega)
theorem mt_in3 {p : Int32} (h0 : ¬ p < 0) (h2 : p ≤ 2) : vp_in p 3 := by
  obtain ⟨a, ha, rfl⟩ := nI_of2 (n := 2) (M := 2) (by decide) h0 h2
  exact vp_in_nI (by omega) (by omega)
theorem mt_in4 {p : Int32} (h0 : ¬ p < 0) (h2 : p ≤ 3) : vp_in p 4 := by
  obtain ⟨a, ha, rfl⟩ := nI_of2 (n := 3) (M := 3) (by decide) h0 h2
  exact vp_in_nI (by omega) (by omega)
/-- the class narrows the long sum, the reference the int sum: the low 32 bits are the same -/
theorem mt_sum (a d : Int32) : (a.toInt64 + d.toInt64).toInt32 = a + d := by
  rw [Int64.toInt32_add, Int32.toInt32_toInt64, Int32.toInt32_toInt64]
end
section
/-- the two objects hold the same total and the same three arrays -/
def i_Rel (_ : Nat) (u : SX) (v : SY) : Prop := u = v
theorem i_up {k : Nat} {u : SX} {v : SY} (h : i_Rel k u v) : i_Rel (k + 4) u v := h
theorem i_vc0 : wpX_init (fun u => wpY_init (fun v => i_Rel 0 u v)) := rfl
theorem i_vc_bump {k : Nat} {u : SX} {v : SY} (I : i_Rel k u v) (hk : k + 4 ≤ 2048) (v1 : Int32) (v2 : Int32) (v3 : Int32) : wpX_bump (fun r u' => wpY_bump (fun r' v' => r' = r ∧ i_Rel (k + 4) u' v') v v1 v2 v3) u v1 v2 v3 := by
  cases I
  obtain ⟨t, c, r, l⟩ := u
  by_cases h0 : v1 < 0
  · exact br_t h0 (br_t h0 ⟨rfl, rfl⟩)
  by_cases h2 : 2 < v1
  · exact br_f h0 (br_t h2 (br_f h0 (br_t h2 ⟨rfl, rfl⟩)))
  by_cases h1 : v2 < 0
  · exact br_f h0 (br_f h2 (br_t h1 (br_f h0 (br_f h2 (br_t h1 ⟨rfl, rfl⟩)))))
  by_cases h3 : v2 ≤ 3
  · obtain ⟨i0, i1, ix⟩ := mt_ix h0 h2 h1 h3
    refine br_f h0 (br_f h2 (br_f h1 (br_t h3 (nm_e ⟨ix, nm_e ?_⟩))))
    by_cases hl : (c (v1 * 4 + v2).toNatClampNeg).toInt64 + v3.toInt64 < -32768
    · exact br_t hl (br_f h0 (br_f h2 (br_f h1 (br_t h3 (nm_e ⟨ix, nm_e (br_t hl ⟨rfl, rfl⟩)⟩)))))
    by_cases hh : (c (v1 * 4 + v2).toNatClampNeg).toInt64 + v3.toInt64 ≤ 32767
    · refine br_f hl (br_t hh ⟨ix, nm_e ⟨i0, i0, nm_e ⟨i1, i1, nm_e (nm_e ?_)⟩⟩⟩)
      refine br_f h0 (br_f h2 (br_f h1 (br_t h3 (nm_e ⟨ix, nm_e (br_f hl (br_t hh ⟨ix, ix, nm_e ⟨i0, i0, nm_e ⟨i1, i1, nm_e (nm_e ⟨rfl, ?_⟩)⟩⟩⟩))⟩))))
      rw [mt_sum]
      exact rfl
    · exact br_f hl (br_f hh (br_f h0 (br_f h2 (br_f h1 (br_t h3 (nm_e ⟨ix, nm_e (br_f hl (br_f hh ⟨rfl, rfl⟩))⟩))))))
  · exact br_f h0 (br_f h2 (br_f h1 (br_f h3 (br_f h0 (br_f h2 (br_f h1 (br_f h3 ⟨rfl, rfl⟩)))))))
theorem i_vc_rowTot {k : Nat} {u : SX} {v : SY} (I : i_Rel k u v) (hk : k + 4 ≤ 2048) (v1 : Int32) : wpX_rowTot (fun r => wpY_rowTot (fun r' => r' = r ∧ i_Rel (k + 4) u v) v v1) u v1 := by
  cases I
  obtain ⟨t, c, r, l⟩ := u
  by_cases h0 : v1 < 0
  · exact br_t h0 (br_t h0 ⟨rfl, rfl⟩)
  by_cases h2 : v1 ≤ 2
  · have i0 := mt_in3 h0 h2
    exact br_f h0 (br_t h2 ⟨i0, br_f h0 (br_t h2 ⟨i0, rfl, rfl⟩)⟩)
  · exact br_f h0 (br_f h2 (br_f h0 (br_f h2 ⟨rfl, rfl⟩)))
theorem i_vc_colTot {k : Nat} {u : SX} {v : SY} (I : i_Rel k u v) (hk : k + 4 ≤ 2048) (v1 : Int32) : wpX_colTot (fun r => wpY_colTot (fun r' => r' = r ∧ i_Rel (k + 4) u v) v v1) u v1 := by
  cases I
  obtain ⟨t, c, r, l⟩ := u
  by_cases h0 : v1 < 0
  · exact br_t h0 (br_t h0 ⟨rfl, rfl⟩)
  by_cases h2 : v1 ≤ 3
  · have i0 := mt_in4 h0 h2
    exact br_f h0 (br_t h2 ⟨i0, br_f h0 (br_t h2 ⟨i0, rfl, rfl⟩)⟩)
  · exact br_f h0 (br_f h2 (br_f h0 (br_f h2 ⟨rfl, rfl⟩)))
theorem i_vc_expectedTimesN {k : Nat} {u : SX} {v : SY} (I : i_Rel k u v) (hk : k + 4 ≤ 2048) (v1 : Int32) (v2 : Int32) : wpX_expectedTimesN (fun r => wpY_expectedTimesN (fun r' => r' = r ∧ i_Rel (k + 4) u v) v v1 v2) u v1 v2 := by
  cases I
  obtain ⟨t, c, r, l⟩ := u
  by_cases h0 : v1 < 0
  · exact br_t h0 (br_t h0 ⟨rfl, rfl⟩)
  by_cases h2 : 2 < v1
  · exact br_f h0 (br_t h2 (br_f h0 (br_t h2 ⟨rfl, rfl⟩)))
  by_cases h1 : v2 < 0
  · exact br_f h0 (br_f h2 (br_t h1 (br_f h0 (br_f h2 (br_t h1 ⟨rfl, rfl⟩)))))
  by_cases h3 : v2 ≤ 3
  · obtain ⟨i0, i1, ix⟩ := mt_ix h0 h2 h1 h3
    exact br_f h0 (br_f h2 (br_f h1 (br_t h3 ⟨i0, i1, br_f h0 (br_f h2 (br_f h1 (br_t h3 ⟨i0, i1, rfl, rfl⟩)))⟩)))
  · exact br_f h0 (br_f h2 (br_f h1 (br_f h3 (br_f h0 (br_f h2 (br_f h1 (br_f h3 ⟨rfl, rfl⟩)))))))
theorem i_vc_grand {k : Nat} {u : SX} {v : SY} (I : i_Rel k u v) (hk : k + 4 ≤ 2048) : wpX_grand (fun r => wpY_grand (fun r' => r' = r ∧ i_Rel (k + 4) u v) v) u := by
  cases I
  obtain ⟨t, c, r, l⟩ := u
  exact And.intro rfl rfl
end
