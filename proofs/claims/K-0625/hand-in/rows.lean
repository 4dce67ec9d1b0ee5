section
/-- the component's five longs are the reference's five ints, widened; nothing else is needed -/
def i_Rel (_ : Nat) (u : SX) (v : SY) : Prop := u = (v.1.toInt64, v.2.1.toInt64, v.2.2.1.toInt64, v.2.2.2.1.toInt64, v.2.2.2.2.toInt64)
theorem i_up {k : Nat} {u : SX} {v : SY} (h : i_Rel k u v) : i_Rel (k + 2) u v := h
theorem cu_0 : (0 : Int32).toInt64 = 0 := by decide
theorem cu_1 : (1 : Int32).toInt64 = 1 := by decide
/-- a long that is at least 0 and below an int outlives the cast to int -/
theorem cu_id {h : Int64} {t : Int32} (h0 : 0 ≤ h) (h1 : h < t.toInt64) : h.toInt32.toInt64 = h := by
  rw [Int64.le_iff_toInt_le] at h0
  rw [Int64.lt_iff_toInt_lt, Int32.toInt_toInt64] at h1
  have e0 : (0 : Int64).toInt = 0 := by decide
  have ht := t.toInt_lt
  apply Int64.toInt_inj.mp
  rw [Int32.toInt_toInt64, Int64.toInt_toInt32]
  rw [e0] at h0
  exact Int.bmod_eq_of_le (by omega) (by omega)
theorem cu_back (x : Int32) : x.toInt64.toInt32 = x := by simp
theorem i_vc0 (k0 : Int32) (k1 : Int32) (k2 : Int32) : wpX_init (fun u => wpY_init (fun v => i_Rel 3 u v) k0 k1 k2) k0 k1 k2 := by
  by_cases h1 : 0 ≤ k1
  · by_cases h2 : 1 ≤ k2
    · exact br_t h1 (br_t h2 (br_t h1 (br_t h2 (by unfold i_Rel; dsimp only; rw [cu_0]))))
    · exact br_t h1 (br_f h2 (br_t h1 (br_f h2 (by unfold i_Rel; dsimp only; rw [cu_0, cu_1]))))
  · by_cases h2 : 1 ≤ k2
    · exact br_f h1 (br_t h2 (br_f h1 (br_t h2 (by unfold i_Rel; dsimp only; rw [cu_0]))))
    · exact br_f h1 (br_f h2 (br_f h1 (br_f h2 (by unfold i_Rel; dsimp only; rw [cu_0, cu_1]))))
theorem cu_n1 : ¬ (1 : Int32) = 0 := by decide
/-- behind the clamps both sides have one answer and related states -/
theorem cu_J (h l : Int64) (t s m hi lo : Int32) (up dn : Int64) (h0 : 0 ≤ h) (l0 : 0 ≤ l) :
    ∃ (r : Int32) (u' : SX) (v' : SY), (∀ k, i_Rel k u' v') ∧
      (∀ post : Int32 → SX → Prop, post r u' → wX_feed_59 post h l t.toInt64 s.toInt64 m.toInt64 up dn) ∧
      (∀ post : Int32 → SY → Prop, post r v' → wY_feed_61 post h l t s m hi lo) := by
  by_cases a : h < m.toInt64
  · by_cases b : l < m.toInt64
    · refine ⟨0, (t.toInt64, s.toInt64, m.toInt64, h, l), (t, s, m, h.toInt32, l.toInt32), ?_, ?_, ?_⟩
      · intro k; unfold i_Rel; dsimp only; rw [cu_id h0 a, cu_id l0 b]
      · exact fun post p => br_t a (br_t b (br_t rfl (br_t rfl p)))
      · exact fun post p => br_t a (br_t b (br_t rfl (br_t rfl (br_t rfl (br_t rfl p)))))
    · refine ⟨-1, (t.toInt64, s.toInt64, m.toInt64, h, 0), (t, s, m, h.toInt32, 0), ?_, ?_, ?_⟩
      · intro k; unfold i_Rel; dsimp only; rw [cu_id h0 a, cu_0]
      · exact fun post p => br_t a (br_f b (br_t rfl (br_f cu_n1 p)))
      · exact fun post p => br_t a (br_f b (br_t rfl (br_f cu_n1 (br_t rfl (br_f cu_n1 p)))))
  · by_cases b : l < m.toInt64
    · refine ⟨1, (t.toInt64, s.toInt64, m.toInt64, 0, l), (t, s, m, 0, l.toInt32), ?_, ?_, ?_⟩
      · intro k; unfold i_Rel; dsimp only; rw [cu_id l0 b, cu_0]
      · exact fun post p => br_f a (br_t b (br_f cu_n1 p))
      · exact fun post p => br_f a (br_t b (br_f cu_n1 (br_t rfl (br_f cu_n1 p))))
    · refine ⟨1, (t.toInt64, s.toInt64, m.toInt64, 0, 0), (t, s, m, 0, 0), ?_, ?_, ?_⟩
      · intro k; unfold i_Rel; dsimp only; rw [cu_0]
      · exact fun post p => br_f a (br_f b (br_f cu_n1 p))
      · exact fun post p => br_f a (br_f b (br_f cu_n1 (br_f cu_n1 (br_f cu_n1 p))))
theorem i_vc_feed {k : Nat} {u : SX} {v : SY} (I : i_Rel k u v) (hk : k + 2 ≤ 1027) (v1 : Int32) : wpX_feed (fun r u' => wpY_feed (fun r' v' => r' = r ∧ i_Rel (k + 2) u' v') v v1) u v1 := by
  obtain ⟨t, s, m, hi, lo⟩ := v
  cases I
  intro h eh l el
  by_cases a : 0 ≤ h
  · by_cases b : 0 ≤ l
    · obtain ⟨r, u', v', R, X, Y⟩ := cu_J h l t s m hi lo hi.toInt64 lo.toInt64 a b
      refine br_t a (br_t b (X _ ?_))
      exact nm_r eh.symm (nm_r el.symm (br_t a (br_t b (Y _ ⟨rfl, R _⟩))))
    · obtain ⟨r, u', v', R, X, Y⟩ := cu_J h 0 t s m hi lo hi.toInt64 lo.toInt64 a (by decide)
      refine br_t a (br_f b (X _ ?_))
      exact nm_r eh.symm (nm_r el.symm (br_t a (br_f b (Y _ ⟨rfl, R _⟩))))
  · by_cases b : 0 ≤ l
    · obtain ⟨r, u', v', R, X, Y⟩ := cu_J 0 l t s m hi lo hi.toInt64 lo.toInt64 (by decide) b
      refine br_f a (br_t b (X _ ?_))
      exact nm_r eh.symm (nm_r el.symm (br_f a (br_t b (Y _ ⟨rfl, R _⟩))))
    · obtain ⟨r, u', v', R, X, Y⟩ := cu_J 0 0 t s m hi lo hi.toInt64 lo.toInt64 (by decide) (by decide)
      refine br_f a (br_f b (X _ ?_))
      exact nm_r eh.symm (nm_r el.symm (br_f a (br_f b (Y _ ⟨rfl, R _⟩))))
theorem i_vc_high {k : Nat} {u : SX} {v : SY} (I : i_Rel k u v) (hk : k + 2 ≤ 1027) : wpX_high (fun r => wpY_high (fun r' => r' = r ∧ i_Rel (k + 2) u v) v) u := by
  obtain ⟨t, s, m, hi, lo⟩ := v
  cases I
  exact ⟨(cu_back hi).symm, rfl⟩
theorem i_vc_low {k : Nat} {u : SX} {v : SY} (I : i_Rel k u v) (hk : k + 2 ≤ 1027) : wpX_low (fun r => wpY_low (fun r' => r' = r ∧ i_Rel (k + 2) u v) v) u := by
  obtain ⟨t, s, m, hi, lo⟩ := v
  cases I
  exact ⟨(cu_back lo).symm, rfl⟩
end
