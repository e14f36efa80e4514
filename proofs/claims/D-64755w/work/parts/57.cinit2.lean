set_option maxRecDepth 100000
theorem zCi_zK {B : Nat → gE} {E : gV} {h : gH} {T : tT} (z : zCi B E h T 11) : zK E T mS0 ∧ T.2 (gBase E + 6) = some [] ∧ T.2 (gBase E + 8) = some [] ∧ T.2 (gBase E + 9) = some [] ∧ (∀ i, (T.1 (gBase E + 7)).2.2 i = .null) := by
  obtain ⟨z1, z2, z3, z4, z5, zb⟩ := z
  have ar : ∀ i, i < 11 → ¬ iL i → (T.1 (gBase E)).2.2 (iF i) = .ref (gBase E + 1 + i) ∧ T.1 (gBase E + 1 + i) = (iK i, iN i, fun _ => iD i) := fun i hi hl => ⟨(z5 i hi).1, (z5 i hi).2.2 hl⟩
  have li : ∀ i, i < 11 → iL i → (T.1 (gBase E)).2.2 (iF i) = .ref (gBase E + 1 + i) ∧ T.2 (gBase E + 1 + i) = some [] := fun i hi hl => ⟨(z5 i hi).1, (z5 i hi).2.1 hl⟩
  have l5 := li 5 (by omega) (Or.inl rfl)
  have l7 := li 7 (by omega) (Or.inr (Or.inl rfl))
  have l8 := li 8 (by omega) (Or.inr (Or.inr rfl))
  have a6 := ar 6 (by omega) (by unfold iL; omega)
  have a10 := ar 10 (by omega) (by unfold iL; omega)
  refine ⟨⟨z3, fun f hf => ⟨z4 f hf, ?_⟩, fun f hf => ?_, ⟨l5.1, l7.1, l8.1⟩, ⟨a6.1, ?_, ?_⟩, a10.1, ?_, ?_⟩, l5.2, l7.2, l8.2, fun i => ?_⟩
  · show kRg f 0
    unfold kRg; split <;> omega
  · obtain ⟨i, hi, e1, e2, e3⟩ : ∃ i, i < 11 ∧ ¬ iL i ∧ f = iF i ∧ (kAd f = 1 + i ∧ iK i = kKd f ∧ iN i = 60 ∧ iD i = vI 0) := by
      unfold kIsA at hf
      split at hf
      · exact ⟨0, by omega, by unfold iL; omega, rfl, rfl, rfl, rfl, rfl⟩
      · exact ⟨1, by omega, by unfold iL; omega, rfl, rfl, rfl, rfl, rfl⟩
      · exact ⟨2, by omega, by unfold iL; omega, rfl, rfl, rfl, rfl, rfl⟩
      · exact ⟨3, by omega, by unfold iL; omega, rfl, rfl, rfl, rfl, rfl⟩
      · exact ⟨4, by omega, by unfold iL; omega, rfl, rfl, rfl, rfl, rfl⟩
      · exact ⟨9, by omega, by unfold iL; omega, rfl, rfl, rfl, rfl, rfl⟩
      · cases hf
    obtain ⟨a1, a2⟩ := ar i hi e1
    have ea : gBase E + kAd f = gBase E + 1 + i := by omega
    rw [ea, a2]
    refine ⟨by rw [e2]; exact a1, e3.2.1, e3.2.2.1, fun j _ => ⟨e3.2.2.2, ?_⟩⟩
    show kRg f 0
    unfold kRg; split <;> omega
  · rw [show gBase E + 7 = gBase E + 1 + 6 by omega, a6.2]; rfl
  · rw [show gBase E + 7 = gBase E + 1 + 6 by omega, a6.2]; rfl
  · rw [show gBase E + 11 = gBase E + 1 + 10 by omega, a10.2]; rfl
  · rw [show gBase E + 11 = gBase E + 1 + 10 by omega, a10.2]; rfl
  · rw [show gBase E + 7 = gBase E + 1 + 6 by omega, a6.2]; rfl
