/-! passes, as a mirror -/
/-- the word that was passed is one (a fact of the reader, owed by the pure laws) -/
noncomputable def mwd {α : Type} (s : Rd) (K : Option α) : Option α := @ite _ (∃ b a : Nat, wdP s b a) (Classical.propDecidable _) K none
theorem mwd_s {α : Type} {s : Rd} {K o : Option α} {v : α} (ho : o = some v) (h : mwd s K = o) : (∃ b a : Nat, wdP s b a) ∧ K = o := by
  unfold mwd at h
  by_cases q : ∃ b a : Nat, wdP s b a
  · rw [if_pos q] at h; exact ⟨q, h⟩
  · rw [if_neg q, ho] at h; exact nomatch h
noncomputable def fX3_passes (srd : Rd) (p1 : Nat) : Option (Bool × Rd) := mob (fX3_word srd) fun s1 => mwd s1 <| mst p1 <| some (wdIs s1 p1, psR s1 p1)
theorem mtX3_passesM (l : Launch) (D : va_G) (k : Nat → ClassId) (ard : Nat → Nat) (Z : zZ) (hOK : zOK D zCl (zTys k) Z) {adK adV : Nat → Nat} (hStr : zStr Z adK adV) (hPv : zPv Z) (srd : Rd) (p1 : Nat) (r : Bool) (ord : Rd) (hrun : fX3_passes srd p1 = some (r, ord)) : CtW l yX3_passes cX3_passes 2 (some .boolean) rX3_passes Z D zCl (cR k ard srd) [.ref (ard 0), .ref (adK p1)] (fun r' w' => r' = some (.int (bz r)) ∧ w' = cR k ard ord) 9 1600 := by
  unfold fX3_passes at hrun
  obtain ⟨s1, h1, hrun⟩ := mob_s rfl hrun
  obtain ⟨⟨b, a, hwd⟩, hrun⟩ := mwd_s rfl hrun
  obtain ⟨hi, hrun⟩ := mst_s rfl hrun
  cases hrun
  exact mtX3_passes l D k ard Z hOK hStr hPv srd s1 h1 b a hwd p1 hi
