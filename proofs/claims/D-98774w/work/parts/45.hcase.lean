/-! the case of a line's first word -/
theorem hsS_c {f g : Nat → Int32} : ∀ n : Nat, (∀ j, j < n → f j = g j) → hsS f n = hsS g n
  | 0, _ => rfl
  | n + 1, h => by
    show (31 : Int32) * hsS f n + (f n &&& 255) = (31 : Int32) * hsS g n + (g n &&& 255)
    rw [hsS_c n (fun j hj => h j (by omega)), h n (by omega)]
def hkey (i : Nat) : Int32 := hsS (stC i) (stL i)
theorem wd_hash {n i : Nat} {f : Nat → Int32} (h : eqS n f (stL i) (stC i) = true) : hsS f n = hkey i := by
  unfold eqS at h
  obtain ⟨h1, h2⟩ := of_decide_eq_true h
  subst h1
  exact hsS_c _ h2
theorem hkey_v : hkey 0 = 98708952 ∧ hkey 1 = 3208384 ∧ hkey 2 = 3016435 ∧ hkey 3 = 109407362 ∧ hkey 4 = 3287941 ∧ hkey 5 = -1081272139 ∧ hkey 6 = -892070738 ∧ hkey 7 = 3029824 ∧ hkey 8 = 99228 := by decide +kernel
