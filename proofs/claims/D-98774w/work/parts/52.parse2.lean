/-! THE LAW's TEXT: rows of conditions, atoms -/
abbrev cnO : Type := (String × Rd) ⊕ ((Sc → Bool) × Rd)
def CnC (l : Launch) (D : va_G) (k : Nat → ClassId) (ah aw adr aim ard asc ath awl alo atr : Nat → Nat) (Z : zZ) (e0 : Nat) (aF : Nat → Nat) (sh : Kp) (y : MethodName) (cc : ByteArray) (mL dp fr lo cC cS : Nat) (At : Rd → Option cnO) : Prop :=
  (∀ (srd : Rd) (o : cnO), At srd = some o → rA srd ≤ rA (rdO o) ∧ rA (rdO o) ≤ 400) ∧ ∀ (srd : Rd) (o : cnO), At srd = some o → CtX l y cc mL (some (.object "SaturdayKeep$Cond")) (rP fr lo cC cS srd o) Z D zCl ((cH k ah aw adr aim ard asc ath awl alo atr sh) ++ (cR k ard srd)) [.ref (ah 0)] (fun r' w' => ∃ g ord q np, o = .inr (g, ord) ∧ r' = some (.ref q) ∧ cnAt k e0 aF np dp q g ∧ elIn np q ∧ w' = (((cH k ah aw adr aim ard asc ath awl alo atr sh) ++ (cR k ard ord)) ++ np)) (fun E' w' => ∃ ord, o = .inl (E', ord) ∧ w' = ((cH k ah aw adr aim ard asc ath awl alo atr sh) ++ (cR k ard ord))) (prc 50 cC srd o) (prc 5500 cS srd o)
theorem CnC.none {l : Launch} {D : va_G} {k : Nat → ClassId} {ah aw adr aim ard asc ath awl alo atr : Nat → Nat} {Z : zZ} {e0 : Nat} {aF : Nat → Nat} {sh : Kp} {y : MethodName} {cc : ByteArray} {mL dp fr lo cC cS : Nat} : CnC l D k ah aw adr aim ard asc ath awl alo atr Z e0 aF sh y cc mL dp fr lo cC cS (fun _ => none) := ⟨fun _ _ h => (nomatch h), fun _ _ h => (nomatch h)⟩
noncomputable def fX1_rowL (El : Rd → Option cnO) (i : Nat) : Nat → Rd → List (Sc → Bool) → Option ((String × Rd) ⊕ (List (Sc → Bool) × Rd))
  | 0, _, _ => none
  | n + 1, s, gs => mox (El s) (fun E => some (.inl E)) fun q => mo2 (gPass q.2 i) fun b s2 => if b = true then fX1_rowL El i n s2 (gs ++ [q.1]) else some (.inr (gs ++ [q.1], s2))
noncomputable def fX1_rowF (El : Rd → Option cnO) (b : Bool) (i : Nat) (srd : Rd) : Option cnO := mox (fX1_rowL El i mFU srd []) (fun E => some (.inl E)) fun q => some (.inr (rowV b q.1, q.2))
theorem rowL_m {El : Rd → Option cnO} {i : Nat} (hE : ∀ (srd : Rd) (o : cnO), El srd = some o → rA srd ≤ rA (rdO o) ∧ rA (rdO o) ≤ 400) : ∀ (n : Nat) (s : Rd) (gs : List (Sc → Bool)) (o : (String × Rd) ⊕ (List (Sc → Bool) × Rd)), fX1_rowL El i n s gs = some o → rA s ≤ rA (rdO o) ∧ rA (rdO o) ≤ 400
  | 0, _, _, _, h => nomatch h
  | n + 1, s, gs, o, h => by
    rw [fX1_rowL.eq_2] at h
    obtain ⟨o1, h1, h⟩ := mox_s rfl h
    have hm := hE _ _ h1
    cases o1 with
    | inl E =>
      have h := moxl h
      cases h
      exact hm
    | inr q =>
      have h := moxr h
      obtain ⟨b, s2, h2, h⟩ := mo2_s rfl h
      have h3 := (gPass_s h2).2
      have hm : rA s ≤ rA q.2 ∧ rA q.2 ≤ 400 := hm
      cases b with
      | true =>
        have h4 := rowL_m hE n s2 _ o (mif_p rfl h)
        rw [if_pos rfl] at h3
        omega
      | false =>
        have h := mif_n (by decide) h
        cases h
        rw [if_neg (by decide)] at h3
        show rA s ≤ rA s2 ∧ rA s2 ≤ 400
        omega
theorem rowF_m {El : Rd → Option cnO} {b : Bool} {i : Nat} (hE : ∀ (srd : Rd) (o : cnO), El srd = some o → rA srd ≤ rA (rdO o) ∧ rA (rdO o) ≤ 400) (srd : Rd) (o : cnO) (h : fX1_rowF El b i srd = some o) : rA srd ≤ rA (rdO o) ∧ rA (rdO o) ≤ 400 := by
  unfold fX1_rowF at h
  obtain ⟨o1, h1, h⟩ := mox_s rfl h
  have hm := rowL_m hE _ _ _ _ h1
  cases o1 with
  | inl E =>
    have h := moxl h
    cases h
    exact hm
  | inr q =>
    have h := moxr h
    cases h
    exact hm
theorem kX1_atom {R : Room} {s : State} {args : Array Value} {own : String} {idx mc ms : Nat} {rm : Room} (hts : ∀ w ∈ lw_all, w.before args s = true) (hl : Cond.methodLink own idx yX1_atom ∈ lw_all) (hrc : rm.cells = mc) (hrs : rm.slots = ms) (hR : rm.frames + 1 ≤ R.frames ∧ 8 + (3 + 11) + rm.locals ≤ R.locals) : CallW R s args own RX1 idx yX1_atom cX1_atom 3 (some (.object "SaturdayKeep$Cond")) (ws_ yX1_atom cX1_atom 3 (some (.object "SaturdayKeep$Cond"))) rm mc ms 0 :=
  cwV 0 hts (lw_V hl q1354 qs28 q107 q1355) rfl hrc hrs (by decide +kernel) hR
theorem kX1_allOf {R : Room} {s : State} {args : Array Value} {own : String} {idx mc ms : Nat} {rm : Room} (hts : ∀ w ∈ lw_all, w.before args s = true) (hl : Cond.methodLink own idx yX1_allOf ∈ lw_all) (hrc : rm.cells = mc) (hrs : rm.slots = ms) (hR : rm.frames + 1 ≤ R.frames ∧ 8 + (2 + 11) + rm.locals ≤ R.locals) : CallW R s args own RX1 idx yX1_allOf cX1_allOf 2 (some (.object "SaturdayKeep$Cond")) (ws_ yX1_allOf cX1_allOf 2 (some (.object "SaturdayKeep$Cond"))) rm mc ms 0 :=
  cwV 0 hts (lw_V hl q1350 qs27 q107 q1351) rfl hrc hrs (by decide +kernel) hR
set_option maxRecDepth 100000 in
theorem mtX1_allOf (l : Launch) (D : va_G) (k : Nat → ClassId) (ah aw adr aim ard asc ath awl alo atr : Nat → Nat) (Z : zZ) (hOK6 : zOK D zCl (zTy6 k) Z) (hlt : l.stackTraces = false) (hTh : zTh Z) {adK adV : Nat → Nat} (hStr : zStr Z adK adV) (hPv : zPv Z) {e0 mi : Nat} (hLs : zLs Z e0 mi) {aF : Nat → Nat} {vq : Nat} (hVl : zVl k Z aF adK vq) (sh : Kp) (dp fr lo : Nat) (hfr : 12 ≤ fr) (hlo : 400 ≤ lo) (At : Rd → Option cnO) (hAt : CnC l D k ah aw adr aim ard asc ath awl alo atr Z e0 aF sh yX1_atom cX1_atom 3 dp fr lo 43 6450 At) : CnC l D k ah aw adr aim ard asc ath awl alo atr Z e0 aF sh yX1_allOf cX1_allOf 2 (dp + 1) (fr + 1) (lo + 30) 55 8065 (fX1_rowF At true 17) := by
  have hOK := zOK6 hOK6
  refine ⟨rowF_m hAt.1, fun srd o hrun => ?_⟩
  refine CtX.of (by decide) (Nat.le_of_ble_eq_true rfl) ?_
  intro p e9 s m args below meth c A hE hnoh hA hP hD hS hz ls hl
  obtain ⟨hx, hb, hr, hml, hown, hts, hlocks, hname⟩ := hE
  have hown : s.vm.findClass RX1 = some m.cls := hown
  have hK := hOK.1 _ _ _ hz
  have hN := hOK.2.1 _ _ _ hz
  have hl : lv_has ls 2 [(0, .ref (ah 0))] := hl
  unfold fX1_rowF at hrun
  obtain ⟨o1, h1, hrun⟩ := mox_s rfl hrun
  have hmo := rowL_m hAt.1 _ _ _ _ h1
  have hrd : rdO o = rdO o1 := by
    cases o1 with
    | inl E => have hrun := moxl hrun; cases hrun; rfl
    | inr q => have hrun := moxr hrun; cases hrun; rfl
  refine va_new (ci := 9) (fs := [.int 0, .null]) (C := RX10) (T := TX10) (N := 2) hx hb hts in_X10 tyX10 tyX10_ok hown (hts _ q1332) (hts _ q1333) (hts _ q136) hK hP hD hS hA rfl (zdef 2 tyX10) (by simp only [rP, rLs, prc, rdO]; omega) (by simp only [rP, rLs, prc, rdO]; omega) dX1_allOf_0 (fun qs H hP hD hS => ?_)
  refine lv_dup hx hb dX1_allOf_3 rfl ?_
  refine lv_iconst (v := bz true) hx hb dX1_allOf_4 (by decide) ?_
  have hP : va_P D zCl (((cH k ah aw adr aim ard asc ath awl alo atr sh) ++ (cR k ard srd)) ++ ([(qs, .inr (9, [.int 0, .null]))] ++ [])) _ := hP
  have hD : va_D A (((cH k ah aw adr aim ard asc ath awl alo atr sh) ++ (cR k ard srd)) ++ ([(qs, .inr (9, [.int 0, .null]))] ++ [])) := hD
  refine cWI ((cH k ah aw adr aim ard asc ath awl alo atr sh) ++ (cR k ard srd)) [(qs, .inr (9, [.int 0, .null]))] [] (As := [.int (bz true)]) ⟨hx, hb, hml, hown, hts⟩ hOK hz hS hA hP hD (mtX10_init l D k Z hOK hLs qs true) (kX10_init hts q1334 rfl rfl ⟨(by show 4 + 1 ≤ fr + 1; omega), (by show 8 + (2 + 11) + 90 ≤ lo + 30; omega)⟩) rfl hl.1 rfl (lv_room (Nat.le_of_ble_eq_true rfl)) ⟨(by simp only [rP, rLs, prc, rdO]; omega), (by simp only [rP, rLs, prc, rdO]; omega)⟩ dX1_allOf_5 (fun r_ w_ H locs hq hP hD hS => ?_)
  obtain ⟨ql, rfl, rfl⟩ := hq
  have hP : va_P D zCl ((cH k ah aw adr aim ard asc ath awl alo atr sh) ++ ((cR k ard srd) ++ ([(qs, .inr (9, [.int (bz true), .ref ql]))] ++ [lsO ql e0 0 0]))) _ := hP
  have hD : va_D A ((cH k ah aw adr aim ard asc ath awl alo atr sh) ++ ((cR k ard srd) ++ ([(qs, .inr (9, [.int (bz true), .ref ql]))] ++ [lsO ql e0 0 0]))) := hD
  refine lv_astore_n (lv' := [(1, .ref qs), (0, .ref (ah 0))]) hx hb dX1_allOf_8 rfl hl (by decide) rfl (fun ls hl => ?_)
  have key : ∀ (n : Nat) (st : Rd) (gs : List (Sc → Bool)) (els : List Nat) (xs ww : va_W) (V U : Nat), fX1_rowL At 17 n st gs = some o1 → LC k e0 ql els xs ww → pw (cnAt k e0 aF xs dp) els gs → (∀ y ∈ els, elIn xs y) → rA srd + els.length ≤ rA st → (els = [] → V ≤ 2 + 50 * (rA st - rA srd) ∧ U ≤ 5 + 5500 * (rA st - rA srd)) → (els ≠ [] → V + 30 ≤ 2 + 50 * (rA st - rA srd) ∧ U + 1000 ≤ 5 + 5500 * (rA st - rA srd)) → ∀ (H : Heap) (locs : List Loc), va_P D zCl ((cH k ah aw adr aim ard asc ath awl alo atr sh) ++ ((cR k ard st) ++ ([(qs, .inr (9, [.int (bz true), .ref ql]))] ++ ww))) H → va_D A ((cH k ah aw adr aim ard asc ath awl alo atr sh) ++ ((cR k ard st) ++ ([(qs, .inr (9, [.int (bz true), .ref ql]))] ++ ww))) → va_S A s.heap H locs → ∀ ls : Array Slot, lv_has ls 2 [(1, .ref qs), (0, .ref (ah 0))] → W p l e9 (rP (fr + 1) (lo + 30) 55 8065 srd o) s m args below meth c H locs V U (vx_MQ below (QWr (fun r' w' => ∃ g ord q np, o = .inr (g, ord) ∧ r' = some (.ref q) ∧ cnAt k e0 aF np (dp + 1) q g ∧ elIn np q ∧ w' = (((cH k ah aw adr aim ard asc ath awl alo atr sh) ++ (cR k ard ord)) ++ np)) D zCl A) (QXr (fun E' w' => ∃ ord, o = .inl (E', ord) ∧ w' = ((cH k ah aw adr aim ard asc ath awl alo atr sh) ++ (cR k ard ord))) D zCl A) args s (prc 50 55 srd o) (prc 5500 8065 srd o) A) (F0 m 9 ls []) := by
    intro n
    induction n with
    | zero =>
      intro st gs els xs ww V U h2
      exact nomatch h2
    | succ n ih =>
      intro st gs els xs ww V U h2 hL hpw hel hlen hb0 hb1 H locs hP hD hS ls hl
      rw [fX1_rowL.eq_2] at h2
      obtain ⟨o2, h3, h2⟩ := mox_s rfl h2
      have hm2 := hAt.1 _ _ h3
      have hUV : V ≤ 2 + 50 * (rA st - rA srd) ∧ U ≤ 5 + 5500 * (rA st - rA srd) := by
        by_cases q : els = []
        · exact hb0 q
        · have := hb1 q; omega
      refine lv_aload_n hx hb dX1_allOf_9 rfl (lv_at hl 0 rfl) ?_
      refine va_getN (ci := 9) (v := .ref ql) (C := RX10) (T := TX10) (N := 2) hx hb hts in_X10 hown hK hP 3 rfl rfl 1 (by decide) (va_Nw.use rfl (hN _ (zN_of q1342 rfl))) (fun _ h9 => h9) rfl dX1_allOf_10 ?_
      refine lv_aload_n hx hb dX1_allOf_13 rfl (lv_at hl 1 rfl) ?_
      have hP : va_P D zCl ([] ++ (((cH k ah aw adr aim ard asc ath awl alo atr sh) ++ (cR k ard st)) ++ ([(qs, .inr (9, [.int (bz true), .ref ql]))] ++ ww))) _ := hP
      have hD : va_D A ([] ++ (((cH k ah aw adr aim ard asc ath awl alo atr sh) ++ (cR k ard st)) ++ ([(qs, .inr (9, [.int (bz true), .ref ql]))] ++ ww))) := hD
      cases o2 with
      | inl E =>
        obtain ⟨E1, s1⟩ := E
        have h2 := moxl h2
        cases h2
        have hrun := moxl hrun
        cases hrun
        have hm2 : rA st ≤ rA s1 ∧ rA s1 ≤ 400 := hm2
        refine cXV [] ((cH k ah aw adr aim ard asc ath awl alo atr sh) ++ (cR k ard st)) ([(qs, .inr (9, [.int (bz true), .ref ql]))] ++ ww) (As := []) (ci := 1) ⟨hx, hb, hml, hown, hts⟩ hOK hz hS hA hP hD (hAt.2 st _ h3) (kX1_atom hts q1352 rfl rfl ⟨(by show fr + 1 ≤ fr + 1; omega), (by show 8 + (3 + 11) + lo ≤ lo + 30; omega)⟩) 0 rfl rfl rfl hl.1 rfl (lv_room (Nat.le_of_ble_eq_true rfl)) ⟨(by simp only [rP, rLs, prc, rdO]; omega), (by simp only [rP, rLs, prc, rdO]; omega)⟩ dX1_allOf_14 (fun E_ w_ ce_ q9_ H locs hq hP hD hS hce hcv hcl => ?_) (fun r_ w_ H locs hq hP hD hS => ?_)
        · obtain ⟨ord, he, rfl⟩ := hq
          cases he
          have hP : va_P D zCl (((cH k ah aw adr aim ard asc ath awl alo atr sh) ++ (cR k ard s1)) ++ ([(qs, .inr (9, [.int (bz true), .ref ql]))] ++ ww)) _ := hP
          have hD : va_D A (((cH k ah aw adr aim ard asc ath awl alo atr sh) ++ (cR k ard s1)) ++ ([(qs, .inr (9, [.int (bz true), .ref ql]))] ++ ww)) := hD
          have hP := zdropP (x := ((cH k ah aw adr aim ard asc ath awl alo atr sh) ++ (cR k ard s1))) (y := ([(qs, .inr (9, [.int (bz true), .ref ql]))] ++ ww)) hP
          have hD := zdropD (x := ((cH k ah aw adr aim ard asc ath awl alo atr sh) ++ (cR k ard s1))) (y := ([(qs, .inr (9, [.int (bz true), .ref ql]))] ++ ww)) hD
          exact zout hnoh hlocks hce hcv hcl hP hD hS ⟨_, rfl, rfl⟩ (by simp only [prc, rdO]; omega) (by simp only [prc, rdO]; omega)
        · obtain ⟨g, ord, q, np, he, rfl, hp, hel9, rfl⟩ := hq
          exact nomatch he
      | inr q =>
        obtain ⟨g, s1⟩ := q
        have h2 := moxr h2
        obtain ⟨b, s2, h4, h2⟩ := mo2_s rfl h2
        obtain ⟨h5, hA5⟩ := gPass_s h4
        have hm2 : rA st ≤ rA s1 ∧ rA s1 ≤ 400 := hm2
        have hA6 : rA s1 ≤ rA s2 := Nat.le_trans (Nat.le_add_right _ _) hA5.1
        have hm6 : rA s2 ≤ rA (rdO o1) := by
          cases b with
          | true => exact (rowL_m hAt.1 _ _ _ _ (mif_p rfl h2)).1
          | false => have h2 := mif_n (by decide) h2; cases h2; exact Nat.le_refl _
        have hRe : rA (rdO o) = rA (rdO o1) := by rw [hrd]
        refine cXV [] ((cH k ah aw adr aim ard asc ath awl alo atr sh) ++ (cR k ard st)) ([(qs, .inr (9, [.int (bz true), .ref ql]))] ++ ww) (As := []) (ci := 1) ⟨hx, hb, hml, hown, hts⟩ hOK hz hS hA hP hD (hAt.2 st _ h3) (kX1_atom hts q1352 rfl rfl ⟨(by show fr + 1 ≤ fr + 1; omega), (by show 8 + (3 + 11) + lo ≤ lo + 30; omega)⟩) 0 rfl rfl rfl hl.1 rfl (lv_room (Nat.le_of_ble_eq_true rfl)) ⟨(by simp only [rP, rLs, prc]; show _ + (_ * (rA s1 - rA st) + _) ≤ _; omega), (by simp only [rP, rLs, prc]; show _ + (_ * (rA s1 - rA st) + _) ≤ _; omega)⟩ dX1_allOf_14 (fun E_ w_ ce_ q9_ H locs hq hP hD hS hce hcv hcl => ?_) (fun r_ w_ H locs hq hP hD hS => ?_)
        · obtain ⟨ord, he, rfl⟩ := hq
          exact nomatch he
        obtain ⟨g9, ord, qn, np, he, rfl, hp, hel9, rfl⟩ := hq
        cases he
        refine W.widen (k := V + (50 * (rA s1 - rA st) + 43)) (n := U + (5500 * (rA s1 - rA st) + 6450)) (Nat.le_refl _) (Nat.le_refl _) ?_
        have hP : va_P D zCl (zcat [(cH k ah aw adr aim ard asc ath awl alo atr sh), (cR k ard s1), np, [(qs, .inr (9, [.int (bz true), .ref ql]))], ww]) _ := hP
        have hD : va_D A (zcat [(cH k ah aw adr aim ard asc ath awl alo atr sh), (cR k ard s1), np, [(qs, .inr (9, [.int (bz true), .ref ql]))], ww]) := hD
        have hP := zbP [(cH k ah aw adr aim ard asc ath awl alo atr sh), (cR k ard s1), np, [(qs, .inr (9, [.int (bz true), .ref ql]))], ww] 5 [0, 1, 3, 4, 2] hP rfl (by decide)
        have hD := zbD [(cH k ah aw adr aim ard asc ath awl alo atr sh), (cR k ard s1), np, [(qs, .inr (9, [.int (bz true), .ref ql]))], ww] 5 [0, 1, 3, 4, 2] hD rfl (by decide)
        have hP : va_P D zCl (((cH k ah aw adr aim ard asc ath awl alo atr sh) ++ ((cR k ard s1) ++ [(qs, .inr (9, [.int (bz true), .ref ql]))])) ++ (ww ++ np)) _ := hP
        have hD : va_D A (((cH k ah aw adr aim ard asc ath awl alo atr sh) ++ ((cR k ard s1) ++ [(qs, .inr (9, [.int (bz true), .ref ql]))])) ++ (ww ++ np)) := hD
        have hsub : ∀ x ∈ np, x ∈ xs ++ np := fun x hx => List.mem_append_right _ hx
        have hsub2 : ∀ x ∈ xs, x ∈ xs ++ np := fun x hx => List.mem_append_left _ hx
        have hads : adS els ≤ 602 ∧ (els = [] → adS els = 10) := by
          cases els with
          | nil => exact ⟨by decide, fun _ => rfl⟩
          | cons _ _ => exact ⟨Nat.le_refl _, fun z => nomatch z⟩
        have hroom : V + (50 * (rA s1 - rA st) + 43) + 1 + 9 ≤ (rP (fr + 1) (lo + 30) 55 8065 srd o).cells ∧ U + (5500 * (rA s1 - rA st) + 6450) + adS els + 1600 ≤ (rP (fr + 1) (lo + 30) 55 8065 srd o).slots := by
          simp only [rP, rLs, prc]
          by_cases q : els = []
          · have := hb0 q
            have := hads.2 q
            omega
          · have := hb1 q
            omega
        refine cAdd ((cH k ah aw adr aim ard asc ath awl alo atr sh) ++ ((cR k ard s1) ++ [(qs, .inr (9, [.int (bz true), .ref ql]))])) (hL.ext np) (by omega) (fun y hy => (hel y hy).mono hsub2) (hel9.mono hsub) ⟨hx, hb, hml, hown, hts⟩ hOK hLs hz hS hA hP hD q1439 ⟨(by show 7 ≤ fr + 1; omega), (by show 251 ≤ lo + 30; omega)⟩ hl.1 (lv_room (Nat.le_of_ble_eq_true rfl)) ⟨by omega, by omega⟩ dX1_allOf_17 (fun w2 H locs hL2 hP hD hS => ?_)
        have hP : va_P D zCl ((cH k ah aw adr aim ard asc ath awl alo atr sh) ++ ((cR k ard s1) ++ ([(qs, .inr (9, [.int (bz true), .ref ql]))] ++ w2))) _ := hP
        have hD : va_D A ((cH k ah aw adr aim ard asc ath awl alo atr sh) ++ ((cR k ard s1) ++ ([(qs, .inr (9, [.int (bz true), .ref ql]))] ++ w2))) := hD
        refine lv_pop hx hb dX1_allOf_20 rfl ?_
        refine lv_aload_n hx hb dX1_allOf_21 rfl (lv_at hl 1 rfl) ?_
        refine va_get (ci := 1) (v := .ref (ard 0)) (C := RX1) (T := TX1) (N := 10) hx hb hts in_X1 hown hK hP 0 rfl rfl 4 (by decide) (hts _ q375) (fun _ h9 => h9) rfl dX1_allOf_22 ?_
        refine zldcw hx hb hown (sr17 hStr hz) dX1_allOf_25 ?_
        have hP : va_P D zCl ((cH k ah aw adr aim ard asc ath awl alo atr sh) ++ ((cR k ard s1) ++ ([(qs, .inr (9, [.int (bz true), .ref ql]))] ++ w2))) _ := hP
        have hD : va_D A ((cH k ah aw adr aim ard asc ath awl alo atr sh) ++ ((cR k ard s1) ++ ([(qs, .inr (9, [.int (bz true), .ref ql]))] ++ w2))) := hD
        refine cWV (cH k ah aw adr aim ard asc ath awl alo atr sh) (cR k ard s1) ([(qs, .inr (9, [.int (bz true), .ref ql]))] ++ w2) (As := [.ref (adK 17)]) (ci := 3) ⟨hx, hb, hml, hown, hts⟩ hOK hz hS hA hP hD (mtX3_passesM l D k ard Z hOK hStr hPv s1 17 _ s2 h5) (kX3_passes hts q1243 rfl rfl ⟨(by show 7 + 1 ≤ fr + 1; omega), (by show 8 + (2 + 11) + 340 ≤ lo + 30; omega)⟩) 0 rfl rfl rfl hl.1 rfl (lv_room (Nat.le_of_ble_eq_true rfl)) hroom dX1_allOf_28 (fun r_ w_ H locs hq hP hD hS => ?_)
        obtain ⟨rfl, rfl⟩ := hq
        have hP : va_P D zCl ((cH k ah aw adr aim ard asc ath awl alo atr sh) ++ ((cR k ard s2) ++ ([(qs, .inr (9, [.int (bz true), .ref ql]))] ++ w2))) _ := hP
        have hD : va_D A ((cH k ah aw adr aim ard asc ath awl alo atr sh) ++ ((cR k ard s2) ++ ([(qs, .inr (9, [.int (bz true), .ref ql]))] ++ w2))) := hD
        cases b with
        | true =>
          have hA7 : rA s1 + 3 ≤ rA s2 := hA5.1
          refine lv_if_ne (tgt := 9) hx hb dX1_allOf_31 (by decide) (fun _ => ?_) (fun c1 => absurd c1 (by decide))
          refine ih s2 (gs ++ [g]) (els ++ [qn]) (xs ++ np) w2 _ _ (mif_p rfl h2) hL2 ((hpw.imp fun x g h => cnAt.mono hsub2 _ _ _ _ (Nat.le_refl _) h).snoc (cnAt.mono hsub _ _ _ _ (Nat.le_refl _) hp)) (fun y hy => ?_) (by rw [List.length_append]; show rA srd + (els.length + 1) ≤ _; omega) (fun z => by simp at z) (fun _ => ?_) H locs hP hD hS ls hl
          · rcases List.mem_append.mp hy with h | h
            · exact (hel y h).mono hsub2
            · rw [List.mem_singleton.mp h]
              exact hel9.mono hsub
          · by_cases q : els = []
            · have := hb0 q
              have := hads.2 q
              omega
            · have := hb1 q
              omega
        | false =>
          refine lv_if_ne (tgt := 9) hx hb dX1_allOf_31 (by decide) (fun c1 => absurd rfl c1) (fun _ => ?_)
          have h2 := mif_n (by decide) h2
          cases h2
          have hrun := moxr hrun
          cases hrun
          refine lv_aload_n hx hb dX1_allOf_34 rfl (lv_at hl 0 rfl) ?_
          have hP : va_P D zCl (((cH k ah aw adr aim ard asc ath awl alo atr sh) ++ (cR k ard s2)) ++ ([(qs, .inr (9, [.int (bz true), .ref ql]))] ++ w2)) _ := hP
          have hD : va_D A (((cH k ah aw adr aim ard asc ath awl alo atr sh) ++ (cR k ard s2)) ++ ([(qs, .inr (9, [.int (bz true), .ref ql]))] ++ w2)) := hD
          have hwin : ∀ x ∈ w2, x ∈ [(qs, .inr (9, [.int (bz true), .ref ql]))] ++ w2 := fun x hx => List.mem_append_right _ hx
          refine W.widen (k := prc 50 55 srd (.inr (rowV true (gs ++ [g]), s2))) (n := prc 5500 8065 srd (.inr (rowV true (gs ++ [g]), s2))) hroom.1 hroom.2 ?_
          exact vx_ret (retW_a hx hb hr (Or.inl ⟨_, rfl⟩) hlocks hP hD hS ⟨_, _, qs, _, rfl, rfl, Or.inr (Or.inr (Or.inr ⟨true, ql, els ++ [qn], gs ++ [g], List.mem_append_left _ (List.mem_singleton.mpr rfl), hL2.fin hwin, ((hpw.imp fun x g h => cnAt.mono (fun y hy => hwin _ (hL2.sub _ (hsub2 y hy))) _ _ _ _ (Nat.le_refl _) h).snoc (cnAt.mono (fun y hy => hwin _ (hL2.sub _ (hsub y hy))) _ _ _ _ (Nat.le_refl _) hp)), rfl⟩)), ⟨9, _, _, List.mem_append_left _ (List.mem_singleton.mpr rfl), rfl, zN_of q2520 rfl⟩, rfl⟩ dX1_allOf_35)
  exact key mFU srd [] [] [] _ _ _ h1 (Or.inl ⟨rfl, 0, rfl⟩) pw.nil (fun y hy => by simp at hy) (by simp) (fun _ => by omega) (fun z => absurd rfl z) H locs hP hD hS ls hl
theorem kX1_cond {R : Room} {s : State} {args : Array Value} {own : String} {idx mc ms : Nat} {rm : Room} (hts : ∀ w ∈ lw_all, w.before args s = true) (hl : Cond.methodLink own idx yX1_cond ∈ lw_all) (hrc : rm.cells = mc) (hrs : rm.slots = ms) (hR : rm.frames + 1 ≤ R.frames ∧ 8 + (2 + 11) + rm.locals ≤ R.locals) : CallW R s args own RX1 idx yX1_cond cX1_cond 2 (some (.object "SaturdayKeep$Cond")) (ws_ yX1_cond cX1_cond 2 (some (.object "SaturdayKeep$Cond"))) rm mc ms 0 :=
  cwV 0 hts (lw_V hl q1330 qs26 q107 q1331) rfl hrc hrs (by decide +kernel) hR
set_option maxRecDepth 100000 in
theorem mtX1_cond (l : Launch) (D : va_G) (k : Nat → ClassId) (ah aw adr aim ard asc ath awl alo atr : Nat → Nat) (Z : zZ) (hOK6 : zOK D zCl (zTy6 k) Z) (hlt : l.stackTraces = false) (hTh : zTh Z) {adK adV : Nat → Nat} (hStr : zStr Z adK adV) (hPv : zPv Z) {e0 mi : Nat} (hLs : zLs Z e0 mi) {aF : Nat → Nat} {vq : Nat} (hVl : zVl k Z aF adK vq) (sh : Kp) (dp fr lo : Nat) (hfr : 12 ≤ fr) (hlo : 400 ≤ lo) (At : Rd → Option cnO) (hAt : CnC l D k ah aw adr aim ard asc ath awl alo atr Z e0 aF sh yX1_allOf cX1_allOf 2 dp fr lo 55 8065 At) : CnC l D k ah aw adr aim ard asc ath awl alo atr Z e0 aF sh yX1_cond cX1_cond 2 (dp + 1) (fr + 1) (lo + 30) 67 9680 (fX1_rowF At false 18) := by
  have hOK := zOK6 hOK6
  refine ⟨rowF_m hAt.1, fun srd o hrun => ?_⟩
  refine CtX.of (by decide) (Nat.le_of_ble_eq_true rfl) ?_
  intro p e9 s m args below meth c A hE hnoh hA hP hD hS hz ls hl
  obtain ⟨hx, hb, hr, hml, hown, hts, hlocks, hname⟩ := hE
  have hown : s.vm.findClass RX1 = some m.cls := hown
  have hK := hOK.1 _ _ _ hz
  have hN := hOK.2.1 _ _ _ hz
  have hl : lv_has ls 2 [(0, .ref (ah 0))] := hl
  unfold fX1_rowF at hrun
  obtain ⟨o1, h1, hrun⟩ := mox_s rfl hrun
  have hmo := rowL_m hAt.1 _ _ _ _ h1
  have hrd : rdO o = rdO o1 := by
    cases o1 with
    | inl E => have hrun := moxl hrun; cases hrun; rfl
    | inr q => have hrun := moxr hrun; cases hrun; rfl
  refine va_new (ci := 9) (fs := [.int 0, .null]) (C := RX10) (T := TX10) (N := 2) hx hb hts in_X10 tyX10 tyX10_ok hown (hts _ q1332) (hts _ q1333) (hts _ q136) hK hP hD hS hA rfl (zdef 2 tyX10) (by simp only [rP, rLs, prc, rdO]; omega) (by simp only [rP, rLs, prc, rdO]; omega) dX1_cond_0 (fun qs H hP hD hS => ?_)
  refine lv_dup hx hb dX1_cond_3 rfl ?_
  refine lv_iconst (v := bz false) hx hb dX1_cond_4 (by decide) ?_
  have hP : va_P D zCl (((cH k ah aw adr aim ard asc ath awl alo atr sh) ++ (cR k ard srd)) ++ ([(qs, .inr (9, [.int 0, .null]))] ++ [])) _ := hP
  have hD : va_D A (((cH k ah aw adr aim ard asc ath awl alo atr sh) ++ (cR k ard srd)) ++ ([(qs, .inr (9, [.int 0, .null]))] ++ [])) := hD
  refine cWI ((cH k ah aw adr aim ard asc ath awl alo atr sh) ++ (cR k ard srd)) [(qs, .inr (9, [.int 0, .null]))] [] (As := [.int (bz false)]) ⟨hx, hb, hml, hown, hts⟩ hOK hz hS hA hP hD (mtX10_init l D k Z hOK hLs qs false) (kX10_init hts q1334 rfl rfl ⟨(by show 4 + 1 ≤ fr + 1; omega), (by show 8 + (2 + 11) + 90 ≤ lo + 30; omega)⟩) rfl hl.1 rfl (lv_room (Nat.le_of_ble_eq_true rfl)) ⟨(by simp only [rP, rLs, prc, rdO]; omega), (by simp only [rP, rLs, prc, rdO]; omega)⟩ dX1_cond_5 (fun r_ w_ H locs hq hP hD hS => ?_)
  obtain ⟨ql, rfl, rfl⟩ := hq
  have hP : va_P D zCl ((cH k ah aw adr aim ard asc ath awl alo atr sh) ++ ((cR k ard srd) ++ ([(qs, .inr (9, [.int (bz false), .ref ql]))] ++ [lsO ql e0 0 0]))) _ := hP
  have hD : va_D A ((cH k ah aw adr aim ard asc ath awl alo atr sh) ++ ((cR k ard srd) ++ ([(qs, .inr (9, [.int (bz false), .ref ql]))] ++ [lsO ql e0 0 0]))) := hD
  refine lv_astore_n (lv' := [(1, .ref qs), (0, .ref (ah 0))]) hx hb dX1_cond_8 rfl hl (by decide) rfl (fun ls hl => ?_)
  have key : ∀ (n : Nat) (st : Rd) (gs : List (Sc → Bool)) (els : List Nat) (xs ww : va_W) (V U : Nat), fX1_rowL At 18 n st gs = some o1 → LC k e0 ql els xs ww → pw (cnAt k e0 aF xs dp) els gs → (∀ y ∈ els, elIn xs y) → rA srd + els.length ≤ rA st → (els = [] → V ≤ 2 + 50 * (rA st - rA srd) ∧ U ≤ 5 + 5500 * (rA st - rA srd)) → (els ≠ [] → V + 30 ≤ 2 + 50 * (rA st - rA srd) ∧ U + 1000 ≤ 5 + 5500 * (rA st - rA srd)) → ∀ (H : Heap) (locs : List Loc), va_P D zCl ((cH k ah aw adr aim ard asc ath awl alo atr sh) ++ ((cR k ard st) ++ ([(qs, .inr (9, [.int (bz false), .ref ql]))] ++ ww))) H → va_D A ((cH k ah aw adr aim ard asc ath awl alo atr sh) ++ ((cR k ard st) ++ ([(qs, .inr (9, [.int (bz false), .ref ql]))] ++ ww))) → va_S A s.heap H locs → ∀ ls : Array Slot, lv_has ls 2 [(1, .ref qs), (0, .ref (ah 0))] → W p l e9 (rP (fr + 1) (lo + 30) 67 9680 srd o) s m args below meth c H locs V U (vx_MQ below (QWr (fun r' w' => ∃ g ord q np, o = .inr (g, ord) ∧ r' = some (.ref q) ∧ cnAt k e0 aF np (dp + 1) q g ∧ elIn np q ∧ w' = (((cH k ah aw adr aim ard asc ath awl alo atr sh) ++ (cR k ard ord)) ++ np)) D zCl A) (QXr (fun E' w' => ∃ ord, o = .inl (E', ord) ∧ w' = ((cH k ah aw adr aim ard asc ath awl alo atr sh) ++ (cR k ard ord))) D zCl A) args s (prc 50 67 srd o) (prc 5500 9680 srd o) A) (F0 m 9 ls []) := by
    intro n
    induction n with
    | zero =>
      intro st gs els xs ww V U h2
      exact nomatch h2
    | succ n ih =>
      intro st gs els xs ww V U h2 hL hpw hel hlen hb0 hb1 H locs hP hD hS ls hl
      rw [fX1_rowL.eq_2] at h2
      obtain ⟨o2, h3, h2⟩ := mox_s rfl h2
      have hm2 := hAt.1 _ _ h3
      have hUV : V ≤ 2 + 50 * (rA st - rA srd) ∧ U ≤ 5 + 5500 * (rA st - rA srd) := by
        by_cases q : els = []
        · exact hb0 q
        · have := hb1 q; omega
      refine lv_aload_n hx hb dX1_cond_9 rfl (lv_at hl 0 rfl) ?_
      refine va_getN (ci := 9) (v := .ref ql) (C := RX10) (T := TX10) (N := 2) hx hb hts in_X10 hown hK hP 3 rfl rfl 1 (by decide) (va_Nw.use rfl (hN _ (zN_of q1342 rfl))) (fun _ h9 => h9) rfl dX1_cond_10 ?_
      refine lv_aload_n hx hb dX1_cond_13 rfl (lv_at hl 1 rfl) ?_
      have hP : va_P D zCl ([] ++ (((cH k ah aw adr aim ard asc ath awl alo atr sh) ++ (cR k ard st)) ++ ([(qs, .inr (9, [.int (bz false), .ref ql]))] ++ ww))) _ := hP
      have hD : va_D A ([] ++ (((cH k ah aw adr aim ard asc ath awl alo atr sh) ++ (cR k ard st)) ++ ([(qs, .inr (9, [.int (bz false), .ref ql]))] ++ ww))) := hD
      cases o2 with
      | inl E =>
        obtain ⟨E1, s1⟩ := E
        have h2 := moxl h2
        cases h2
        have hrun := moxl hrun
        cases hrun
        have hm2 : rA st ≤ rA s1 ∧ rA s1 ≤ 400 := hm2
        refine cXV [] ((cH k ah aw adr aim ard asc ath awl alo atr sh) ++ (cR k ard st)) ([(qs, .inr (9, [.int (bz false), .ref ql]))] ++ ww) (As := []) (ci := 1) ⟨hx, hb, hml, hown, hts⟩ hOK hz hS hA hP hD (hAt.2 st _ h3) (kX1_allOf hts q1348 rfl rfl ⟨(by show fr + 1 ≤ fr + 1; omega), (by show 8 + (2 + 11) + lo ≤ lo + 30; omega)⟩) 0 rfl rfl rfl hl.1 rfl (lv_room (Nat.le_of_ble_eq_true rfl)) ⟨(by simp only [rP, rLs, prc, rdO]; omega), (by simp only [rP, rLs, prc, rdO]; omega)⟩ dX1_cond_14 (fun E_ w_ ce_ q9_ H locs hq hP hD hS hce hcv hcl => ?_) (fun r_ w_ H locs hq hP hD hS => ?_)
        · obtain ⟨ord, he, rfl⟩ := hq
          cases he
          have hP : va_P D zCl (((cH k ah aw adr aim ard asc ath awl alo atr sh) ++ (cR k ard s1)) ++ ([(qs, .inr (9, [.int (bz false), .ref ql]))] ++ ww)) _ := hP
          have hD : va_D A (((cH k ah aw adr aim ard asc ath awl alo atr sh) ++ (cR k ard s1)) ++ ([(qs, .inr (9, [.int (bz false), .ref ql]))] ++ ww)) := hD
          have hP := zdropP (x := ((cH k ah aw adr aim ard asc ath awl alo atr sh) ++ (cR k ard s1))) (y := ([(qs, .inr (9, [.int (bz false), .ref ql]))] ++ ww)) hP
          have hD := zdropD (x := ((cH k ah aw adr aim ard asc ath awl alo atr sh) ++ (cR k ard s1))) (y := ([(qs, .inr (9, [.int (bz false), .ref ql]))] ++ ww)) hD
          exact zout hnoh hlocks hce hcv hcl hP hD hS ⟨_, rfl, rfl⟩ (by simp only [prc, rdO]; omega) (by simp only [prc, rdO]; omega)
        · obtain ⟨g, ord, q, np, he, rfl, hp, hel9, rfl⟩ := hq
          exact nomatch he
      | inr q =>
        obtain ⟨g, s1⟩ := q
        have h2 := moxr h2
        obtain ⟨b, s2, h4, h2⟩ := mo2_s rfl h2
        obtain ⟨h5, hA5⟩ := gPass_s h4
        have hm2 : rA st ≤ rA s1 ∧ rA s1 ≤ 400 := hm2
        have hA6 : rA s1 ≤ rA s2 := Nat.le_trans (Nat.le_add_right _ _) hA5.1
        have hm6 : rA s2 ≤ rA (rdO o1) := by
          cases b with
          | true => exact (rowL_m hAt.1 _ _ _ _ (mif_p rfl h2)).1
          | false => have h2 := mif_n (by decide) h2; cases h2; exact Nat.le_refl _
        have hRe : rA (rdO o) = rA (rdO o1) := by rw [hrd]
        refine cXV [] ((cH k ah aw adr aim ard asc ath awl alo atr sh) ++ (cR k ard st)) ([(qs, .inr (9, [.int (bz false), .ref ql]))] ++ ww) (As := []) (ci := 1) ⟨hx, hb, hml, hown, hts⟩ hOK hz hS hA hP hD (hAt.2 st _ h3) (kX1_allOf hts q1348 rfl rfl ⟨(by show fr + 1 ≤ fr + 1; omega), (by show 8 + (2 + 11) + lo ≤ lo + 30; omega)⟩) 0 rfl rfl rfl hl.1 rfl (lv_room (Nat.le_of_ble_eq_true rfl)) ⟨(by simp only [rP, rLs, prc]; show _ + (_ * (rA s1 - rA st) + _) ≤ _; omega), (by simp only [rP, rLs, prc]; show _ + (_ * (rA s1 - rA st) + _) ≤ _; omega)⟩ dX1_cond_14 (fun E_ w_ ce_ q9_ H locs hq hP hD hS hce hcv hcl => ?_) (fun r_ w_ H locs hq hP hD hS => ?_)
        · obtain ⟨ord, he, rfl⟩ := hq
          exact nomatch he
        obtain ⟨g9, ord, qn, np, he, rfl, hp, hel9, rfl⟩ := hq
        cases he
        refine W.widen (k := V + (50 * (rA s1 - rA st) + 55)) (n := U + (5500 * (rA s1 - rA st) + 8065)) (Nat.le_refl _) (Nat.le_refl _) ?_
        have hP : va_P D zCl (zcat [(cH k ah aw adr aim ard asc ath awl alo atr sh), (cR k ard s1), np, [(qs, .inr (9, [.int (bz false), .ref ql]))], ww]) _ := hP
        have hD : va_D A (zcat [(cH k ah aw adr aim ard asc ath awl alo atr sh), (cR k ard s1), np, [(qs, .inr (9, [.int (bz false), .ref ql]))], ww]) := hD
        have hP := zbP [(cH k ah aw adr aim ard asc ath awl alo atr sh), (cR k ard s1), np, [(qs, .inr (9, [.int (bz false), .ref ql]))], ww] 5 [0, 1, 3, 4, 2] hP rfl (by decide)
        have hD := zbD [(cH k ah aw adr aim ard asc ath awl alo atr sh), (cR k ard s1), np, [(qs, .inr (9, [.int (bz false), .ref ql]))], ww] 5 [0, 1, 3, 4, 2] hD rfl (by decide)
        have hP : va_P D zCl (((cH k ah aw adr aim ard asc ath awl alo atr sh) ++ ((cR k ard s1) ++ [(qs, .inr (9, [.int (bz false), .ref ql]))])) ++ (ww ++ np)) _ := hP
        have hD : va_D A (((cH k ah aw adr aim ard asc ath awl alo atr sh) ++ ((cR k ard s1) ++ [(qs, .inr (9, [.int (bz false), .ref ql]))])) ++ (ww ++ np)) := hD
        have hsub : ∀ x ∈ np, x ∈ xs ++ np := fun x hx => List.mem_append_right _ hx
        have hsub2 : ∀ x ∈ xs, x ∈ xs ++ np := fun x hx => List.mem_append_left _ hx
        have hads : adS els ≤ 602 ∧ (els = [] → adS els = 10) := by
          cases els with
          | nil => exact ⟨by decide, fun _ => rfl⟩
          | cons _ _ => exact ⟨Nat.le_refl _, fun z => nomatch z⟩
        have hroom : V + (50 * (rA s1 - rA st) + 55) + 1 + 9 ≤ (rP (fr + 1) (lo + 30) 67 9680 srd o).cells ∧ U + (5500 * (rA s1 - rA st) + 8065) + adS els + 1600 ≤ (rP (fr + 1) (lo + 30) 67 9680 srd o).slots := by
          simp only [rP, rLs, prc]
          by_cases q : els = []
          · have := hb0 q
            have := hads.2 q
            omega
          · have := hb1 q
            omega
        refine cAdd ((cH k ah aw adr aim ard asc ath awl alo atr sh) ++ ((cR k ard s1) ++ [(qs, .inr (9, [.int (bz false), .ref ql]))])) (hL.ext np) (by omega) (fun y hy => (hel y hy).mono hsub2) (hel9.mono hsub) ⟨hx, hb, hml, hown, hts⟩ hOK hLs hz hS hA hP hD q1439 ⟨(by show 7 ≤ fr + 1; omega), (by show 251 ≤ lo + 30; omega)⟩ hl.1 (lv_room (Nat.le_of_ble_eq_true rfl)) ⟨by omega, by omega⟩ dX1_cond_17 (fun w2 H locs hL2 hP hD hS => ?_)
        have hP : va_P D zCl ((cH k ah aw adr aim ard asc ath awl alo atr sh) ++ ((cR k ard s1) ++ ([(qs, .inr (9, [.int (bz false), .ref ql]))] ++ w2))) _ := hP
        have hD : va_D A ((cH k ah aw adr aim ard asc ath awl alo atr sh) ++ ((cR k ard s1) ++ ([(qs, .inr (9, [.int (bz false), .ref ql]))] ++ w2))) := hD
        refine lv_pop hx hb dX1_cond_20 rfl ?_
        refine lv_aload_n hx hb dX1_cond_21 rfl (lv_at hl 1 rfl) ?_
        refine va_get (ci := 1) (v := .ref (ard 0)) (C := RX1) (T := TX1) (N := 10) hx hb hts in_X1 hown hK hP 0 rfl rfl 4 (by decide) (hts _ q375) (fun _ h9 => h9) rfl dX1_cond_22 ?_
        refine zldcw hx hb hown (sr18 hStr hz) dX1_cond_25 ?_
        have hP : va_P D zCl ((cH k ah aw adr aim ard asc ath awl alo atr sh) ++ ((cR k ard s1) ++ ([(qs, .inr (9, [.int (bz false), .ref ql]))] ++ w2))) _ := hP
        have hD : va_D A ((cH k ah aw adr aim ard asc ath awl alo atr sh) ++ ((cR k ard s1) ++ ([(qs, .inr (9, [.int (bz false), .ref ql]))] ++ w2))) := hD
        refine cWV (cH k ah aw adr aim ard asc ath awl alo atr sh) (cR k ard s1) ([(qs, .inr (9, [.int (bz false), .ref ql]))] ++ w2) (As := [.ref (adK 18)]) (ci := 3) ⟨hx, hb, hml, hown, hts⟩ hOK hz hS hA hP hD (mtX3_passesM l D k ard Z hOK hStr hPv s1 18 _ s2 h5) (kX3_passes hts q1243 rfl rfl ⟨(by show 7 + 1 ≤ fr + 1; omega), (by show 8 + (2 + 11) + 340 ≤ lo + 30; omega)⟩) 0 rfl rfl rfl hl.1 rfl (lv_room (Nat.le_of_ble_eq_true rfl)) hroom dX1_cond_28 (fun r_ w_ H locs hq hP hD hS => ?_)
        obtain ⟨rfl, rfl⟩ := hq
        have hP : va_P D zCl ((cH k ah aw adr aim ard asc ath awl alo atr sh) ++ ((cR k ard s2) ++ ([(qs, .inr (9, [.int (bz false), .ref ql]))] ++ w2))) _ := hP
        have hD : va_D A ((cH k ah aw adr aim ard asc ath awl alo atr sh) ++ ((cR k ard s2) ++ ([(qs, .inr (9, [.int (bz false), .ref ql]))] ++ w2))) := hD
        cases b with
        | true =>
          have hA7 : rA s1 + 2 ≤ rA s2 := hA5.1
          refine lv_if_ne (tgt := 9) hx hb dX1_cond_31 (by decide) (fun _ => ?_) (fun c1 => absurd c1 (by decide))
          refine ih s2 (gs ++ [g]) (els ++ [qn]) (xs ++ np) w2 _ _ (mif_p rfl h2) hL2 ((hpw.imp fun x g h => cnAt.mono hsub2 _ _ _ _ (Nat.le_refl _) h).snoc (cnAt.mono hsub _ _ _ _ (Nat.le_refl _) hp)) (fun y hy => ?_) (by rw [List.length_append]; show rA srd + (els.length + 1) ≤ _; omega) (fun z => by simp at z) (fun _ => ?_) H locs hP hD hS ls hl
          · rcases List.mem_append.mp hy with h | h
            · exact (hel y h).mono hsub2
            · rw [List.mem_singleton.mp h]
              exact hel9.mono hsub
          · by_cases q : els = []
            · have := hb0 q
              have := hads.2 q
              omega
            · have := hb1 q
              omega
        | false =>
          refine lv_if_ne (tgt := 9) hx hb dX1_cond_31 (by decide) (fun c1 => absurd rfl c1) (fun _ => ?_)
          have h2 := mif_n (by decide) h2
          cases h2
          have hrun := moxr hrun
          cases hrun
          refine lv_aload_n hx hb dX1_cond_34 rfl (lv_at hl 0 rfl) ?_
          have hP : va_P D zCl (((cH k ah aw adr aim ard asc ath awl alo atr sh) ++ (cR k ard s2)) ++ ([(qs, .inr (9, [.int (bz false), .ref ql]))] ++ w2)) _ := hP
          have hD : va_D A (((cH k ah aw adr aim ard asc ath awl alo atr sh) ++ (cR k ard s2)) ++ ([(qs, .inr (9, [.int (bz false), .ref ql]))] ++ w2)) := hD
          have hwin : ∀ x ∈ w2, x ∈ [(qs, .inr (9, [.int (bz false), .ref ql]))] ++ w2 := fun x hx => List.mem_append_right _ hx
          refine W.widen (k := prc 50 67 srd (.inr (rowV false (gs ++ [g]), s2))) (n := prc 5500 9680 srd (.inr (rowV false (gs ++ [g]), s2))) hroom.1 hroom.2 ?_
          exact vx_ret (retW_a hx hb hr (Or.inl ⟨_, rfl⟩) hlocks hP hD hS ⟨_, _, qs, _, rfl, rfl, Or.inr (Or.inr (Or.inr ⟨false, ql, els ++ [qn], gs ++ [g], List.mem_append_left _ (List.mem_singleton.mpr rfl), hL2.fin hwin, ((hpw.imp fun x g h => cnAt.mono (fun y hy => hwin _ (hL2.sub _ (hsub2 y hy))) _ _ _ _ (Nat.le_refl _) h).snoc (cnAt.mono (fun y hy => hwin _ (hL2.sub _ (hsub y hy))) _ _ _ _ (Nat.le_refl _) hp)), rfl⟩)), ⟨9, _, _, List.mem_append_left _ (List.mem_singleton.mpr rfl), rfl, zN_of q2520 rfl⟩, rfl⟩ dX1_cond_35)
  exact key mFU srd [] [] [] _ _ _ h1 (Or.inl ⟨rfl, 0, rfl⟩) pw.nil (fun y hy => by simp at hy) (by simp) (fun _ => by omega) (fun z => absurd rfl z) H locs hP hD hS ls hl
