/-! THE LAW's TEXT: an atom -/
noncomputable def fX1_atomF (At Cn : Rd → Option cnO) (srd : Rd) : Option cnO :=
  mo2 (gSign srd (40 : Int32)) fun b s1 => if b = true then
      mox (gDeep s1) (fun E => some (.inl E)) fun s2 => mox (Cn s2) (fun E => some (.inl E)) fun q => mob (gUp q.2) fun s4 => mo2 (gSign s4 (41 : Int32)) fun b2 s5 => if b2 = true then some (.inr (q.1, s5)) else some (.inl ("SaturdayKeep$Wrong", s5))
    else mo2 (gPass s1 15) fun b2 s2 => if b2 = true then
      mox (gDeep s2) (fun E => some (.inl E)) fun s3 => mox (At s3) (fun E => some (.inl E)) fun q => mob (gUp q.2) fun s5 => some (.inr ((fun sc => !q.1 sc), s5))
    else mo2 (gPass s2 12) fun b3 s3 => if b3 = true then some (.inr ((fun sc => if true = true then sc_key sc else sc_eve sc), s3))
    else mo2 (gPass s3 16) fun b4 s4 => if b4 = true then some (.inr ((fun sc => if false = true then sc_key sc else sc_eve sc), s4))
    else mox (fX1_sum s4) (fun E => some (.inl E)) fun a => mo2 (gSign a.2 (60 : Int32)) fun b5 s6 => if b5 = true then
      mox (fX1_sum s6) (fun E => some (.inl E)) fun c => some (.inr ((fun sc => decide (a.1 sc < c.1 sc)), c.2))
    else mo2 (gSign s6 (62 : Int32)) fun b6 s7 => if b6 = true then
      mox (fX1_sum s7) (fun E => some (.inl E)) fun c => some (.inr ((fun sc => decide (c.1 sc < a.1 sc)), c.2))
    else some (.inl ("SaturdayKeep$Wrong", s7))
theorem atomF_m {At Cn : Rd → Option cnO} (hAm : ∀ (srd : Rd) (o : cnO), At srd = some o → rA srd ≤ rA (rdO o) ∧ rA (rdO o) ≤ 400) (hCm : ∀ (srd : Rd) (o : cnO), Cn srd = some o → rA srd ≤ rA (rdO o) ∧ rA (rdO o) ≤ 400) (srd : Rd) (o : cnO) (hrun : fX1_atomF At Cn srd = some o) : rA srd ≤ rA (rdO o) ∧ rA (rdO o) ≤ 400 := by
  unfold fX1_atomF at hrun
  obtain ⟨b1, s1, g1, hrun⟩ := mo2_s rfl hrun
  obtain ⟨g1, hA1⟩ := gSign_s g1
  cases b1 with
  | true =>
    have hrun := mif_p rfl hrun
    have hA1 : rA srd + 1 ≤ rA s1 ∧ rA s1 ≤ 400 := hA1
    obtain ⟨o2, h2, hrun⟩ := mox_s rfl hrun
    obtain ⟨h2, h2n, h2m⟩ := gDeep_s h2
    cases o2 with
    | inl E =>
      obtain ⟨E1, s2⟩ := E
      have hrun := moxl hrun
      have hAh2 : rA s1 ≤ rA s2 ∧ rA s2 ≤ 400 := h2n _ rfl
      cases hrun
      show rA srd ≤ rA s2 ∧ rA s2 ≤ 400
      omega
    | inr s2 =>
      have hrun := moxr hrun
      have hAh2 : rA s1 ≤ rA s2 ∧ rA s2 ≤ 400 := h2m _ rfl
      obtain ⟨o3, h3, hrun⟩ := mox_s rfl hrun
      have h3n := hCm _ _ h3
      cases o3 with
      | inl E =>
        obtain ⟨E1, s3⟩ := E
        have hrun := moxl hrun
        have hAh3 : rA s2 ≤ rA s3 ∧ rA s3 ≤ 400 := h3n
        cases hrun
        show rA srd ≤ rA s3 ∧ rA s3 ≤ 400
        omega
      | inr q =>
        obtain ⟨f3, s3⟩ := q
        have hrun := moxr hrun
        have hAh3 : rA s2 ≤ rA s3 ∧ rA s3 ≤ 400 := h3n
        obtain ⟨s4, g4, hrun⟩ := mob_s rfl hrun
        obtain ⟨g4, hA4⟩ := gUp_s g4
        have hA4 : rA s3 ≤ rA s4 ∧ rA s4 ≤ 400 := hA4
        obtain ⟨b5, s5, g5, hrun⟩ := mo2_s rfl hrun
        obtain ⟨g5, hA5⟩ := gSign_s g5
        cases b5 with
        | true =>
          have hrun := mif_p rfl hrun
          have hA5 : rA s4 + 1 ≤ rA s5 ∧ rA s5 ≤ 400 := hA5
          cases hrun
          show rA srd ≤ rA s5 ∧ rA s5 ≤ 400
          omega
        | false =>
          have hrun := mif_n (by decide) hrun
          have hA5 : rA s4 + 0 ≤ rA s5 ∧ rA s5 ≤ 400 := hA5
          cases hrun
          show rA srd ≤ rA s5 ∧ rA s5 ≤ 400
          omega
  | false =>
    have hrun := mif_n (by decide) hrun
    have hA1 : rA srd + 0 ≤ rA s1 ∧ rA s1 ≤ 400 := hA1
    obtain ⟨b2, s2, g2, hrun⟩ := mo2_s rfl hrun
    obtain ⟨g2, hA2⟩ := gPass_s g2
    cases b2 with
    | true =>
      have hrun := mif_p rfl hrun
      have hA2 : rA s1 + 3 ≤ rA s2 ∧ rA s2 ≤ 400 := hA2
      obtain ⟨o3, h3, hrun⟩ := mox_s rfl hrun
      obtain ⟨h3, h3n, h3m⟩ := gDeep_s h3
      cases o3 with
      | inl E =>
        obtain ⟨E1, s3⟩ := E
        have hrun := moxl hrun
        have hAh3 : rA s2 ≤ rA s3 ∧ rA s3 ≤ 400 := h3n _ rfl
        cases hrun
        show rA srd ≤ rA s3 ∧ rA s3 ≤ 400
        omega
      | inr s3 =>
        have hrun := moxr hrun
        have hAh3 : rA s2 ≤ rA s3 ∧ rA s3 ≤ 400 := h3m _ rfl
        obtain ⟨o4, h4, hrun⟩ := mox_s rfl hrun
        have h4n := hAm _ _ h4
        cases o4 with
        | inl E =>
          obtain ⟨E1, s4⟩ := E
          have hrun := moxl hrun
          have hAh4 : rA s3 ≤ rA s4 ∧ rA s4 ≤ 400 := h4n
          cases hrun
          show rA srd ≤ rA s4 ∧ rA s4 ≤ 400
          omega
        | inr q =>
          obtain ⟨f4, s4⟩ := q
          have hrun := moxr hrun
          have hAh4 : rA s3 ≤ rA s4 ∧ rA s4 ≤ 400 := h4n
          obtain ⟨s5, g5, hrun⟩ := mob_s rfl hrun
          obtain ⟨g5, hA5⟩ := gUp_s g5
          have hA5 : rA s4 ≤ rA s5 ∧ rA s5 ≤ 400 := hA5
          cases hrun
          show rA srd ≤ rA s5 ∧ rA s5 ≤ 400
          omega
    | false =>
      have hrun := mif_n (by decide) hrun
      have hA2 : rA s1 + 0 ≤ rA s2 ∧ rA s2 ≤ 400 := hA2
      obtain ⟨b3, s3, g3, hrun⟩ := mo2_s rfl hrun
      obtain ⟨g3, hA3⟩ := gPass_s g3
      cases b3 with
      | true =>
        have hrun := mif_p rfl hrun
        have hA3 : rA s2 + 3 ≤ rA s3 ∧ rA s3 ≤ 400 := hA3
        cases hrun
        show rA srd ≤ rA s3 ∧ rA s3 ≤ 400
        omega
      | false =>
        have hrun := mif_n (by decide) hrun
        have hA3 : rA s2 + 0 ≤ rA s3 ∧ rA s3 ≤ 400 := hA3
        obtain ⟨b4, s4, g4, hrun⟩ := mo2_s rfl hrun
        obtain ⟨g4, hA4⟩ := gPass_s g4
        cases b4 with
        | true =>
          have hrun := mif_p rfl hrun
          have hA4 : rA s3 + 3 ≤ rA s4 ∧ rA s4 ≤ 400 := hA4
          cases hrun
          show rA srd ≤ rA s4 ∧ rA s4 ≤ 400
          omega
        | false =>
          have hrun := mif_n (by decide) hrun
          have hA4 : rA s3 + 0 ≤ rA s4 ∧ rA s4 ≤ 400 := hA4
          obtain ⟨o5, h5, hrun⟩ := mox_s rfl hrun
          have h5n := sum_m h5
          cases o5 with
          | inl E =>
            obtain ⟨E1, s5⟩ := E
            have hrun := moxl hrun
            have hAh5 : rA s4 ≤ rA s5 ∧ rA s5 ≤ 400 := h5n
            cases hrun
            show rA srd ≤ rA s5 ∧ rA s5 ≤ 400
            omega
          | inr q =>
            obtain ⟨f5, s5⟩ := q
            have hrun := moxr hrun
            have hAh5 : rA s4 ≤ rA s5 ∧ rA s5 ≤ 400 := h5n
            obtain ⟨b6, s6, g6, hrun⟩ := mo2_s rfl hrun
            obtain ⟨g6, hA6⟩ := gSign_s g6
            cases b6 with
            | true =>
              have hrun := mif_p rfl hrun
              have hA6 : rA s5 + 1 ≤ rA s6 ∧ rA s6 ≤ 400 := hA6
              obtain ⟨o7, h7, hrun⟩ := mox_s rfl hrun
              have h7n := sum_m h7
              cases o7 with
              | inl E =>
                obtain ⟨E1, s7⟩ := E
                have hrun := moxl hrun
                have hAh7 : rA s6 ≤ rA s7 ∧ rA s7 ≤ 400 := h7n
                cases hrun
                show rA srd ≤ rA s7 ∧ rA s7 ≤ 400
                omega
              | inr q =>
                obtain ⟨f7, s7⟩ := q
                have hrun := moxr hrun
                have hAh7 : rA s6 ≤ rA s7 ∧ rA s7 ≤ 400 := h7n
                cases hrun
                show rA srd ≤ rA s7 ∧ rA s7 ≤ 400
                omega
            | false =>
              have hrun := mif_n (by decide) hrun
              have hA6 : rA s5 + 0 ≤ rA s6 ∧ rA s6 ≤ 400 := hA6
              obtain ⟨b7, s7, g7, hrun⟩ := mo2_s rfl hrun
              obtain ⟨g7, hA7⟩ := gSign_s g7
              cases b7 with
              | true =>
                have hrun := mif_p rfl hrun
                have hA7 : rA s6 + 1 ≤ rA s7 ∧ rA s7 ≤ 400 := hA7
                obtain ⟨o8, h8, hrun⟩ := mox_s rfl hrun
                have h8n := sum_m h8
                cases o8 with
                | inl E =>
                  obtain ⟨E1, s8⟩ := E
                  have hrun := moxl hrun
                  have hAh8 : rA s7 ≤ rA s8 ∧ rA s8 ≤ 400 := h8n
                  cases hrun
                  show rA srd ≤ rA s8 ∧ rA s8 ≤ 400
                  omega
                | inr q =>
                  obtain ⟨f8, s8⟩ := q
                  have hrun := moxr hrun
                  have hAh8 : rA s7 ≤ rA s8 ∧ rA s8 ≤ 400 := h8n
                  cases hrun
                  show rA srd ≤ rA s8 ∧ rA s8 ≤ 400
                  omega
              | false =>
                have hrun := mif_n (by decide) hrun
                have hA7 : rA s6 + 0 ≤ rA s7 ∧ rA s7 ≤ 400 := hA7
                cases hrun
                show rA srd ≤ rA s7 ∧ rA s7 ≤ 400
                omega
set_option maxRecDepth 100000 in
set_option maxHeartbeats 4000000 in
theorem mtX1_atomF (l : Launch) (D : va_G) (k : Nat → ClassId) (ah aw adr aim ard asc ath awl alo atr : Nat → Nat) (Z : zZ) (hOK6 : zOK D zCl (zTy6 k) Z) (hlt : l.stackTraces = false) (hTh : zTh Z) {adK adV : Nat → Nat} (hStr : zStr Z adK adV) (hPv : zPv Z) {e0 mi : Nat} (hLs : zLs Z e0 mi) {aF : Nat → Nat} {vq : Nat} (hVl : zVl k Z aF adK vq) (sh : Kp) (dp dA dC fr lo fA lA fC lC : Nat) (hfA : fA + 1 ≤ fr) (hfC : fC + 1 ≤ fr) (hfr : 12 ≤ fr) (hlA : 22 + lA ≤ lo) (hlC : 21 + lC ≤ lo) (hlo : 500 ≤ lo) (hdA : dA ≤ dp) (hdC : dC ≤ dp + 1) (At Cn : Rd → Option cnO) (hAt : CnC l D k ah aw adr aim ard asc ath awl alo atr Z e0 aF sh yX1_atom cX1_atom 3 dA fA lA 43 6450 At) (hCn : CnC l D k ah aw adr aim ard asc ath awl alo atr Z e0 aF sh yX1_cond cX1_cond 2 dC fC lC 67 9680 Cn) : CnC l D k ah aw adr aim ard asc ath awl alo atr Z e0 aF sh yX1_atom cX1_atom 3 (dp + 1) fr lo 43 6450 (fX1_atomF At Cn) := by
  have hOK := zOK6 hOK6
  refine ⟨atomF_m hAt.1 hCn.1, fun srd o hrun => ?_⟩
  have hAm := hAt.1
  have hCm := hCn.1
  unfold fX1_atomF at hrun
  obtain ⟨b1, s1, g1, hrun⟩ := mo2_s rfl hrun
  obtain ⟨g1, hA1⟩ := gSign_s g1
  cases b1 with
  | true =>
    have hrun := mif_p rfl hrun
    have hA1 : rA srd + 1 ≤ rA s1 ∧ rA s1 ≤ 400 := hA1
    obtain ⟨o2, h2, hrun⟩ := mox_s rfl hrun
    obtain ⟨h2, h2n, h2m⟩ := gDeep_s h2
    cases o2 with
    | inl E =>
      obtain ⟨E1, s2⟩ := E
      have hrun := moxl hrun
      have hAh2 : rA s1 ≤ rA s2 ∧ rA s2 ≤ 400 := h2n _ rfl
      cases hrun
      refine CtX.of (by decide) (Nat.le_of_ble_eq_true rfl) ?_
      intro p e9 s m args below meth c A hE hnoh hA hP hD hS hz ls hl
      obtain ⟨hx, hb, hr, hml, hown, hts, hlocks, hname⟩ := hE
      have hown : s.vm.findClass RX1 = some m.cls := hown
      have hK := hOK.1 _ _ _ hz
      have hN := hOK.2.1 _ _ _ hz
      have hl : lv_has ls 3 [(0, .ref (ah 0))] := hl
      refine lv_aload_n hx hb dX1_atom_0 rfl (lv_at hl 0 rfl) ?_
      refine va_get (ci := 1) (v := .ref (ard 0)) (C := RX1) (T := TX1) (N := 10) hx hb hts in_X1 hown hK hP 0 rfl rfl 4 (by decide) (hts _ q375) (fun _ h9 => h9) rfl dX1_atom_1 ?_
      refine lv_astore_n (lv' := [(1, .ref (ard 0)), (0, .ref (ah 0))]) hx hb dX1_atom_4 rfl hl (by decide) rfl (fun ls hl => ?_)
      refine lv_aload_n hx hb dX1_atom_5 rfl (lv_at hl 0 rfl) ?_
      refine lv_bipush (v := (40 : Int32)) hx hb dX1_atom_6 (by decide) ?_
      have hP : va_P D zCl ((cH k ah aw adr aim ard asc ath awl alo atr sh) ++ (cR k ard srd)) _ := hP
      have hD : va_D A ((cH k ah aw adr aim ard asc ath awl alo atr sh) ++ (cR k ard srd)) := hD
      refine cWVP (cH k ah aw adr aim ard asc ath awl alo atr sh) (cR k ard srd) (As := [.int (40 : Int32)]) (ci := 3) ⟨hx, hb, hml, hown, hts⟩ hOK hz hS hA hP hD (mtX3_sign l D k ard Z hOK srd 40 _ s1 g1) (kX3_sign hts q1262 rfl rfl ⟨(by show 2 + 1 ≤ fr; omega), (by show 8 + (2 + 11) + 41 ≤ lo; omega)⟩) 0 rfl rfl rfl hl.1 rfl (lv_room (Nat.le_of_ble_eq_true rfl)) ⟨(by simp only [rP, rLs, prc, rdO]; omega), (by simp only [rP, rLs, prc, rdO]; omega)⟩ dX1_atom_8 (fun r_ w_ H locs hq hP hD hS => ?_)
      obtain ⟨rfl, rfl⟩ := hq
      refine lv_if_eq (tgt := 43) hx hb dX1_atom_11 (by decide) (fun c1 => absurd c1 (by decide)) (fun _ => ?_)
      refine lv_aload_n hx hb dX1_atom_14 rfl (lv_at hl 0 rfl) ?_
      have hP : va_P D zCl ((cH k ah aw adr aim ard asc ath awl alo atr sh) ++ ((cR k ard s1) ++ [])) _ := hP
      have hD : va_D A ((cH k ah aw adr aim ard asc ath awl alo atr sh) ++ ((cR k ard s1) ++ [])) := hD
      refine cXV (cH k ah aw adr aim ard asc ath awl alo atr sh) (cR k ard s1) [] (As := []) (ci := 3) ⟨hx, hb, hml, hown, hts⟩ hOK hz hS hA hP hD (mtX3_goesDeeper l D k ard Z hOK hlt hTh s1 _ h2) (kX3_goesDeeper hts q1356 rfl rfl ⟨(by show 5 + 1 ≤ fr; omega), (by show 8 + (1 + 11) + 140 ≤ lo; omega)⟩) 0 rfl rfl rfl hl.1 rfl (lv_room (Nat.le_of_ble_eq_true rfl)) ⟨(by simp only [rP, rLs, prc, rdO]; omega), (by simp only [rP, rLs, prc, rdO]; omega)⟩ dX1_atom_15 (fun E_ w_ ce_ q9_ H locs hq hP hD hS hce hcv hcl => ?_) (fun r_ w_ H locs hq hP hD hS => ?_)
      · obtain ⟨ord, he, rfl⟩ := hq
        cases he
        exact zout hnoh hlocks hce hcv hcl (show va_P D zCl ((cH k ah aw adr aim ard asc ath awl alo atr sh) ++ (cR k ard s2)) _ from hP) (show va_D A ((cH k ah aw adr aim ard asc ath awl alo atr sh) ++ (cR k ard s2)) from hD) hS ⟨_, rfl, rfl⟩ (by simp only [prc, rdO]; omega) (by simp only [prc, rdO]; omega)
      · obtain ⟨ord, he, rfl, rfl⟩ := hq
        exact nomatch he
    | inr s2 =>
      have hrun := moxr hrun
      have hAh2 : rA s1 ≤ rA s2 ∧ rA s2 ≤ 400 := h2m _ rfl
      obtain ⟨o3, h3, hrun⟩ := mox_s rfl hrun
      have h3n := hCm _ _ h3
      cases o3 with
      | inl E =>
        obtain ⟨E1, s3⟩ := E
        have hrun := moxl hrun
        have hAh3 : rA s2 ≤ rA s3 ∧ rA s3 ≤ 400 := h3n
        cases hrun
        refine CtX.of (by decide) (Nat.le_of_ble_eq_true rfl) ?_
        intro p e9 s m args below meth c A hE hnoh hA hP hD hS hz ls hl
        obtain ⟨hx, hb, hr, hml, hown, hts, hlocks, hname⟩ := hE
        have hown : s.vm.findClass RX1 = some m.cls := hown
        have hK := hOK.1 _ _ _ hz
        have hN := hOK.2.1 _ _ _ hz
        have hl : lv_has ls 3 [(0, .ref (ah 0))] := hl
        refine lv_aload_n hx hb dX1_atom_0 rfl (lv_at hl 0 rfl) ?_
        refine va_get (ci := 1) (v := .ref (ard 0)) (C := RX1) (T := TX1) (N := 10) hx hb hts in_X1 hown hK hP 0 rfl rfl 4 (by decide) (hts _ q375) (fun _ h9 => h9) rfl dX1_atom_1 ?_
        refine lv_astore_n (lv' := [(1, .ref (ard 0)), (0, .ref (ah 0))]) hx hb dX1_atom_4 rfl hl (by decide) rfl (fun ls hl => ?_)
        refine lv_aload_n hx hb dX1_atom_5 rfl (lv_at hl 0 rfl) ?_
        refine lv_bipush (v := (40 : Int32)) hx hb dX1_atom_6 (by decide) ?_
        have hP : va_P D zCl ((cH k ah aw adr aim ard asc ath awl alo atr sh) ++ (cR k ard srd)) _ := hP
        have hD : va_D A ((cH k ah aw adr aim ard asc ath awl alo atr sh) ++ (cR k ard srd)) := hD
        refine cWVP (cH k ah aw adr aim ard asc ath awl alo atr sh) (cR k ard srd) (As := [.int (40 : Int32)]) (ci := 3) ⟨hx, hb, hml, hown, hts⟩ hOK hz hS hA hP hD (mtX3_sign l D k ard Z hOK srd 40 _ s1 g1) (kX3_sign hts q1262 rfl rfl ⟨(by show 2 + 1 ≤ fr; omega), (by show 8 + (2 + 11) + 41 ≤ lo; omega)⟩) 0 rfl rfl rfl hl.1 rfl (lv_room (Nat.le_of_ble_eq_true rfl)) ⟨(by simp only [rP, rLs, prc, rdO]; omega), (by simp only [rP, rLs, prc, rdO]; omega)⟩ dX1_atom_8 (fun r_ w_ H locs hq hP hD hS => ?_)
        obtain ⟨rfl, rfl⟩ := hq
        refine lv_if_eq (tgt := 43) hx hb dX1_atom_11 (by decide) (fun c1 => absurd c1 (by decide)) (fun _ => ?_)
        refine lv_aload_n hx hb dX1_atom_14 rfl (lv_at hl 0 rfl) ?_
        have hP : va_P D zCl ((cH k ah aw adr aim ard asc ath awl alo atr sh) ++ ((cR k ard s1) ++ [])) _ := hP
        have hD : va_D A ((cH k ah aw adr aim ard asc ath awl alo atr sh) ++ ((cR k ard s1) ++ [])) := hD
        refine cXV (cH k ah aw adr aim ard asc ath awl alo atr sh) (cR k ard s1) [] (As := []) (ci := 3) ⟨hx, hb, hml, hown, hts⟩ hOK hz hS hA hP hD (mtX3_goesDeeper l D k ard Z hOK hlt hTh s1 _ h2) (kX3_goesDeeper hts q1356 rfl rfl ⟨(by show 5 + 1 ≤ fr; omega), (by show 8 + (1 + 11) + 140 ≤ lo; omega)⟩) 0 rfl rfl rfl hl.1 rfl (lv_room (Nat.le_of_ble_eq_true rfl)) ⟨(by simp only [rP, rLs, prc, rdO]; omega), (by simp only [rP, rLs, prc, rdO]; omega)⟩ dX1_atom_15 (fun E_ w_ ce_ q9_ H locs hq hP hD hS hce hcv hcl => ?_) (fun r_ w_ H locs hq hP hD hS => ?_)
        · obtain ⟨ord, he, rfl⟩ := hq
          exact nomatch he
        obtain ⟨ord, he, rfl, rfl⟩ := hq
        cases he
        have hP : va_P D zCl ((cH k ah aw adr aim ard asc ath awl alo atr sh) ++ (cR k ard s2)) _ := hP
        have hD : va_D A ((cH k ah aw adr aim ard asc ath awl alo atr sh) ++ (cR k ard s2)) := hD
        refine lv_aload_n hx hb dX1_atom_18 rfl (lv_at hl 1 rfl) ?_
        have hP : va_P D zCl ((cH k ah aw adr aim ard asc ath awl alo atr sh) ++ (cR k ard s2)) _ := hP
        have hD : va_D A ((cH k ah aw adr aim ard asc ath awl alo atr sh) ++ (cR k ard s2)) := hD
        refine cXV0 (As := []) (ci := 1) ⟨hx, hb, hml, hown, hts⟩ hOK hz hS hA hP hD (hCn.2 s2 _ h3) (kX1_cond hts q1328 rfl rfl ⟨(by show fC + 1 ≤ fr; omega), (by show 8 + (2 + 11) + lC ≤ lo; omega)⟩) 0 rfl rfl rfl hl.1 rfl (lv_room (Nat.le_of_ble_eq_true rfl)) ⟨(by simp only [rP, rLs, prc]; show _ + (_ * (rA s3 - rA s2) + _) ≤ _ * (rA s3 - rA srd) + _; omega), (by simp only [rP, rLs, prc]; show _ + (_ * (rA s3 - rA s2) + _) ≤ _ * (rA s3 - rA srd) + _; omega)⟩ dX1_atom_19 (fun E_ w_ ce_ q9_ H locs hq hP hD hS hce hcv hcl => ?_) (fun r_ w_ H locs hq hP hD hS => ?_)
        · obtain ⟨ord, he, rfl⟩ := hq
          cases he
          exact zout hnoh hlocks hce hcv hcl hP hD hS ⟨_, rfl, rfl⟩ (by simp only [prc, rdO]; omega) (by simp only [prc, rdO]; omega)
        · obtain ⟨g, ord, q, n_, he, -⟩ := hq
          exact nomatch he
      | inr q =>
        obtain ⟨f3, s3⟩ := q
        have hrun := moxr hrun
        have hAh3 : rA s2 ≤ rA s3 ∧ rA s3 ≤ 400 := h3n
        obtain ⟨s4, g4, hrun⟩ := mob_s rfl hrun
        obtain ⟨g4, hA4⟩ := gUp_s g4
        have hA4 : rA s3 ≤ rA s4 ∧ rA s4 ≤ 400 := hA4
        obtain ⟨b5, s5, g5, hrun⟩ := mo2_s rfl hrun
        obtain ⟨g5, hA5⟩ := gSign_s g5
        cases b5 with
        | true =>
          have hrun := mif_p rfl hrun
          have hA5 : rA s4 + 1 ≤ rA s5 ∧ rA s5 ≤ 400 := hA5
          cases hrun
          refine CtX.of (by decide) (Nat.le_of_ble_eq_true rfl) ?_
          intro p e9 s m args below meth c A hE hnoh hA hP hD hS hz ls hl
          obtain ⟨hx, hb, hr, hml, hown, hts, hlocks, hname⟩ := hE
          have hown : s.vm.findClass RX1 = some m.cls := hown
          have hK := hOK.1 _ _ _ hz
          have hN := hOK.2.1 _ _ _ hz
          have hl : lv_has ls 3 [(0, .ref (ah 0))] := hl
          refine lv_aload_n hx hb dX1_atom_0 rfl (lv_at hl 0 rfl) ?_
          refine va_get (ci := 1) (v := .ref (ard 0)) (C := RX1) (T := TX1) (N := 10) hx hb hts in_X1 hown hK hP 0 rfl rfl 4 (by decide) (hts _ q375) (fun _ h9 => h9) rfl dX1_atom_1 ?_
          refine lv_astore_n (lv' := [(1, .ref (ard 0)), (0, .ref (ah 0))]) hx hb dX1_atom_4 rfl hl (by decide) rfl (fun ls hl => ?_)
          refine lv_aload_n hx hb dX1_atom_5 rfl (lv_at hl 0 rfl) ?_
          refine lv_bipush (v := (40 : Int32)) hx hb dX1_atom_6 (by decide) ?_
          have hP : va_P D zCl ((cH k ah aw adr aim ard asc ath awl alo atr sh) ++ (cR k ard srd)) _ := hP
          have hD : va_D A ((cH k ah aw adr aim ard asc ath awl alo atr sh) ++ (cR k ard srd)) := hD
          refine cWVP (cH k ah aw adr aim ard asc ath awl alo atr sh) (cR k ard srd) (As := [.int (40 : Int32)]) (ci := 3) ⟨hx, hb, hml, hown, hts⟩ hOK hz hS hA hP hD (mtX3_sign l D k ard Z hOK srd 40 _ s1 g1) (kX3_sign hts q1262 rfl rfl ⟨(by show 2 + 1 ≤ fr; omega), (by show 8 + (2 + 11) + 41 ≤ lo; omega)⟩) 0 rfl rfl rfl hl.1 rfl (lv_room (Nat.le_of_ble_eq_true rfl)) ⟨(by simp only [rP, rLs, prc, rdO]; omega), (by simp only [rP, rLs, prc, rdO]; omega)⟩ dX1_atom_8 (fun r_ w_ H locs hq hP hD hS => ?_)
          obtain ⟨rfl, rfl⟩ := hq
          refine lv_if_eq (tgt := 43) hx hb dX1_atom_11 (by decide) (fun c1 => absurd c1 (by decide)) (fun _ => ?_)
          refine lv_aload_n hx hb dX1_atom_14 rfl (lv_at hl 0 rfl) ?_
          have hP : va_P D zCl ((cH k ah aw adr aim ard asc ath awl alo atr sh) ++ ((cR k ard s1) ++ [])) _ := hP
          have hD : va_D A ((cH k ah aw adr aim ard asc ath awl alo atr sh) ++ ((cR k ard s1) ++ [])) := hD
          refine cXV (cH k ah aw adr aim ard asc ath awl alo atr sh) (cR k ard s1) [] (As := []) (ci := 3) ⟨hx, hb, hml, hown, hts⟩ hOK hz hS hA hP hD (mtX3_goesDeeper l D k ard Z hOK hlt hTh s1 _ h2) (kX3_goesDeeper hts q1356 rfl rfl ⟨(by show 5 + 1 ≤ fr; omega), (by show 8 + (1 + 11) + 140 ≤ lo; omega)⟩) 0 rfl rfl rfl hl.1 rfl (lv_room (Nat.le_of_ble_eq_true rfl)) ⟨(by simp only [rP, rLs, prc, rdO]; omega), (by simp only [rP, rLs, prc, rdO]; omega)⟩ dX1_atom_15 (fun E_ w_ ce_ q9_ H locs hq hP hD hS hce hcv hcl => ?_) (fun r_ w_ H locs hq hP hD hS => ?_)
          · obtain ⟨ord, he, rfl⟩ := hq
            exact nomatch he
          obtain ⟨ord, he, rfl, rfl⟩ := hq
          cases he
          have hP : va_P D zCl ((cH k ah aw adr aim ard asc ath awl alo atr sh) ++ (cR k ard s2)) _ := hP
          have hD : va_D A ((cH k ah aw adr aim ard asc ath awl alo atr sh) ++ (cR k ard s2)) := hD
          refine lv_aload_n hx hb dX1_atom_18 rfl (lv_at hl 1 rfl) ?_
          have hP : va_P D zCl ((cH k ah aw adr aim ard asc ath awl alo atr sh) ++ (cR k ard s2)) _ := hP
          have hD : va_D A ((cH k ah aw adr aim ard asc ath awl alo atr sh) ++ (cR k ard s2)) := hD
          refine cXV0 (As := []) (ci := 1) ⟨hx, hb, hml, hown, hts⟩ hOK hz hS hA hP hD (hCn.2 s2 _ h3) (kX1_cond hts q1328 rfl rfl ⟨(by show fC + 1 ≤ fr; omega), (by show 8 + (2 + 11) + lC ≤ lo; omega)⟩) 0 rfl rfl rfl hl.1 rfl (lv_room (Nat.le_of_ble_eq_true rfl)) ⟨(by simp only [rP, rLs, prc]; show _ + (_ * (rA s3 - rA s2) + _) ≤ _ * (rA s5 - rA srd) + _; omega), (by simp only [rP, rLs, prc]; show _ + (_ * (rA s3 - rA s2) + _) ≤ _ * (rA s5 - rA srd) + _; omega)⟩ dX1_atom_19 (fun E_ w_ ce_ q9_ H locs hq hP hD hS hce hcv hcl => ?_) (fun r_ w_ H locs hq hP hD hS => ?_)
          · obtain ⟨ord, he, rfl⟩ := hq
            exact nomatch he
          obtain ⟨g_, ord, qn, np, he, rfl, hp, hel9, rfl⟩ := hq
          cases he
          refine W.widen (k := 1 + 50 * (rA s3 - rA s2) + 67) (n := 6 + 5500 * (rA s3 - rA s2) + 9680) (by simp only [prc]; show _ + (_ * (rA s3 - rA s2) + _) ≤ _; omega) (by simp only [prc]; show _ + (_ * (rA s3 - rA s2) + _) ≤ _; omega) ?_
          refine lv_astore_n (lv' := [(2, .ref qn), (1, .ref (ard 0)), (0, .ref (ah 0))]) hx hb dX1_atom_22 rfl hl (by decide) rfl (fun ls hl => ?_)
          refine lv_aload_n hx hb dX1_atom_23 rfl (lv_at hl 1 rfl) ?_
          have hP : va_P D zCl ((cH k ah aw adr aim ard asc ath awl alo atr sh) ++ ((cR k ard s3) ++ np)) _ := hP
          have hD : va_D A ((cH k ah aw adr aim ard asc ath awl alo atr sh) ++ ((cR k ard s3) ++ np)) := hD
          refine cWV (cH k ah aw adr aim ard asc ath awl alo atr sh) (cR k ard s3) np (As := []) (ci := 3) ⟨hx, hb, hml, hown, hts⟩ hOK hz hS hA hP hD (mtX3_comesUp l D k ard Z hOK s3 s4 g4) (kX3_comesUp hts q1360 rfl rfl ⟨(by show 0 + 1 ≤ fr; omega), (by show 8 + (1 + 11) + 0 ≤ lo; omega)⟩) 0 rfl rfl rfl hl.1 rfl (lv_room (Nat.le_of_ble_eq_true rfl)) ⟨(by simp only [rP, rLs, prc, rdO]; omega), (by simp only [rP, rLs, prc, rdO]; omega)⟩ dX1_atom_24 (fun r_ w_ H locs hq hP hD hS => ?_)
          obtain ⟨rfl, rfl⟩ := hq
          refine lv_aload_n hx hb dX1_atom_27 rfl (lv_at hl 1 rfl) ?_
          refine lv_bipush (v := (41 : Int32)) hx hb dX1_atom_28 (by decide) ?_
          have hP : va_P D zCl ((cH k ah aw adr aim ard asc ath awl alo atr sh) ++ ((cR k ard s4) ++ np)) _ := hP
          have hD : va_D A ((cH k ah aw adr aim ard asc ath awl alo atr sh) ++ ((cR k ard s4) ++ np)) := hD
          refine cWV (cH k ah aw adr aim ard asc ath awl alo atr sh) (cR k ard s4) np (As := [.int (41 : Int32)]) (ci := 3) ⟨hx, hb, hml, hown, hts⟩ hOK hz hS hA hP hD (mtX3_sign l D k ard Z hOK s4 41 _ s5 g5) (kX3_sign hts q1262 rfl rfl ⟨(by show 2 + 1 ≤ fr; omega), (by show 8 + (2 + 11) + 41 ≤ lo; omega)⟩) 0 rfl rfl rfl hl.1 rfl (lv_room (Nat.le_of_ble_eq_true rfl)) ⟨(by simp only [rP, rLs, prc, rdO]; omega), (by simp only [rP, rLs, prc, rdO]; omega)⟩ dX1_atom_30 (fun r_ w_ H locs hq hP hD hS => ?_)
          obtain ⟨rfl, rfl⟩ := hq
          refine lv_if_ne (tgt := 41) hx hb dX1_atom_33 (by decide) (fun _ => ?_) (fun c1 => absurd c1 (by decide))
          refine lv_aload_n hx hb dX1_atom_41 rfl (lv_at hl 0 rfl) ?_
          have hP : va_P D zCl (((cH k ah aw adr aim ard asc ath awl alo atr sh) ++ (cR k ard s5)) ++ np) _ := hP
          have hD : va_D A (((cH k ah aw adr aim ard asc ath awl alo atr sh) ++ (cR k ard s5)) ++ np) := hD
          refine widX (by simp only [prc, rdO]; omega) (by simp only [prc, rdO]; omega) ?_
          exact vx_ret (retW_a hx hb hr (Or.inl ⟨_, rfl⟩) hlocks hP hD hS ⟨_, _, qn, np, rfl, rfl, cnAt.mono (fun x h => h) _ _ _ _ hdC hp, hel9, rfl⟩ dX1_atom_42)
        | false =>
          have hrun := mif_n (by decide) hrun
          have hA5 : rA s4 + 0 ≤ rA s5 ∧ rA s5 ≤ 400 := hA5
          cases hrun
          refine CtX.of (by decide) (Nat.le_of_ble_eq_true rfl) ?_
          intro p e9 s m args below meth c A hE hnoh hA hP hD hS hz ls hl
          obtain ⟨hx, hb, hr, hml, hown, hts, hlocks, hname⟩ := hE
          have hown : s.vm.findClass RX1 = some m.cls := hown
          have hK := hOK.1 _ _ _ hz
          have hN := hOK.2.1 _ _ _ hz
          have hl : lv_has ls 3 [(0, .ref (ah 0))] := hl
          refine lv_aload_n hx hb dX1_atom_0 rfl (lv_at hl 0 rfl) ?_
          refine va_get (ci := 1) (v := .ref (ard 0)) (C := RX1) (T := TX1) (N := 10) hx hb hts in_X1 hown hK hP 0 rfl rfl 4 (by decide) (hts _ q375) (fun _ h9 => h9) rfl dX1_atom_1 ?_
          refine lv_astore_n (lv' := [(1, .ref (ard 0)), (0, .ref (ah 0))]) hx hb dX1_atom_4 rfl hl (by decide) rfl (fun ls hl => ?_)
          refine lv_aload_n hx hb dX1_atom_5 rfl (lv_at hl 0 rfl) ?_
          refine lv_bipush (v := (40 : Int32)) hx hb dX1_atom_6 (by decide) ?_
          have hP : va_P D zCl ((cH k ah aw adr aim ard asc ath awl alo atr sh) ++ (cR k ard srd)) _ := hP
          have hD : va_D A ((cH k ah aw adr aim ard asc ath awl alo atr sh) ++ (cR k ard srd)) := hD
          refine cWVP (cH k ah aw adr aim ard asc ath awl alo atr sh) (cR k ard srd) (As := [.int (40 : Int32)]) (ci := 3) ⟨hx, hb, hml, hown, hts⟩ hOK hz hS hA hP hD (mtX3_sign l D k ard Z hOK srd 40 _ s1 g1) (kX3_sign hts q1262 rfl rfl ⟨(by show 2 + 1 ≤ fr; omega), (by show 8 + (2 + 11) + 41 ≤ lo; omega)⟩) 0 rfl rfl rfl hl.1 rfl (lv_room (Nat.le_of_ble_eq_true rfl)) ⟨(by simp only [rP, rLs, prc, rdO]; omega), (by simp only [rP, rLs, prc, rdO]; omega)⟩ dX1_atom_8 (fun r_ w_ H locs hq hP hD hS => ?_)
          obtain ⟨rfl, rfl⟩ := hq
          refine lv_if_eq (tgt := 43) hx hb dX1_atom_11 (by decide) (fun c1 => absurd c1 (by decide)) (fun _ => ?_)
          refine lv_aload_n hx hb dX1_atom_14 rfl (lv_at hl 0 rfl) ?_
          have hP : va_P D zCl ((cH k ah aw adr aim ard asc ath awl alo atr sh) ++ ((cR k ard s1) ++ [])) _ := hP
          have hD : va_D A ((cH k ah aw adr aim ard asc ath awl alo atr sh) ++ ((cR k ard s1) ++ [])) := hD
          refine cXV (cH k ah aw adr aim ard asc ath awl alo atr sh) (cR k ard s1) [] (As := []) (ci := 3) ⟨hx, hb, hml, hown, hts⟩ hOK hz hS hA hP hD (mtX3_goesDeeper l D k ard Z hOK hlt hTh s1 _ h2) (kX3_goesDeeper hts q1356 rfl rfl ⟨(by show 5 + 1 ≤ fr; omega), (by show 8 + (1 + 11) + 140 ≤ lo; omega)⟩) 0 rfl rfl rfl hl.1 rfl (lv_room (Nat.le_of_ble_eq_true rfl)) ⟨(by simp only [rP, rLs, prc, rdO]; omega), (by simp only [rP, rLs, prc, rdO]; omega)⟩ dX1_atom_15 (fun E_ w_ ce_ q9_ H locs hq hP hD hS hce hcv hcl => ?_) (fun r_ w_ H locs hq hP hD hS => ?_)
          · obtain ⟨ord, he, rfl⟩ := hq
            exact nomatch he
          obtain ⟨ord, he, rfl, rfl⟩ := hq
          cases he
          have hP : va_P D zCl ((cH k ah aw adr aim ard asc ath awl alo atr sh) ++ (cR k ard s2)) _ := hP
          have hD : va_D A ((cH k ah aw adr aim ard asc ath awl alo atr sh) ++ (cR k ard s2)) := hD
          refine lv_aload_n hx hb dX1_atom_18 rfl (lv_at hl 1 rfl) ?_
          have hP : va_P D zCl ((cH k ah aw adr aim ard asc ath awl alo atr sh) ++ (cR k ard s2)) _ := hP
          have hD : va_D A ((cH k ah aw adr aim ard asc ath awl alo atr sh) ++ (cR k ard s2)) := hD
          refine cXV0 (As := []) (ci := 1) ⟨hx, hb, hml, hown, hts⟩ hOK hz hS hA hP hD (hCn.2 s2 _ h3) (kX1_cond hts q1328 rfl rfl ⟨(by show fC + 1 ≤ fr; omega), (by show 8 + (2 + 11) + lC ≤ lo; omega)⟩) 0 rfl rfl rfl hl.1 rfl (lv_room (Nat.le_of_ble_eq_true rfl)) ⟨(by simp only [rP, rLs, prc]; show _ + (_ * (rA s3 - rA s2) + _) ≤ _ * (rA s5 - rA srd) + _; omega), (by simp only [rP, rLs, prc]; show _ + (_ * (rA s3 - rA s2) + _) ≤ _ * (rA s5 - rA srd) + _; omega)⟩ dX1_atom_19 (fun E_ w_ ce_ q9_ H locs hq hP hD hS hce hcv hcl => ?_) (fun r_ w_ H locs hq hP hD hS => ?_)
          · obtain ⟨ord, he, rfl⟩ := hq
            exact nomatch he
          obtain ⟨g_, ord, qn, np, he, rfl, hp, hel9, rfl⟩ := hq
          cases he
          refine W.widen (k := 1 + 50 * (rA s3 - rA s2) + 67) (n := 6 + 5500 * (rA s3 - rA s2) + 9680) (by simp only [prc]; show _ + (_ * (rA s3 - rA s2) + _) ≤ _; omega) (by simp only [prc]; show _ + (_ * (rA s3 - rA s2) + _) ≤ _; omega) ?_
          refine lv_astore_n (lv' := [(2, .ref qn), (1, .ref (ard 0)), (0, .ref (ah 0))]) hx hb dX1_atom_22 rfl hl (by decide) rfl (fun ls hl => ?_)
          refine lv_aload_n hx hb dX1_atom_23 rfl (lv_at hl 1 rfl) ?_
          have hP : va_P D zCl ((cH k ah aw adr aim ard asc ath awl alo atr sh) ++ ((cR k ard s3) ++ np)) _ := hP
          have hD : va_D A ((cH k ah aw adr aim ard asc ath awl alo atr sh) ++ ((cR k ard s3) ++ np)) := hD
          refine cWV (cH k ah aw adr aim ard asc ath awl alo atr sh) (cR k ard s3) np (As := []) (ci := 3) ⟨hx, hb, hml, hown, hts⟩ hOK hz hS hA hP hD (mtX3_comesUp l D k ard Z hOK s3 s4 g4) (kX3_comesUp hts q1360 rfl rfl ⟨(by show 0 + 1 ≤ fr; omega), (by show 8 + (1 + 11) + 0 ≤ lo; omega)⟩) 0 rfl rfl rfl hl.1 rfl (lv_room (Nat.le_of_ble_eq_true rfl)) ⟨(by simp only [rP, rLs, prc, rdO]; omega), (by simp only [rP, rLs, prc, rdO]; omega)⟩ dX1_atom_24 (fun r_ w_ H locs hq hP hD hS => ?_)
          obtain ⟨rfl, rfl⟩ := hq
          refine lv_aload_n hx hb dX1_atom_27 rfl (lv_at hl 1 rfl) ?_
          refine lv_bipush (v := (41 : Int32)) hx hb dX1_atom_28 (by decide) ?_
          have hP : va_P D zCl ((cH k ah aw adr aim ard asc ath awl alo atr sh) ++ ((cR k ard s4) ++ np)) _ := hP
          have hD : va_D A ((cH k ah aw adr aim ard asc ath awl alo atr sh) ++ ((cR k ard s4) ++ np)) := hD
          refine cWV (cH k ah aw adr aim ard asc ath awl alo atr sh) (cR k ard s4) np (As := [.int (41 : Int32)]) (ci := 3) ⟨hx, hb, hml, hown, hts⟩ hOK hz hS hA hP hD (mtX3_sign l D k ard Z hOK s4 41 _ s5 g5) (kX3_sign hts q1262 rfl rfl ⟨(by show 2 + 1 ≤ fr; omega), (by show 8 + (2 + 11) + 41 ≤ lo; omega)⟩) 0 rfl rfl rfl hl.1 rfl (lv_room (Nat.le_of_ble_eq_true rfl)) ⟨(by simp only [rP, rLs, prc, rdO]; omega), (by simp only [rP, rLs, prc, rdO]; omega)⟩ dX1_atom_30 (fun r_ w_ H locs hq hP hD hS => ?_)
          obtain ⟨rfl, rfl⟩ := hq
          refine lv_if_ne (tgt := 41) hx hb dX1_atom_33 (by decide) (fun c1 => absurd rfl c1) (fun _ => ?_)
          refine lv_aload_n hx hb dX1_atom_36 rfl (lv_at hl 1 rfl) ?_
          have hP : va_P D zCl ((cH k ah aw adr aim ard asc ath awl alo atr sh) ++ ((cR k ard s5) ++ np)) _ := hP
          have hD : va_D A ((cH k ah aw adr aim ard asc ath awl alo atr sh) ++ ((cR k ard s5) ++ np)) := hD
          refine cWV (cH k ah aw adr aim ard asc ath awl alo atr sh) (cR k ard s5) np (As := []) (ci := 3) ⟨hx, hb, hml, hown, hts⟩ hOK hz hS hA hP hD (mtX3_wrongR l D k Z hOK hTh ard s5) (kX3_wrong hts q1113 rfl rfl ⟨(by show 4 + 1 ≤ fr; omega), (by show 8 + (1 + 11) + 120 ≤ lo; omega)⟩) 0 rfl rfl rfl hl.1 rfl (lv_room (Nat.le_of_ble_eq_true rfl)) ⟨(by simp only [rP, rLs, prc, rdO]; omega), (by simp only [rP, rLs, prc, rdO]; omega)⟩ dX1_atom_37 (fun r_ w_ H locs hq hP hD hS => ?_)
          obtain ⟨qw_, rfl, rfl⟩ := hq
          obtain ⟨ce_, hce_, hcv_, hcl_⟩ := zWr hK hP 3 rfl
          refine vx_athrow hx hb dX1_atom_40 ?_
          have hP := hP.sub (ws' := ((cH k ah aw adr aim ard asc ath awl alo atr sh) ++ (cR k ard s5))) [0, 1, 2] rfl
          have hD := hD.sub (ws' := ((cH k ah aw adr aim ard asc ath awl alo atr sh) ++ (cR k ard s5))) [0, 1, 2] (by decide) rfl
          exact zout hnoh hlocks hce_ hcv_ hcl_ hP hD hS ⟨_, rfl, rfl⟩ (by simp only [prc, rdO]; omega) (by simp only [prc, rdO]; omega)
  | false =>
    have hrun := mif_n (by decide) hrun
    have hA1 : rA srd + 0 ≤ rA s1 ∧ rA s1 ≤ 400 := hA1
    obtain ⟨b2, s2, g2, hrun⟩ := mo2_s rfl hrun
    obtain ⟨g2, hA2⟩ := gPass_s g2
    cases b2 with
    | true =>
      have hrun := mif_p rfl hrun
      have hA2 : rA s1 + 3 ≤ rA s2 ∧ rA s2 ≤ 400 := hA2
      obtain ⟨o3, h3, hrun⟩ := mox_s rfl hrun
      obtain ⟨h3, h3n, h3m⟩ := gDeep_s h3
      cases o3 with
      | inl E =>
        obtain ⟨E1, s3⟩ := E
        have hrun := moxl hrun
        have hAh3 : rA s2 ≤ rA s3 ∧ rA s3 ≤ 400 := h3n _ rfl
        cases hrun
        refine CtX.of (by decide) (Nat.le_of_ble_eq_true rfl) ?_
        intro p e9 s m args below meth c A hE hnoh hA hP hD hS hz ls hl
        obtain ⟨hx, hb, hr, hml, hown, hts, hlocks, hname⟩ := hE
        have hown : s.vm.findClass RX1 = some m.cls := hown
        have hK := hOK.1 _ _ _ hz
        have hN := hOK.2.1 _ _ _ hz
        have hl : lv_has ls 3 [(0, .ref (ah 0))] := hl
        refine lv_aload_n hx hb dX1_atom_0 rfl (lv_at hl 0 rfl) ?_
        refine va_get (ci := 1) (v := .ref (ard 0)) (C := RX1) (T := TX1) (N := 10) hx hb hts in_X1 hown hK hP 0 rfl rfl 4 (by decide) (hts _ q375) (fun _ h9 => h9) rfl dX1_atom_1 ?_
        refine lv_astore_n (lv' := [(1, .ref (ard 0)), (0, .ref (ah 0))]) hx hb dX1_atom_4 rfl hl (by decide) rfl (fun ls hl => ?_)
        refine lv_aload_n hx hb dX1_atom_5 rfl (lv_at hl 0 rfl) ?_
        refine lv_bipush (v := (40 : Int32)) hx hb dX1_atom_6 (by decide) ?_
        have hP : va_P D zCl ((cH k ah aw adr aim ard asc ath awl alo atr sh) ++ (cR k ard srd)) _ := hP
        have hD : va_D A ((cH k ah aw adr aim ard asc ath awl alo atr sh) ++ (cR k ard srd)) := hD
        refine cWVP (cH k ah aw adr aim ard asc ath awl alo atr sh) (cR k ard srd) (As := [.int (40 : Int32)]) (ci := 3) ⟨hx, hb, hml, hown, hts⟩ hOK hz hS hA hP hD (mtX3_sign l D k ard Z hOK srd 40 _ s1 g1) (kX3_sign hts q1262 rfl rfl ⟨(by show 2 + 1 ≤ fr; omega), (by show 8 + (2 + 11) + 41 ≤ lo; omega)⟩) 0 rfl rfl rfl hl.1 rfl (lv_room (Nat.le_of_ble_eq_true rfl)) ⟨(by simp only [rP, rLs, prc, rdO]; omega), (by simp only [rP, rLs, prc, rdO]; omega)⟩ dX1_atom_8 (fun r_ w_ H locs hq hP hD hS => ?_)
        obtain ⟨rfl, rfl⟩ := hq
        refine lv_if_eq (tgt := 43) hx hb dX1_atom_11 (by decide) (fun _ => ?_) (fun c1 => absurd rfl c1)
        refine lv_aload_n hx hb dX1_atom_43 rfl (lv_at hl 0 rfl) ?_
        refine zldcw hx hb hown (sr15 hStr hz) dX1_atom_44 ?_
        have hP : va_P D zCl ((cH k ah aw adr aim ard asc ath awl alo atr sh) ++ (cR k ard s1)) _ := hP
        have hD : va_D A ((cH k ah aw adr aim ard asc ath awl alo atr sh) ++ (cR k ard s1)) := hD
        refine cWVP (cH k ah aw adr aim ard asc ath awl alo atr sh) (cR k ard s1) (As := [.ref (adK 15)]) (ci := 3) ⟨hx, hb, hml, hown, hts⟩ hOK hz hS hA hP hD (mtX3_passesM l D k ard Z hOK hStr hPv s1 15 _ s2 g2) (kX3_passes hts q1243 rfl rfl ⟨(by show 7 + 1 ≤ fr; omega), (by show 8 + (2 + 11) + 340 ≤ lo; omega)⟩) 0 rfl rfl rfl hl.1 rfl (lv_room (Nat.le_of_ble_eq_true rfl)) ⟨(by simp only [rP, rLs, prc, rdO]; omega), (by simp only [rP, rLs, prc, rdO]; omega)⟩ dX1_atom_47 (fun r_ w_ H locs hq hP hD hS => ?_)
        obtain ⟨rfl, rfl⟩ := hq
        refine lv_if_eq (tgt := 75) hx hb dX1_atom_50 (by decide) (fun c1 => absurd c1 (by decide)) (fun _ => ?_)
        refine lv_aload_n hx hb dX1_atom_53 rfl (lv_at hl 0 rfl) ?_
        have hP : va_P D zCl ((cH k ah aw adr aim ard asc ath awl alo atr sh) ++ ((cR k ard s2) ++ [])) _ := hP
        have hD : va_D A ((cH k ah aw adr aim ard asc ath awl alo atr sh) ++ ((cR k ard s2) ++ [])) := hD
        refine cXV (cH k ah aw adr aim ard asc ath awl alo atr sh) (cR k ard s2) [] (As := []) (ci := 3) ⟨hx, hb, hml, hown, hts⟩ hOK hz hS hA hP hD (mtX3_goesDeeper l D k ard Z hOK hlt hTh s2 _ h3) (kX3_goesDeeper hts q1356 rfl rfl ⟨(by show 5 + 1 ≤ fr; omega), (by show 8 + (1 + 11) + 140 ≤ lo; omega)⟩) 0 rfl rfl rfl hl.1 rfl (lv_room (Nat.le_of_ble_eq_true rfl)) ⟨(by simp only [rP, rLs, prc, rdO]; omega), (by simp only [rP, rLs, prc, rdO]; omega)⟩ dX1_atom_54 (fun E_ w_ ce_ q9_ H locs hq hP hD hS hce hcv hcl => ?_) (fun r_ w_ H locs hq hP hD hS => ?_)
        · obtain ⟨ord, he, rfl⟩ := hq
          cases he
          exact zout hnoh hlocks hce hcv hcl (show va_P D zCl ((cH k ah aw adr aim ard asc ath awl alo atr sh) ++ (cR k ard s3)) _ from hP) (show va_D A ((cH k ah aw adr aim ard asc ath awl alo atr sh) ++ (cR k ard s3)) from hD) hS ⟨_, rfl, rfl⟩ (by simp only [prc, rdO]; omega) (by simp only [prc, rdO]; omega)
        · obtain ⟨ord, he, rfl, rfl⟩ := hq
          exact nomatch he
      | inr s3 =>
        have hrun := moxr hrun
        have hAh3 : rA s2 ≤ rA s3 ∧ rA s3 ≤ 400 := h3m _ rfl
        obtain ⟨o4, h4, hrun⟩ := mox_s rfl hrun
        have h4n := hAm _ _ h4
        cases o4 with
        | inl E =>
          obtain ⟨E1, s4⟩ := E
          have hrun := moxl hrun
          have hAh4 : rA s3 ≤ rA s4 ∧ rA s4 ≤ 400 := h4n
          cases hrun
          refine CtX.of (by decide) (Nat.le_of_ble_eq_true rfl) ?_
          intro p e9 s m args below meth c A hE hnoh hA hP hD hS hz ls hl
          obtain ⟨hx, hb, hr, hml, hown, hts, hlocks, hname⟩ := hE
          have hown : s.vm.findClass RX1 = some m.cls := hown
          have hK := hOK.1 _ _ _ hz
          have hN := hOK.2.1 _ _ _ hz
          have hl : lv_has ls 3 [(0, .ref (ah 0))] := hl
          refine lv_aload_n hx hb dX1_atom_0 rfl (lv_at hl 0 rfl) ?_
          refine va_get (ci := 1) (v := .ref (ard 0)) (C := RX1) (T := TX1) (N := 10) hx hb hts in_X1 hown hK hP 0 rfl rfl 4 (by decide) (hts _ q375) (fun _ h9 => h9) rfl dX1_atom_1 ?_
          refine lv_astore_n (lv' := [(1, .ref (ard 0)), (0, .ref (ah 0))]) hx hb dX1_atom_4 rfl hl (by decide) rfl (fun ls hl => ?_)
          refine lv_aload_n hx hb dX1_atom_5 rfl (lv_at hl 0 rfl) ?_
          refine lv_bipush (v := (40 : Int32)) hx hb dX1_atom_6 (by decide) ?_
          have hP : va_P D zCl ((cH k ah aw adr aim ard asc ath awl alo atr sh) ++ (cR k ard srd)) _ := hP
          have hD : va_D A ((cH k ah aw adr aim ard asc ath awl alo atr sh) ++ (cR k ard srd)) := hD
          refine cWVP (cH k ah aw adr aim ard asc ath awl alo atr sh) (cR k ard srd) (As := [.int (40 : Int32)]) (ci := 3) ⟨hx, hb, hml, hown, hts⟩ hOK hz hS hA hP hD (mtX3_sign l D k ard Z hOK srd 40 _ s1 g1) (kX3_sign hts q1262 rfl rfl ⟨(by show 2 + 1 ≤ fr; omega), (by show 8 + (2 + 11) + 41 ≤ lo; omega)⟩) 0 rfl rfl rfl hl.1 rfl (lv_room (Nat.le_of_ble_eq_true rfl)) ⟨(by simp only [rP, rLs, prc, rdO]; omega), (by simp only [rP, rLs, prc, rdO]; omega)⟩ dX1_atom_8 (fun r_ w_ H locs hq hP hD hS => ?_)
          obtain ⟨rfl, rfl⟩ := hq
          refine lv_if_eq (tgt := 43) hx hb dX1_atom_11 (by decide) (fun _ => ?_) (fun c1 => absurd rfl c1)
          refine lv_aload_n hx hb dX1_atom_43 rfl (lv_at hl 0 rfl) ?_
          refine zldcw hx hb hown (sr15 hStr hz) dX1_atom_44 ?_
          have hP : va_P D zCl ((cH k ah aw adr aim ard asc ath awl alo atr sh) ++ (cR k ard s1)) _ := hP
          have hD : va_D A ((cH k ah aw adr aim ard asc ath awl alo atr sh) ++ (cR k ard s1)) := hD
          refine cWVP (cH k ah aw adr aim ard asc ath awl alo atr sh) (cR k ard s1) (As := [.ref (adK 15)]) (ci := 3) ⟨hx, hb, hml, hown, hts⟩ hOK hz hS hA hP hD (mtX3_passesM l D k ard Z hOK hStr hPv s1 15 _ s2 g2) (kX3_passes hts q1243 rfl rfl ⟨(by show 7 + 1 ≤ fr; omega), (by show 8 + (2 + 11) + 340 ≤ lo; omega)⟩) 0 rfl rfl rfl hl.1 rfl (lv_room (Nat.le_of_ble_eq_true rfl)) ⟨(by simp only [rP, rLs, prc, rdO]; omega), (by simp only [rP, rLs, prc, rdO]; omega)⟩ dX1_atom_47 (fun r_ w_ H locs hq hP hD hS => ?_)
          obtain ⟨rfl, rfl⟩ := hq
          refine lv_if_eq (tgt := 75) hx hb dX1_atom_50 (by decide) (fun c1 => absurd c1 (by decide)) (fun _ => ?_)
          refine lv_aload_n hx hb dX1_atom_53 rfl (lv_at hl 0 rfl) ?_
          have hP : va_P D zCl ((cH k ah aw adr aim ard asc ath awl alo atr sh) ++ ((cR k ard s2) ++ [])) _ := hP
          have hD : va_D A ((cH k ah aw adr aim ard asc ath awl alo atr sh) ++ ((cR k ard s2) ++ [])) := hD
          refine cXV (cH k ah aw adr aim ard asc ath awl alo atr sh) (cR k ard s2) [] (As := []) (ci := 3) ⟨hx, hb, hml, hown, hts⟩ hOK hz hS hA hP hD (mtX3_goesDeeper l D k ard Z hOK hlt hTh s2 _ h3) (kX3_goesDeeper hts q1356 rfl rfl ⟨(by show 5 + 1 ≤ fr; omega), (by show 8 + (1 + 11) + 140 ≤ lo; omega)⟩) 0 rfl rfl rfl hl.1 rfl (lv_room (Nat.le_of_ble_eq_true rfl)) ⟨(by simp only [rP, rLs, prc, rdO]; omega), (by simp only [rP, rLs, prc, rdO]; omega)⟩ dX1_atom_54 (fun E_ w_ ce_ q9_ H locs hq hP hD hS hce hcv hcl => ?_) (fun r_ w_ H locs hq hP hD hS => ?_)
          · obtain ⟨ord, he, rfl⟩ := hq
            exact nomatch he
          obtain ⟨ord, he, rfl, rfl⟩ := hq
          cases he
          have hP : va_P D zCl ((cH k ah aw adr aim ard asc ath awl alo atr sh) ++ (cR k ard s3)) _ := hP
          have hD : va_D A ((cH k ah aw adr aim ard asc ath awl alo atr sh) ++ (cR k ard s3)) := hD
          refine lv_aload_n hx hb dX1_atom_57 rfl (lv_at hl 1 rfl) ?_
          have hP : va_P D zCl ((cH k ah aw adr aim ard asc ath awl alo atr sh) ++ (cR k ard s3)) _ := hP
          have hD : va_D A ((cH k ah aw adr aim ard asc ath awl alo atr sh) ++ (cR k ard s3)) := hD
          refine cXV0 (As := []) (ci := 1) ⟨hx, hb, hml, hown, hts⟩ hOK hz hS hA hP hD (hAt.2 s3 _ h4) (kX1_atom hts q1352 rfl rfl ⟨(by show fA + 1 ≤ fr; omega), (by show 8 + (3 + 11) + lA ≤ lo; omega)⟩) 0 rfl rfl rfl hl.1 rfl (lv_room (Nat.le_of_ble_eq_true rfl)) ⟨(by simp only [rP, rLs, prc]; show _ + (_ * (rA s4 - rA s3) + _) ≤ _ * (rA s4 - rA srd) + _; omega), (by simp only [rP, rLs, prc]; show _ + (_ * (rA s4 - rA s3) + _) ≤ _ * (rA s4 - rA srd) + _; omega)⟩ dX1_atom_58 (fun E_ w_ ce_ q9_ H locs hq hP hD hS hce hcv hcl => ?_) (fun r_ w_ H locs hq hP hD hS => ?_)
          · obtain ⟨ord, he, rfl⟩ := hq
            cases he
            exact zout hnoh hlocks hce hcv hcl hP hD hS ⟨_, rfl, rfl⟩ (by simp only [prc, rdO]; omega) (by simp only [prc, rdO]; omega)
          · obtain ⟨g, ord, q, n_, he, -⟩ := hq
            exact nomatch he
        | inr q =>
          obtain ⟨f4, s4⟩ := q
          have hrun := moxr hrun
          have hAh4 : rA s3 ≤ rA s4 ∧ rA s4 ≤ 400 := h4n
          obtain ⟨s5, g5, hrun⟩ := mob_s rfl hrun
          obtain ⟨g5, hA5⟩ := gUp_s g5
          have hA5 : rA s4 ≤ rA s5 ∧ rA s5 ≤ 400 := hA5
          cases hrun
          refine CtX.of (by decide) (Nat.le_of_ble_eq_true rfl) ?_
          intro p e9 s m args below meth c A hE hnoh hA hP hD hS hz ls hl
          obtain ⟨hx, hb, hr, hml, hown, hts, hlocks, hname⟩ := hE
          have hown : s.vm.findClass RX1 = some m.cls := hown
          have hK := hOK.1 _ _ _ hz
          have hN := hOK.2.1 _ _ _ hz
          have hl : lv_has ls 3 [(0, .ref (ah 0))] := hl
          refine lv_aload_n hx hb dX1_atom_0 rfl (lv_at hl 0 rfl) ?_
          refine va_get (ci := 1) (v := .ref (ard 0)) (C := RX1) (T := TX1) (N := 10) hx hb hts in_X1 hown hK hP 0 rfl rfl 4 (by decide) (hts _ q375) (fun _ h9 => h9) rfl dX1_atom_1 ?_
          refine lv_astore_n (lv' := [(1, .ref (ard 0)), (0, .ref (ah 0))]) hx hb dX1_atom_4 rfl hl (by decide) rfl (fun ls hl => ?_)
          refine lv_aload_n hx hb dX1_atom_5 rfl (lv_at hl 0 rfl) ?_
          refine lv_bipush (v := (40 : Int32)) hx hb dX1_atom_6 (by decide) ?_
          have hP : va_P D zCl ((cH k ah aw adr aim ard asc ath awl alo atr sh) ++ (cR k ard srd)) _ := hP
          have hD : va_D A ((cH k ah aw adr aim ard asc ath awl alo atr sh) ++ (cR k ard srd)) := hD
          refine cWVP (cH k ah aw adr aim ard asc ath awl alo atr sh) (cR k ard srd) (As := [.int (40 : Int32)]) (ci := 3) ⟨hx, hb, hml, hown, hts⟩ hOK hz hS hA hP hD (mtX3_sign l D k ard Z hOK srd 40 _ s1 g1) (kX3_sign hts q1262 rfl rfl ⟨(by show 2 + 1 ≤ fr; omega), (by show 8 + (2 + 11) + 41 ≤ lo; omega)⟩) 0 rfl rfl rfl hl.1 rfl (lv_room (Nat.le_of_ble_eq_true rfl)) ⟨(by simp only [rP, rLs, prc, rdO]; omega), (by simp only [rP, rLs, prc, rdO]; omega)⟩ dX1_atom_8 (fun r_ w_ H locs hq hP hD hS => ?_)
          obtain ⟨rfl, rfl⟩ := hq
          refine lv_if_eq (tgt := 43) hx hb dX1_atom_11 (by decide) (fun _ => ?_) (fun c1 => absurd rfl c1)
          refine lv_aload_n hx hb dX1_atom_43 rfl (lv_at hl 0 rfl) ?_
          refine zldcw hx hb hown (sr15 hStr hz) dX1_atom_44 ?_
          have hP : va_P D zCl ((cH k ah aw adr aim ard asc ath awl alo atr sh) ++ (cR k ard s1)) _ := hP
          have hD : va_D A ((cH k ah aw adr aim ard asc ath awl alo atr sh) ++ (cR k ard s1)) := hD
          refine cWVP (cH k ah aw adr aim ard asc ath awl alo atr sh) (cR k ard s1) (As := [.ref (adK 15)]) (ci := 3) ⟨hx, hb, hml, hown, hts⟩ hOK hz hS hA hP hD (mtX3_passesM l D k ard Z hOK hStr hPv s1 15 _ s2 g2) (kX3_passes hts q1243 rfl rfl ⟨(by show 7 + 1 ≤ fr; omega), (by show 8 + (2 + 11) + 340 ≤ lo; omega)⟩) 0 rfl rfl rfl hl.1 rfl (lv_room (Nat.le_of_ble_eq_true rfl)) ⟨(by simp only [rP, rLs, prc, rdO]; omega), (by simp only [rP, rLs, prc, rdO]; omega)⟩ dX1_atom_47 (fun r_ w_ H locs hq hP hD hS => ?_)
          obtain ⟨rfl, rfl⟩ := hq
          refine lv_if_eq (tgt := 75) hx hb dX1_atom_50 (by decide) (fun c1 => absurd c1 (by decide)) (fun _ => ?_)
          refine lv_aload_n hx hb dX1_atom_53 rfl (lv_at hl 0 rfl) ?_
          have hP : va_P D zCl ((cH k ah aw adr aim ard asc ath awl alo atr sh) ++ ((cR k ard s2) ++ [])) _ := hP
          have hD : va_D A ((cH k ah aw adr aim ard asc ath awl alo atr sh) ++ ((cR k ard s2) ++ [])) := hD
          refine cXV (cH k ah aw adr aim ard asc ath awl alo atr sh) (cR k ard s2) [] (As := []) (ci := 3) ⟨hx, hb, hml, hown, hts⟩ hOK hz hS hA hP hD (mtX3_goesDeeper l D k ard Z hOK hlt hTh s2 _ h3) (kX3_goesDeeper hts q1356 rfl rfl ⟨(by show 5 + 1 ≤ fr; omega), (by show 8 + (1 + 11) + 140 ≤ lo; omega)⟩) 0 rfl rfl rfl hl.1 rfl (lv_room (Nat.le_of_ble_eq_true rfl)) ⟨(by simp only [rP, rLs, prc, rdO]; omega), (by simp only [rP, rLs, prc, rdO]; omega)⟩ dX1_atom_54 (fun E_ w_ ce_ q9_ H locs hq hP hD hS hce hcv hcl => ?_) (fun r_ w_ H locs hq hP hD hS => ?_)
          · obtain ⟨ord, he, rfl⟩ := hq
            exact nomatch he
          obtain ⟨ord, he, rfl, rfl⟩ := hq
          cases he
          have hP : va_P D zCl ((cH k ah aw adr aim ard asc ath awl alo atr sh) ++ (cR k ard s3)) _ := hP
          have hD : va_D A ((cH k ah aw adr aim ard asc ath awl alo atr sh) ++ (cR k ard s3)) := hD
          refine lv_aload_n hx hb dX1_atom_57 rfl (lv_at hl 1 rfl) ?_
          have hP : va_P D zCl ((cH k ah aw adr aim ard asc ath awl alo atr sh) ++ (cR k ard s3)) _ := hP
          have hD : va_D A ((cH k ah aw adr aim ard asc ath awl alo atr sh) ++ (cR k ard s3)) := hD
          refine cXV0 (As := []) (ci := 1) ⟨hx, hb, hml, hown, hts⟩ hOK hz hS hA hP hD (hAt.2 s3 _ h4) (kX1_atom hts q1352 rfl rfl ⟨(by show fA + 1 ≤ fr; omega), (by show 8 + (3 + 11) + lA ≤ lo; omega)⟩) 0 rfl rfl rfl hl.1 rfl (lv_room (Nat.le_of_ble_eq_true rfl)) ⟨(by simp only [rP, rLs, prc]; show _ + (_ * (rA s4 - rA s3) + _) ≤ _ * (rA s5 - rA srd) + _; omega), (by simp only [rP, rLs, prc]; show _ + (_ * (rA s4 - rA s3) + _) ≤ _ * (rA s5 - rA srd) + _; omega)⟩ dX1_atom_58 (fun E_ w_ ce_ q9_ H locs hq hP hD hS hce hcv hcl => ?_) (fun r_ w_ H locs hq hP hD hS => ?_)
          · obtain ⟨ord, he, rfl⟩ := hq
            exact nomatch he
          obtain ⟨g_, ord, qn, np, he, rfl, hp, hel9, rfl⟩ := hq
          cases he
          refine W.widen (k := 9 + 1 + 50 * (rA s4 - rA s3) + 43) (n := 1600 + 6 + 5500 * (rA s4 - rA s3) + 6450) (by simp only [prc]; show _ + (_ * (rA s4 - rA s3) + _) ≤ _; omega) (by simp only [prc]; show _ + (_ * (rA s4 - rA s3) + _) ≤ _; omega) ?_
          refine lv_astore_n (lv' := [(2, .ref qn), (1, .ref (ard 0)), (0, .ref (ah 0))]) hx hb dX1_atom_61 rfl hl (by decide) rfl (fun ls hl => ?_)
          refine lv_aload_n hx hb dX1_atom_62 rfl (lv_at hl 1 rfl) ?_
          have hP : va_P D zCl ((cH k ah aw adr aim ard asc ath awl alo atr sh) ++ ((cR k ard s4) ++ np)) _ := hP
          have hD : va_D A ((cH k ah aw adr aim ard asc ath awl alo atr sh) ++ ((cR k ard s4) ++ np)) := hD
          refine cWV (cH k ah aw adr aim ard asc ath awl alo atr sh) (cR k ard s4) np (As := []) (ci := 3) ⟨hx, hb, hml, hown, hts⟩ hOK hz hS hA hP hD (mtX3_comesUp l D k ard Z hOK s4 s5 g5) (kX3_comesUp hts q1360 rfl rfl ⟨(by show 0 + 1 ≤ fr; omega), (by show 8 + (1 + 11) + 0 ≤ lo; omega)⟩) 0 rfl rfl rfl hl.1 rfl (lv_room (Nat.le_of_ble_eq_true rfl)) ⟨(by simp only [rP, rLs, prc, rdO]; omega), (by simp only [rP, rLs, prc, rdO]; omega)⟩ dX1_atom_63 (fun r_ w_ H locs hq hP hD hS => ?_)
          obtain ⟨rfl, rfl⟩ := hq
          refine va_new (ci := 10) (fs := [.null]) (C := RX11) (T := TX11) (N := 1) hx hb hts in_X11 tyX11 tyX11_ok hown (hts _ q1365) (hts _ q1366) (hts _ q137) hK hP hD hS hA rfl (zdef 1 tyX11) (by simp only [rP, rLs, prc, rdO]; omega) (by simp only [rP, rLs, prc, rdO]; omega) dX1_atom_66 (fun qs H hP hD hS => ?_)
          refine lv_dup hx hb dX1_atom_69 rfl ?_
          refine lv_aload_n hx hb dX1_atom_70 rfl (lv_at hl 0 rfl) ?_
          have hP : va_P D zCl (((cH k ah aw adr aim ard asc ath awl alo atr sh) ++ ((cR k ard s5) ++ np)) ++ ([(qs, .inr (10, [.null]))] ++ [])) _ := hP
          have hD : va_D A (((cH k ah aw adr aim ard asc ath awl alo atr sh) ++ ((cR k ard s5) ++ np)) ++ ([(qs, .inr (10, [.null]))] ++ [])) := hD
          refine cWI ((cH k ah aw adr aim ard asc ath awl alo atr sh) ++ ((cR k ard s5) ++ np)) [(qs, .inr (10, [.null]))] [] (As := [.ref qn]) ⟨hx, hb, hml, hown, hts⟩ hOK hz hS hA hP hD (mtX11_init l D k Z hOK qs qn) (kX11_init hts q1367 rfl rfl ⟨(by show 1 + 1 ≤ fr; omega), (by show 8 + (2 + 11) + 30 ≤ lo; omega)⟩) rfl hl.1 rfl (lv_room (Nat.le_of_ble_eq_true rfl)) ⟨(by simp only [rP, rLs, prc, rdO]; omega), (by simp only [rP, rLs, prc, rdO]; omega)⟩ dX1_atom_71 (fun r_ w_ H locs hq hP hD hS => ?_)
          obtain ⟨rfl, rfl⟩ := hq
          have hP : va_P D zCl (((cH k ah aw adr aim ard asc ath awl alo atr sh) ++ ((cR k ard s5) ++ np)) ++ [(qs, .inr (10, [.ref qn]))]) _ := hP
          have hD : va_D A (((cH k ah aw adr aim ard asc ath awl alo atr sh) ++ ((cR k ard s5) ++ np)) ++ [(qs, .inr (10, [.ref qn]))]) := hD
          have hP : va_P D zCl (((cH k ah aw adr aim ard asc ath awl alo atr sh) ++ (cR k ard s5)) ++ (np ++ [(qs, .inr (10, [.ref qn]))])) _ := hP
          have hD : va_D A (((cH k ah aw adr aim ard asc ath awl alo atr sh) ++ (cR k ard s5)) ++ (np ++ [(qs, .inr (10, [.ref qn]))])) := hD
          refine widX (by simp only [prc, rdO]; omega) (by simp only [prc, rdO]; omega) ?_
          exact vx_ret (retW_a hx hb hr (Or.inl ⟨_, rfl⟩) hlocks hP hD hS ⟨_, _, qs, _, rfl, rfl, Or.inr (Or.inr (Or.inl ⟨qn, _, List.mem_append_right _ (List.mem_singleton.mpr rfl), cnAt.mono (fun x h => List.mem_append_left _ h) _ _ _ _ hdA hp, rfl⟩)), ⟨10, _, _, List.mem_append_right _ (List.mem_singleton.mpr rfl), rfl, zN_of q2521 rfl⟩, rfl⟩ dX1_atom_74)
    | false =>
      have hrun := mif_n (by decide) hrun
      have hA2 : rA s1 + 0 ≤ rA s2 ∧ rA s2 ≤ 400 := hA2
      obtain ⟨b3, s3, g3, hrun⟩ := mo2_s rfl hrun
      obtain ⟨g3, hA3⟩ := gPass_s g3
      cases b3 with
      | true =>
        have hrun := mif_p rfl hrun
        have hA3 : rA s2 + 3 ≤ rA s3 ∧ rA s3 ≤ 400 := hA3
        cases hrun
        refine CtX.of (by decide) (Nat.le_of_ble_eq_true rfl) ?_
        intro p e9 s m args below meth c A hE hnoh hA hP hD hS hz ls hl
        obtain ⟨hx, hb, hr, hml, hown, hts, hlocks, hname⟩ := hE
        have hown : s.vm.findClass RX1 = some m.cls := hown
        have hK := hOK.1 _ _ _ hz
        have hN := hOK.2.1 _ _ _ hz
        have hl : lv_has ls 3 [(0, .ref (ah 0))] := hl
        refine lv_aload_n hx hb dX1_atom_0 rfl (lv_at hl 0 rfl) ?_
        refine va_get (ci := 1) (v := .ref (ard 0)) (C := RX1) (T := TX1) (N := 10) hx hb hts in_X1 hown hK hP 0 rfl rfl 4 (by decide) (hts _ q375) (fun _ h9 => h9) rfl dX1_atom_1 ?_
        refine lv_astore_n (lv' := [(1, .ref (ard 0)), (0, .ref (ah 0))]) hx hb dX1_atom_4 rfl hl (by decide) rfl (fun ls hl => ?_)
        refine lv_aload_n hx hb dX1_atom_5 rfl (lv_at hl 0 rfl) ?_
        refine lv_bipush (v := (40 : Int32)) hx hb dX1_atom_6 (by decide) ?_
        have hP : va_P D zCl ((cH k ah aw adr aim ard asc ath awl alo atr sh) ++ (cR k ard srd)) _ := hP
        have hD : va_D A ((cH k ah aw adr aim ard asc ath awl alo atr sh) ++ (cR k ard srd)) := hD
        refine cWVP (cH k ah aw adr aim ard asc ath awl alo atr sh) (cR k ard srd) (As := [.int (40 : Int32)]) (ci := 3) ⟨hx, hb, hml, hown, hts⟩ hOK hz hS hA hP hD (mtX3_sign l D k ard Z hOK srd 40 _ s1 g1) (kX3_sign hts q1262 rfl rfl ⟨(by show 2 + 1 ≤ fr; omega), (by show 8 + (2 + 11) + 41 ≤ lo; omega)⟩) 0 rfl rfl rfl hl.1 rfl (lv_room (Nat.le_of_ble_eq_true rfl)) ⟨(by simp only [rP, rLs, prc, rdO]; omega), (by simp only [rP, rLs, prc, rdO]; omega)⟩ dX1_atom_8 (fun r_ w_ H locs hq hP hD hS => ?_)
        obtain ⟨rfl, rfl⟩ := hq
        refine lv_if_eq (tgt := 43) hx hb dX1_atom_11 (by decide) (fun _ => ?_) (fun c1 => absurd rfl c1)
        refine lv_aload_n hx hb dX1_atom_43 rfl (lv_at hl 0 rfl) ?_
        refine zldcw hx hb hown (sr15 hStr hz) dX1_atom_44 ?_
        have hP : va_P D zCl ((cH k ah aw adr aim ard asc ath awl alo atr sh) ++ (cR k ard s1)) _ := hP
        have hD : va_D A ((cH k ah aw adr aim ard asc ath awl alo atr sh) ++ (cR k ard s1)) := hD
        refine cWVP (cH k ah aw adr aim ard asc ath awl alo atr sh) (cR k ard s1) (As := [.ref (adK 15)]) (ci := 3) ⟨hx, hb, hml, hown, hts⟩ hOK hz hS hA hP hD (mtX3_passesM l D k ard Z hOK hStr hPv s1 15 _ s2 g2) (kX3_passes hts q1243 rfl rfl ⟨(by show 7 + 1 ≤ fr; omega), (by show 8 + (2 + 11) + 340 ≤ lo; omega)⟩) 0 rfl rfl rfl hl.1 rfl (lv_room (Nat.le_of_ble_eq_true rfl)) ⟨(by simp only [rP, rLs, prc, rdO]; omega), (by simp only [rP, rLs, prc, rdO]; omega)⟩ dX1_atom_47 (fun r_ w_ H locs hq hP hD hS => ?_)
        obtain ⟨rfl, rfl⟩ := hq
        refine lv_if_eq (tgt := 75) hx hb dX1_atom_50 (by decide) (fun _ => ?_) (fun c1 => absurd rfl c1)
        refine lv_aload_n hx hb dX1_atom_75 rfl (lv_at hl 0 rfl) ?_
        refine va_ldcS hx hb hown (sr12 hStr hz) dX1_atom_76 ?_
        have hP : va_P D zCl ((cH k ah aw adr aim ard asc ath awl alo atr sh) ++ (cR k ard s2)) _ := hP
        have hD : va_D A ((cH k ah aw adr aim ard asc ath awl alo atr sh) ++ (cR k ard s2)) := hD
        refine cWVP (cH k ah aw adr aim ard asc ath awl alo atr sh) (cR k ard s2) (As := [.ref (adK 12)]) (ci := 3) ⟨hx, hb, hml, hown, hts⟩ hOK hz hS hA hP hD (mtX3_passesM l D k ard Z hOK hStr hPv s2 12 _ s3 g3) (kX3_passes hts q1243 rfl rfl ⟨(by show 7 + 1 ≤ fr; omega), (by show 8 + (2 + 11) + 340 ≤ lo; omega)⟩) 0 rfl rfl rfl hl.1 rfl (lv_room (Nat.le_of_ble_eq_true rfl)) ⟨(by simp only [rP, rLs, prc, rdO]; omega), (by simp only [rP, rLs, prc, rdO]; omega)⟩ dX1_atom_78 (fun r_ w_ H locs hq hP hD hS => ?_)
        obtain ⟨rfl, rfl⟩ := hq
        refine lv_if_eq (tgt := 93) hx hb dX1_atom_81 (by decide) (fun c1 => absurd c1 (by decide)) (fun _ => ?_)
        refine va_new (ci := 11) (fs := [.int 0]) (C := RX12) (T := TX12) (N := 1) hx hb hts in_X12 tyX12 tyX12_ok hown (hts _ q1375) (hts _ q1376) (hts _ q138) hK hP hD hS hA rfl (zdef 1 tyX12) (by simp only [rP, rLs, prc, rdO]; omega) (by simp only [rP, rLs, prc, rdO]; omega) dX1_atom_84 (fun qs H hP hD hS => ?_)
        refine lv_dup hx hb dX1_atom_87 rfl ?_
        refine lv_iconst (v := bz true) hx hb dX1_atom_88 (by decide) ?_
        have hP : va_P D zCl (((cH k ah aw adr aim ard asc ath awl alo atr sh) ++ (cR k ard s3)) ++ ([(qs, .inr (11, [.int 0]))] ++ [])) _ := hP
        have hD : va_D A (((cH k ah aw adr aim ard asc ath awl alo atr sh) ++ (cR k ard s3)) ++ ([(qs, .inr (11, [.int 0]))] ++ [])) := hD
        refine cWI ((cH k ah aw adr aim ard asc ath awl alo atr sh) ++ (cR k ard s3)) [(qs, .inr (11, [.int 0]))] [] (As := [.int (bz true)]) ⟨hx, hb, hml, hown, hts⟩ hOK hz hS hA hP hD (mtX12_init l D k Z hOK qs true) (kX12_init hts q1377 rfl rfl ⟨(by show 1 + 1 ≤ fr; omega), (by show 8 + (2 + 11) + 30 ≤ lo; omega)⟩) rfl hl.1 rfl (lv_room (Nat.le_of_ble_eq_true rfl)) ⟨(by simp only [rP, rLs, prc, rdO]; omega), (by simp only [rP, rLs, prc, rdO]; omega)⟩ dX1_atom_89 (fun r_ w_ H locs hq hP hD hS => ?_)
        obtain ⟨rfl, rfl⟩ := hq
        have hP : va_P D zCl (((cH k ah aw adr aim ard asc ath awl alo atr sh) ++ (cR k ard s3)) ++ [(qs, .inr (11, [.int (bz true)]))]) _ := hP
        have hD : va_D A (((cH k ah aw adr aim ard asc ath awl alo atr sh) ++ (cR k ard s3)) ++ [(qs, .inr (11, [.int (bz true)]))]) := hD
        refine widX (by simp only [prc, rdO]; omega) (by simp only [prc, rdO]; omega) ?_
        exact vx_ret (retW_a hx hb hr (Or.inl ⟨_, rfl⟩) hlocks hP hD hS ⟨_, _, qs, _, rfl, rfl, Or.inl ⟨true, List.mem_singleton.mpr rfl, rfl⟩, ⟨11, _, _, List.mem_singleton.mpr rfl, rfl, zN_of q2522 rfl⟩, rfl⟩ dX1_atom_92)
      | false =>
        have hrun := mif_n (by decide) hrun
        have hA3 : rA s2 + 0 ≤ rA s3 ∧ rA s3 ≤ 400 := hA3
        obtain ⟨b4, s4, g4, hrun⟩ := mo2_s rfl hrun
        obtain ⟨g4, hA4⟩ := gPass_s g4
        cases b4 with
        | true =>
          have hrun := mif_p rfl hrun
          have hA4 : rA s3 + 3 ≤ rA s4 ∧ rA s4 ≤ 400 := hA4
          cases hrun
          refine CtX.of (by decide) (Nat.le_of_ble_eq_true rfl) ?_
          intro p e9 s m args below meth c A hE hnoh hA hP hD hS hz ls hl
          obtain ⟨hx, hb, hr, hml, hown, hts, hlocks, hname⟩ := hE
          have hown : s.vm.findClass RX1 = some m.cls := hown
          have hK := hOK.1 _ _ _ hz
          have hN := hOK.2.1 _ _ _ hz
          have hl : lv_has ls 3 [(0, .ref (ah 0))] := hl
          refine lv_aload_n hx hb dX1_atom_0 rfl (lv_at hl 0 rfl) ?_
          refine va_get (ci := 1) (v := .ref (ard 0)) (C := RX1) (T := TX1) (N := 10) hx hb hts in_X1 hown hK hP 0 rfl rfl 4 (by decide) (hts _ q375) (fun _ h9 => h9) rfl dX1_atom_1 ?_
          refine lv_astore_n (lv' := [(1, .ref (ard 0)), (0, .ref (ah 0))]) hx hb dX1_atom_4 rfl hl (by decide) rfl (fun ls hl => ?_)
          refine lv_aload_n hx hb dX1_atom_5 rfl (lv_at hl 0 rfl) ?_
          refine lv_bipush (v := (40 : Int32)) hx hb dX1_atom_6 (by decide) ?_
          have hP : va_P D zCl ((cH k ah aw adr aim ard asc ath awl alo atr sh) ++ (cR k ard srd)) _ := hP
          have hD : va_D A ((cH k ah aw adr aim ard asc ath awl alo atr sh) ++ (cR k ard srd)) := hD
          refine cWVP (cH k ah aw adr aim ard asc ath awl alo atr sh) (cR k ard srd) (As := [.int (40 : Int32)]) (ci := 3) ⟨hx, hb, hml, hown, hts⟩ hOK hz hS hA hP hD (mtX3_sign l D k ard Z hOK srd 40 _ s1 g1) (kX3_sign hts q1262 rfl rfl ⟨(by show 2 + 1 ≤ fr; omega), (by show 8 + (2 + 11) + 41 ≤ lo; omega)⟩) 0 rfl rfl rfl hl.1 rfl (lv_room (Nat.le_of_ble_eq_true rfl)) ⟨(by simp only [rP, rLs, prc, rdO]; omega), (by simp only [rP, rLs, prc, rdO]; omega)⟩ dX1_atom_8 (fun r_ w_ H locs hq hP hD hS => ?_)
          obtain ⟨rfl, rfl⟩ := hq
          refine lv_if_eq (tgt := 43) hx hb dX1_atom_11 (by decide) (fun _ => ?_) (fun c1 => absurd rfl c1)
          refine lv_aload_n hx hb dX1_atom_43 rfl (lv_at hl 0 rfl) ?_
          refine zldcw hx hb hown (sr15 hStr hz) dX1_atom_44 ?_
          have hP : va_P D zCl ((cH k ah aw adr aim ard asc ath awl alo atr sh) ++ (cR k ard s1)) _ := hP
          have hD : va_D A ((cH k ah aw adr aim ard asc ath awl alo atr sh) ++ (cR k ard s1)) := hD
          refine cWVP (cH k ah aw adr aim ard asc ath awl alo atr sh) (cR k ard s1) (As := [.ref (adK 15)]) (ci := 3) ⟨hx, hb, hml, hown, hts⟩ hOK hz hS hA hP hD (mtX3_passesM l D k ard Z hOK hStr hPv s1 15 _ s2 g2) (kX3_passes hts q1243 rfl rfl ⟨(by show 7 + 1 ≤ fr; omega), (by show 8 + (2 + 11) + 340 ≤ lo; omega)⟩) 0 rfl rfl rfl hl.1 rfl (lv_room (Nat.le_of_ble_eq_true rfl)) ⟨(by simp only [rP, rLs, prc, rdO]; omega), (by simp only [rP, rLs, prc, rdO]; omega)⟩ dX1_atom_47 (fun r_ w_ H locs hq hP hD hS => ?_)
          obtain ⟨rfl, rfl⟩ := hq
          refine lv_if_eq (tgt := 75) hx hb dX1_atom_50 (by decide) (fun _ => ?_) (fun c1 => absurd rfl c1)
          refine lv_aload_n hx hb dX1_atom_75 rfl (lv_at hl 0 rfl) ?_
          refine va_ldcS hx hb hown (sr12 hStr hz) dX1_atom_76 ?_
          have hP : va_P D zCl ((cH k ah aw adr aim ard asc ath awl alo atr sh) ++ (cR k ard s2)) _ := hP
          have hD : va_D A ((cH k ah aw adr aim ard asc ath awl alo atr sh) ++ (cR k ard s2)) := hD
          refine cWVP (cH k ah aw adr aim ard asc ath awl alo atr sh) (cR k ard s2) (As := [.ref (adK 12)]) (ci := 3) ⟨hx, hb, hml, hown, hts⟩ hOK hz hS hA hP hD (mtX3_passesM l D k ard Z hOK hStr hPv s2 12 _ s3 g3) (kX3_passes hts q1243 rfl rfl ⟨(by show 7 + 1 ≤ fr; omega), (by show 8 + (2 + 11) + 340 ≤ lo; omega)⟩) 0 rfl rfl rfl hl.1 rfl (lv_room (Nat.le_of_ble_eq_true rfl)) ⟨(by simp only [rP, rLs, prc, rdO]; omega), (by simp only [rP, rLs, prc, rdO]; omega)⟩ dX1_atom_78 (fun r_ w_ H locs hq hP hD hS => ?_)
          obtain ⟨rfl, rfl⟩ := hq
          refine lv_if_eq (tgt := 93) hx hb dX1_atom_81 (by decide) (fun _ => ?_) (fun c1 => absurd rfl c1)
          refine lv_aload_n hx hb dX1_atom_93 rfl (lv_at hl 0 rfl) ?_
          refine zldcw hx hb hown (sr16 hStr hz) dX1_atom_94 ?_
          have hP : va_P D zCl ((cH k ah aw adr aim ard asc ath awl alo atr sh) ++ (cR k ard s3)) _ := hP
          have hD : va_D A ((cH k ah aw adr aim ard asc ath awl alo atr sh) ++ (cR k ard s3)) := hD
          refine cWVP (cH k ah aw adr aim ard asc ath awl alo atr sh) (cR k ard s3) (As := [.ref (adK 16)]) (ci := 3) ⟨hx, hb, hml, hown, hts⟩ hOK hz hS hA hP hD (mtX3_passesM l D k ard Z hOK hStr hPv s3 16 _ s4 g4) (kX3_passes hts q1243 rfl rfl ⟨(by show 7 + 1 ≤ fr; omega), (by show 8 + (2 + 11) + 340 ≤ lo; omega)⟩) 0 rfl rfl rfl hl.1 rfl (lv_room (Nat.le_of_ble_eq_true rfl)) ⟨(by simp only [rP, rLs, prc, rdO]; omega), (by simp only [rP, rLs, prc, rdO]; omega)⟩ dX1_atom_97 (fun r_ w_ H locs hq hP hD hS => ?_)
          obtain ⟨rfl, rfl⟩ := hq
          refine lv_if_eq (tgt := 112) hx hb dX1_atom_100 (by decide) (fun c1 => absurd c1 (by decide)) (fun _ => ?_)
          refine va_new (ci := 11) (fs := [.int 0]) (C := RX12) (T := TX12) (N := 1) hx hb hts in_X12 tyX12 tyX12_ok hown (hts _ q1375) (hts _ q1376) (hts _ q138) hK hP hD hS hA rfl (zdef 1 tyX12) (by simp only [rP, rLs, prc, rdO]; omega) (by simp only [rP, rLs, prc, rdO]; omega) dX1_atom_103 (fun qs H hP hD hS => ?_)
          refine lv_dup hx hb dX1_atom_106 rfl ?_
          refine lv_iconst (v := bz false) hx hb dX1_atom_107 (by decide) ?_
          have hP : va_P D zCl (((cH k ah aw adr aim ard asc ath awl alo atr sh) ++ (cR k ard s4)) ++ ([(qs, .inr (11, [.int 0]))] ++ [])) _ := hP
          have hD : va_D A (((cH k ah aw adr aim ard asc ath awl alo atr sh) ++ (cR k ard s4)) ++ ([(qs, .inr (11, [.int 0]))] ++ [])) := hD
          refine cWI ((cH k ah aw adr aim ard asc ath awl alo atr sh) ++ (cR k ard s4)) [(qs, .inr (11, [.int 0]))] [] (As := [.int (bz false)]) ⟨hx, hb, hml, hown, hts⟩ hOK hz hS hA hP hD (mtX12_init l D k Z hOK qs false) (kX12_init hts q1377 rfl rfl ⟨(by show 1 + 1 ≤ fr; omega), (by show 8 + (2 + 11) + 30 ≤ lo; omega)⟩) rfl hl.1 rfl (lv_room (Nat.le_of_ble_eq_true rfl)) ⟨(by simp only [rP, rLs, prc, rdO]; omega), (by simp only [rP, rLs, prc, rdO]; omega)⟩ dX1_atom_108 (fun r_ w_ H locs hq hP hD hS => ?_)
          obtain ⟨rfl, rfl⟩ := hq
          have hP : va_P D zCl (((cH k ah aw adr aim ard asc ath awl alo atr sh) ++ (cR k ard s4)) ++ [(qs, .inr (11, [.int (bz false)]))]) _ := hP
          have hD : va_D A (((cH k ah aw adr aim ard asc ath awl alo atr sh) ++ (cR k ard s4)) ++ [(qs, .inr (11, [.int (bz false)]))]) := hD
          refine widX (by simp only [prc, rdO]; omega) (by simp only [prc, rdO]; omega) ?_
          exact vx_ret (retW_a hx hb hr (Or.inl ⟨_, rfl⟩) hlocks hP hD hS ⟨_, _, qs, _, rfl, rfl, Or.inl ⟨false, List.mem_singleton.mpr rfl, rfl⟩, ⟨11, _, _, List.mem_singleton.mpr rfl, rfl, zN_of q2522 rfl⟩, rfl⟩ dX1_atom_111)
        | false =>
          have hrun := mif_n (by decide) hrun
          have hA4 : rA s3 + 0 ≤ rA s4 ∧ rA s4 ≤ 400 := hA4
          obtain ⟨o5, h5, hrun⟩ := mox_s rfl hrun
          have h5n := sum_m h5
          cases o5 with
          | inl E =>
            obtain ⟨E1, s5⟩ := E
            have hrun := moxl hrun
            have hAh5 : rA s4 ≤ rA s5 ∧ rA s5 ≤ 400 := h5n
            cases hrun
            refine CtX.of (by decide) (Nat.le_of_ble_eq_true rfl) ?_
            intro p e9 s m args below meth c A hE hnoh hA hP hD hS hz ls hl
            obtain ⟨hx, hb, hr, hml, hown, hts, hlocks, hname⟩ := hE
            have hown : s.vm.findClass RX1 = some m.cls := hown
            have hK := hOK.1 _ _ _ hz
            have hN := hOK.2.1 _ _ _ hz
            have hl : lv_has ls 3 [(0, .ref (ah 0))] := hl
            refine lv_aload_n hx hb dX1_atom_0 rfl (lv_at hl 0 rfl) ?_
            refine va_get (ci := 1) (v := .ref (ard 0)) (C := RX1) (T := TX1) (N := 10) hx hb hts in_X1 hown hK hP 0 rfl rfl 4 (by decide) (hts _ q375) (fun _ h9 => h9) rfl dX1_atom_1 ?_
            refine lv_astore_n (lv' := [(1, .ref (ard 0)), (0, .ref (ah 0))]) hx hb dX1_atom_4 rfl hl (by decide) rfl (fun ls hl => ?_)
            refine lv_aload_n hx hb dX1_atom_5 rfl (lv_at hl 0 rfl) ?_
            refine lv_bipush (v := (40 : Int32)) hx hb dX1_atom_6 (by decide) ?_
            have hP : va_P D zCl ((cH k ah aw adr aim ard asc ath awl alo atr sh) ++ (cR k ard srd)) _ := hP
            have hD : va_D A ((cH k ah aw adr aim ard asc ath awl alo atr sh) ++ (cR k ard srd)) := hD
            refine cWVP (cH k ah aw adr aim ard asc ath awl alo atr sh) (cR k ard srd) (As := [.int (40 : Int32)]) (ci := 3) ⟨hx, hb, hml, hown, hts⟩ hOK hz hS hA hP hD (mtX3_sign l D k ard Z hOK srd 40 _ s1 g1) (kX3_sign hts q1262 rfl rfl ⟨(by show 2 + 1 ≤ fr; omega), (by show 8 + (2 + 11) + 41 ≤ lo; omega)⟩) 0 rfl rfl rfl hl.1 rfl (lv_room (Nat.le_of_ble_eq_true rfl)) ⟨(by simp only [rP, rLs, prc, rdO]; omega), (by simp only [rP, rLs, prc, rdO]; omega)⟩ dX1_atom_8 (fun r_ w_ H locs hq hP hD hS => ?_)
            obtain ⟨rfl, rfl⟩ := hq
            refine lv_if_eq (tgt := 43) hx hb dX1_atom_11 (by decide) (fun _ => ?_) (fun c1 => absurd rfl c1)
            refine lv_aload_n hx hb dX1_atom_43 rfl (lv_at hl 0 rfl) ?_
            refine zldcw hx hb hown (sr15 hStr hz) dX1_atom_44 ?_
            have hP : va_P D zCl ((cH k ah aw adr aim ard asc ath awl alo atr sh) ++ (cR k ard s1)) _ := hP
            have hD : va_D A ((cH k ah aw adr aim ard asc ath awl alo atr sh) ++ (cR k ard s1)) := hD
            refine cWVP (cH k ah aw adr aim ard asc ath awl alo atr sh) (cR k ard s1) (As := [.ref (adK 15)]) (ci := 3) ⟨hx, hb, hml, hown, hts⟩ hOK hz hS hA hP hD (mtX3_passesM l D k ard Z hOK hStr hPv s1 15 _ s2 g2) (kX3_passes hts q1243 rfl rfl ⟨(by show 7 + 1 ≤ fr; omega), (by show 8 + (2 + 11) + 340 ≤ lo; omega)⟩) 0 rfl rfl rfl hl.1 rfl (lv_room (Nat.le_of_ble_eq_true rfl)) ⟨(by simp only [rP, rLs, prc, rdO]; omega), (by simp only [rP, rLs, prc, rdO]; omega)⟩ dX1_atom_47 (fun r_ w_ H locs hq hP hD hS => ?_)
            obtain ⟨rfl, rfl⟩ := hq
            refine lv_if_eq (tgt := 75) hx hb dX1_atom_50 (by decide) (fun _ => ?_) (fun c1 => absurd rfl c1)
            refine lv_aload_n hx hb dX1_atom_75 rfl (lv_at hl 0 rfl) ?_
            refine va_ldcS hx hb hown (sr12 hStr hz) dX1_atom_76 ?_
            have hP : va_P D zCl ((cH k ah aw adr aim ard asc ath awl alo atr sh) ++ (cR k ard s2)) _ := hP
            have hD : va_D A ((cH k ah aw adr aim ard asc ath awl alo atr sh) ++ (cR k ard s2)) := hD
            refine cWVP (cH k ah aw adr aim ard asc ath awl alo atr sh) (cR k ard s2) (As := [.ref (adK 12)]) (ci := 3) ⟨hx, hb, hml, hown, hts⟩ hOK hz hS hA hP hD (mtX3_passesM l D k ard Z hOK hStr hPv s2 12 _ s3 g3) (kX3_passes hts q1243 rfl rfl ⟨(by show 7 + 1 ≤ fr; omega), (by show 8 + (2 + 11) + 340 ≤ lo; omega)⟩) 0 rfl rfl rfl hl.1 rfl (lv_room (Nat.le_of_ble_eq_true rfl)) ⟨(by simp only [rP, rLs, prc, rdO]; omega), (by simp only [rP, rLs, prc, rdO]; omega)⟩ dX1_atom_78 (fun r_ w_ H locs hq hP hD hS => ?_)
            obtain ⟨rfl, rfl⟩ := hq
            refine lv_if_eq (tgt := 93) hx hb dX1_atom_81 (by decide) (fun _ => ?_) (fun c1 => absurd rfl c1)
            refine lv_aload_n hx hb dX1_atom_93 rfl (lv_at hl 0 rfl) ?_
            refine zldcw hx hb hown (sr16 hStr hz) dX1_atom_94 ?_
            have hP : va_P D zCl ((cH k ah aw adr aim ard asc ath awl alo atr sh) ++ (cR k ard s3)) _ := hP
            have hD : va_D A ((cH k ah aw adr aim ard asc ath awl alo atr sh) ++ (cR k ard s3)) := hD
            refine cWVP (cH k ah aw adr aim ard asc ath awl alo atr sh) (cR k ard s3) (As := [.ref (adK 16)]) (ci := 3) ⟨hx, hb, hml, hown, hts⟩ hOK hz hS hA hP hD (mtX3_passesM l D k ard Z hOK hStr hPv s3 16 _ s4 g4) (kX3_passes hts q1243 rfl rfl ⟨(by show 7 + 1 ≤ fr; omega), (by show 8 + (2 + 11) + 340 ≤ lo; omega)⟩) 0 rfl rfl rfl hl.1 rfl (lv_room (Nat.le_of_ble_eq_true rfl)) ⟨(by simp only [rP, rLs, prc, rdO]; omega), (by simp only [rP, rLs, prc, rdO]; omega)⟩ dX1_atom_97 (fun r_ w_ H locs hq hP hD hS => ?_)
            obtain ⟨rfl, rfl⟩ := hq
            refine lv_if_eq (tgt := 112) hx hb dX1_atom_100 (by decide) (fun _ => ?_) (fun c1 => absurd rfl c1)
            refine lv_aload_n hx hb dX1_atom_112 rfl (lv_at hl 1 rfl) ?_
            have hP : va_P D zCl ((cH k ah aw adr aim ard asc ath awl alo atr sh) ++ (cR k ard s4)) _ := hP
            have hD : va_D A ((cH k ah aw adr aim ard asc ath awl alo atr sh) ++ (cR k ard s4)) := hD
            refine cXV0 (As := []) (ci := 1) ⟨hx, hb, hml, hown, hts⟩ hOK hz hS hA hP hD (mtX1_sum l D k ah aw adr aim ard asc ath awl alo atr Z hOK6 hlt hTh hStr hPv hLs hVl sh s4 _ h5) (kX1_sum hts q1386 rfl rfl ⟨(by show 11 + 1 ≤ fr; omega), (by show 8 + (2 + 11) + 460 ≤ lo; omega)⟩) 0 rfl rfl rfl hl.1 rfl (lv_room (Nat.le_of_ble_eq_true rfl)) ⟨(by simp only [rP, rLs, prc]; show _ + (_ * (rA s5 - rA s4) + _) ≤ _ * (rA s5 - rA srd) + _; omega), (by simp only [rP, rLs, prc]; show _ + (_ * (rA s5 - rA s4) + _) ≤ _ * (rA s5 - rA srd) + _; omega)⟩ dX1_atom_113 (fun E_ w_ ce_ q9_ H locs hq hP hD hS hce hcv hcl => ?_) (fun r_ w_ H locs hq hP hD hS => ?_)
            · obtain ⟨ord, he, rfl⟩ := hq
              cases he
              exact zout hnoh hlocks hce hcv hcl hP hD hS ⟨_, rfl, rfl⟩ (by simp only [prc, rdO]; omega) (by simp only [prc, rdO]; omega)
            · obtain ⟨g, ord, q, n_, he, -⟩ := hq
              exact nomatch he
          | inr q =>
            obtain ⟨f5, s5⟩ := q
            have hrun := moxr hrun
            have hAh5 : rA s4 ≤ rA s5 ∧ rA s5 ≤ 400 := h5n
            obtain ⟨b6, s6, g6, hrun⟩ := mo2_s rfl hrun
            obtain ⟨g6, hA6⟩ := gSign_s g6
            cases b6 with
            | true =>
              have hrun := mif_p rfl hrun
              have hA6 : rA s5 + 1 ≤ rA s6 ∧ rA s6 ≤ 400 := hA6
              obtain ⟨o7, h7, hrun⟩ := mox_s rfl hrun
              have h7n := sum_m h7
              cases o7 with
              | inl E =>
                obtain ⟨E1, s7⟩ := E
                have hrun := moxl hrun
                have hAh7 : rA s6 ≤ rA s7 ∧ rA s7 ≤ 400 := h7n
                cases hrun
                refine CtX.of (by decide) (Nat.le_of_ble_eq_true rfl) ?_
                intro p e9 s m args below meth c A hE hnoh hA hP hD hS hz ls hl
                obtain ⟨hx, hb, hr, hml, hown, hts, hlocks, hname⟩ := hE
                have hown : s.vm.findClass RX1 = some m.cls := hown
                have hK := hOK.1 _ _ _ hz
                have hN := hOK.2.1 _ _ _ hz
                have hl : lv_has ls 3 [(0, .ref (ah 0))] := hl
                refine lv_aload_n hx hb dX1_atom_0 rfl (lv_at hl 0 rfl) ?_
                refine va_get (ci := 1) (v := .ref (ard 0)) (C := RX1) (T := TX1) (N := 10) hx hb hts in_X1 hown hK hP 0 rfl rfl 4 (by decide) (hts _ q375) (fun _ h9 => h9) rfl dX1_atom_1 ?_
                refine lv_astore_n (lv' := [(1, .ref (ard 0)), (0, .ref (ah 0))]) hx hb dX1_atom_4 rfl hl (by decide) rfl (fun ls hl => ?_)
                refine lv_aload_n hx hb dX1_atom_5 rfl (lv_at hl 0 rfl) ?_
                refine lv_bipush (v := (40 : Int32)) hx hb dX1_atom_6 (by decide) ?_
                have hP : va_P D zCl ((cH k ah aw adr aim ard asc ath awl alo atr sh) ++ (cR k ard srd)) _ := hP
                have hD : va_D A ((cH k ah aw adr aim ard asc ath awl alo atr sh) ++ (cR k ard srd)) := hD
                refine cWVP (cH k ah aw adr aim ard asc ath awl alo atr sh) (cR k ard srd) (As := [.int (40 : Int32)]) (ci := 3) ⟨hx, hb, hml, hown, hts⟩ hOK hz hS hA hP hD (mtX3_sign l D k ard Z hOK srd 40 _ s1 g1) (kX3_sign hts q1262 rfl rfl ⟨(by show 2 + 1 ≤ fr; omega), (by show 8 + (2 + 11) + 41 ≤ lo; omega)⟩) 0 rfl rfl rfl hl.1 rfl (lv_room (Nat.le_of_ble_eq_true rfl)) ⟨(by simp only [rP, rLs, prc, rdO]; omega), (by simp only [rP, rLs, prc, rdO]; omega)⟩ dX1_atom_8 (fun r_ w_ H locs hq hP hD hS => ?_)
                obtain ⟨rfl, rfl⟩ := hq
                refine lv_if_eq (tgt := 43) hx hb dX1_atom_11 (by decide) (fun _ => ?_) (fun c1 => absurd rfl c1)
                refine lv_aload_n hx hb dX1_atom_43 rfl (lv_at hl 0 rfl) ?_
                refine zldcw hx hb hown (sr15 hStr hz) dX1_atom_44 ?_
                have hP : va_P D zCl ((cH k ah aw adr aim ard asc ath awl alo atr sh) ++ (cR k ard s1)) _ := hP
                have hD : va_D A ((cH k ah aw adr aim ard asc ath awl alo atr sh) ++ (cR k ard s1)) := hD
                refine cWVP (cH k ah aw adr aim ard asc ath awl alo atr sh) (cR k ard s1) (As := [.ref (adK 15)]) (ci := 3) ⟨hx, hb, hml, hown, hts⟩ hOK hz hS hA hP hD (mtX3_passesM l D k ard Z hOK hStr hPv s1 15 _ s2 g2) (kX3_passes hts q1243 rfl rfl ⟨(by show 7 + 1 ≤ fr; omega), (by show 8 + (2 + 11) + 340 ≤ lo; omega)⟩) 0 rfl rfl rfl hl.1 rfl (lv_room (Nat.le_of_ble_eq_true rfl)) ⟨(by simp only [rP, rLs, prc, rdO]; omega), (by simp only [rP, rLs, prc, rdO]; omega)⟩ dX1_atom_47 (fun r_ w_ H locs hq hP hD hS => ?_)
                obtain ⟨rfl, rfl⟩ := hq
                refine lv_if_eq (tgt := 75) hx hb dX1_atom_50 (by decide) (fun _ => ?_) (fun c1 => absurd rfl c1)
                refine lv_aload_n hx hb dX1_atom_75 rfl (lv_at hl 0 rfl) ?_
                refine va_ldcS hx hb hown (sr12 hStr hz) dX1_atom_76 ?_
                have hP : va_P D zCl ((cH k ah aw adr aim ard asc ath awl alo atr sh) ++ (cR k ard s2)) _ := hP
                have hD : va_D A ((cH k ah aw adr aim ard asc ath awl alo atr sh) ++ (cR k ard s2)) := hD
                refine cWVP (cH k ah aw adr aim ard asc ath awl alo atr sh) (cR k ard s2) (As := [.ref (adK 12)]) (ci := 3) ⟨hx, hb, hml, hown, hts⟩ hOK hz hS hA hP hD (mtX3_passesM l D k ard Z hOK hStr hPv s2 12 _ s3 g3) (kX3_passes hts q1243 rfl rfl ⟨(by show 7 + 1 ≤ fr; omega), (by show 8 + (2 + 11) + 340 ≤ lo; omega)⟩) 0 rfl rfl rfl hl.1 rfl (lv_room (Nat.le_of_ble_eq_true rfl)) ⟨(by simp only [rP, rLs, prc, rdO]; omega), (by simp only [rP, rLs, prc, rdO]; omega)⟩ dX1_atom_78 (fun r_ w_ H locs hq hP hD hS => ?_)
                obtain ⟨rfl, rfl⟩ := hq
                refine lv_if_eq (tgt := 93) hx hb dX1_atom_81 (by decide) (fun _ => ?_) (fun c1 => absurd rfl c1)
                refine lv_aload_n hx hb dX1_atom_93 rfl (lv_at hl 0 rfl) ?_
                refine zldcw hx hb hown (sr16 hStr hz) dX1_atom_94 ?_
                have hP : va_P D zCl ((cH k ah aw adr aim ard asc ath awl alo atr sh) ++ (cR k ard s3)) _ := hP
                have hD : va_D A ((cH k ah aw adr aim ard asc ath awl alo atr sh) ++ (cR k ard s3)) := hD
                refine cWVP (cH k ah aw adr aim ard asc ath awl alo atr sh) (cR k ard s3) (As := [.ref (adK 16)]) (ci := 3) ⟨hx, hb, hml, hown, hts⟩ hOK hz hS hA hP hD (mtX3_passesM l D k ard Z hOK hStr hPv s3 16 _ s4 g4) (kX3_passes hts q1243 rfl rfl ⟨(by show 7 + 1 ≤ fr; omega), (by show 8 + (2 + 11) + 340 ≤ lo; omega)⟩) 0 rfl rfl rfl hl.1 rfl (lv_room (Nat.le_of_ble_eq_true rfl)) ⟨(by simp only [rP, rLs, prc, rdO]; omega), (by simp only [rP, rLs, prc, rdO]; omega)⟩ dX1_atom_97 (fun r_ w_ H locs hq hP hD hS => ?_)
                obtain ⟨rfl, rfl⟩ := hq
                refine lv_if_eq (tgt := 112) hx hb dX1_atom_100 (by decide) (fun _ => ?_) (fun c1 => absurd rfl c1)
                refine lv_aload_n hx hb dX1_atom_112 rfl (lv_at hl 1 rfl) ?_
                have hP : va_P D zCl ((cH k ah aw adr aim ard asc ath awl alo atr sh) ++ (cR k ard s4)) _ := hP
                have hD : va_D A ((cH k ah aw adr aim ard asc ath awl alo atr sh) ++ (cR k ard s4)) := hD
                refine cXV0 (As := []) (ci := 1) ⟨hx, hb, hml, hown, hts⟩ hOK hz hS hA hP hD (mtX1_sum l D k ah aw adr aim ard asc ath awl alo atr Z hOK6 hlt hTh hStr hPv hLs hVl sh s4 _ h5) (kX1_sum hts q1386 rfl rfl ⟨(by show 11 + 1 ≤ fr; omega), (by show 8 + (2 + 11) + 460 ≤ lo; omega)⟩) 0 rfl rfl rfl hl.1 rfl (lv_room (Nat.le_of_ble_eq_true rfl)) ⟨(by simp only [rP, rLs, prc]; show _ + (_ * (rA s5 - rA s4) + _) ≤ _ * (rA s7 - rA srd) + _; omega), (by simp only [rP, rLs, prc]; show _ + (_ * (rA s5 - rA s4) + _) ≤ _ * (rA s7 - rA srd) + _; omega)⟩ dX1_atom_113 (fun E_ w_ ce_ q9_ H locs hq hP hD hS hce hcv hcl => ?_) (fun r_ w_ H locs hq hP hD hS => ?_)
                · obtain ⟨ord, he, rfl⟩ := hq
                  exact nomatch he
                obtain ⟨g_, ord, qa, na, he, rfl, hpa, rfl⟩ := hq
                cases he
                refine W.widen (k := 27 + 50 * (rA s5 - rA s4) + 15) (n := 4800 + 5500 * (rA s5 - rA s4) + 1640) (by simp only [prc]; show _ + (_ * (rA s5 - rA s4) + _) ≤ _; omega) (by simp only [prc]; show _ + (_ * (rA s5 - rA s4) + _) ≤ _; omega) ?_
                refine lv_astore_n (lv' := [(2, .ref qa), (1, .ref (ard 0)), (0, .ref (ah 0))]) hx hb dX1_atom_116 rfl hl (by decide) rfl (fun ls hl => ?_)
                refine lv_aload_n hx hb dX1_atom_117 rfl (lv_at hl 1 rfl) ?_
                refine lv_bipush (v := (60 : Int32)) hx hb dX1_atom_118 (by decide) ?_
                have hP : va_P D zCl ((cH k ah aw adr aim ard asc ath awl alo atr sh) ++ ((cR k ard s5) ++ na)) _ := hP
                have hD : va_D A ((cH k ah aw adr aim ard asc ath awl alo atr sh) ++ ((cR k ard s5) ++ na)) := hD
                refine cWV (cH k ah aw adr aim ard asc ath awl alo atr sh) (cR k ard s5) na (As := [.int (60 : Int32)]) (ci := 3) ⟨hx, hb, hml, hown, hts⟩ hOK hz hS hA hP hD (mtX3_sign l D k ard Z hOK s5 60 _ s6 g6) (kX3_sign hts q1262 rfl rfl ⟨(by show 2 + 1 ≤ fr; omega), (by show 8 + (2 + 11) + 41 ≤ lo; omega)⟩) 0 rfl rfl rfl hl.1 rfl (lv_room (Nat.le_of_ble_eq_true rfl)) ⟨(by simp only [rP, rLs, prc, rdO]; omega), (by simp only [rP, rLs, prc, rdO]; omega)⟩ dX1_atom_120 (fun r_ w_ H locs hq hP hD hS => ?_)
                obtain ⟨rfl, rfl⟩ := hq
                refine lv_if_eq (tgt := 139) hx hb dX1_atom_123 (by decide) (fun c1 => absurd c1 (by decide)) (fun _ => ?_)
                refine va_new (ci := 14) (fs := [.null, .null]) (C := RX16) (T := TX16) (N := 2) hx hb hts in_X16 tyX16 tyX16_ok hown (hts _ q1496) (hts _ q1497) (hts _ q143) hK hP hD hS hA rfl (zdef 2 tyX16) (by simp only [rP, rLs, prc, rdO]; omega) (by simp only [rP, rLs, prc, rdO]; omega) dX1_atom_126 (fun qs H hP hD hS => ?_)
                refine lv_dup hx hb dX1_atom_129 rfl ?_
                refine lv_aload_n hx hb dX1_atom_130 rfl (lv_at hl 0 rfl) ?_
                refine lv_aload_n hx hb dX1_atom_131 rfl (lv_at hl 2 rfl) ?_
                have hP : va_P D zCl ([] ++ (((cH k ah aw adr aim ard asc ath awl alo atr sh) ++ (cR k ard s6)) ++ (na ++ [(qs, .inr (14, [.null, .null]))]))) _ := hP
                have hD : va_D A ([] ++ (((cH k ah aw adr aim ard asc ath awl alo atr sh) ++ (cR k ard s6)) ++ (na ++ [(qs, .inr (14, [.null, .null]))]))) := hD
                refine cXV [] ((cH k ah aw adr aim ard asc ath awl alo atr sh) ++ (cR k ard s6)) (na ++ [(qs, .inr (14, [.null, .null]))]) (As := []) (ci := 1) ⟨hx, hb, hml, hown, hts⟩ hOK hz hS hA hP hD (mtX1_sum l D k ah aw adr aim ard asc ath awl alo atr Z hOK6 hlt hTh hStr hPv hLs hVl sh s6 _ h7) (kX1_sum hts q1386 rfl rfl ⟨(by show 11 + 1 ≤ fr; omega), (by show 8 + (2 + 11) + 460 ≤ lo; omega)⟩) 0 rfl rfl rfl hl.1 rfl (lv_room (Nat.le_of_ble_eq_true rfl)) ⟨(by simp only [rP, rLs, prc]; show _ + (_ * (rA s7 - rA s6) + _) ≤ _ * (rA s7 - rA srd) + _; omega), (by simp only [rP, rLs, prc]; show _ + (_ * (rA s7 - rA s6) + _) ≤ _ * (rA s7 - rA srd) + _; omega)⟩ dX1_atom_132 (fun E_ w_ ce_ q9_ H locs hq hP hD hS hce hcv hcl => ?_) (fun r_ w_ H locs hq hP hD hS => ?_)
                · obtain ⟨ord, he, rfl⟩ := hq
                  cases he
                  have hP := zdropP (x := ((cH k ah aw adr aim ard asc ath awl alo atr sh) ++ (cR k ard s7))) (y := (na ++ [(qs, .inr (14, [.null, .null]))])) hP
                  have hD := zdropD (x := ((cH k ah aw adr aim ard asc ath awl alo atr sh) ++ (cR k ard s7))) (y := (na ++ [(qs, .inr (14, [.null, .null]))])) hD
                  exact zout hnoh hlocks hce hcv hcl hP hD hS ⟨_, rfl, rfl⟩ (by simp only [prc, rdO]; omega) (by simp only [prc, rdO]; omega)
                · obtain ⟨g, ord, q, n_, he, -⟩ := hq
                  exact nomatch he
              | inr q =>
                obtain ⟨f7, s7⟩ := q
                have hrun := moxr hrun
                have hAh7 : rA s6 ≤ rA s7 ∧ rA s7 ≤ 400 := h7n
                cases hrun
                refine CtX.of (by decide) (Nat.le_of_ble_eq_true rfl) ?_
                intro p e9 s m args below meth c A hE hnoh hA hP hD hS hz ls hl
                obtain ⟨hx, hb, hr, hml, hown, hts, hlocks, hname⟩ := hE
                have hown : s.vm.findClass RX1 = some m.cls := hown
                have hK := hOK.1 _ _ _ hz
                have hN := hOK.2.1 _ _ _ hz
                have hl : lv_has ls 3 [(0, .ref (ah 0))] := hl
                refine lv_aload_n hx hb dX1_atom_0 rfl (lv_at hl 0 rfl) ?_
                refine va_get (ci := 1) (v := .ref (ard 0)) (C := RX1) (T := TX1) (N := 10) hx hb hts in_X1 hown hK hP 0 rfl rfl 4 (by decide) (hts _ q375) (fun _ h9 => h9) rfl dX1_atom_1 ?_
                refine lv_astore_n (lv' := [(1, .ref (ard 0)), (0, .ref (ah 0))]) hx hb dX1_atom_4 rfl hl (by decide) rfl (fun ls hl => ?_)
                refine lv_aload_n hx hb dX1_atom_5 rfl (lv_at hl 0 rfl) ?_
                refine lv_bipush (v := (40 : Int32)) hx hb dX1_atom_6 (by decide) ?_
                have hP : va_P D zCl ((cH k ah aw adr aim ard asc ath awl alo atr sh) ++ (cR k ard srd)) _ := hP
                have hD : va_D A ((cH k ah aw adr aim ard asc ath awl alo atr sh) ++ (cR k ard srd)) := hD
                refine cWVP (cH k ah aw adr aim ard asc ath awl alo atr sh) (cR k ard srd) (As := [.int (40 : Int32)]) (ci := 3) ⟨hx, hb, hml, hown, hts⟩ hOK hz hS hA hP hD (mtX3_sign l D k ard Z hOK srd 40 _ s1 g1) (kX3_sign hts q1262 rfl rfl ⟨(by show 2 + 1 ≤ fr; omega), (by show 8 + (2 + 11) + 41 ≤ lo; omega)⟩) 0 rfl rfl rfl hl.1 rfl (lv_room (Nat.le_of_ble_eq_true rfl)) ⟨(by simp only [rP, rLs, prc, rdO]; omega), (by simp only [rP, rLs, prc, rdO]; omega)⟩ dX1_atom_8 (fun r_ w_ H locs hq hP hD hS => ?_)
                obtain ⟨rfl, rfl⟩ := hq
                refine lv_if_eq (tgt := 43) hx hb dX1_atom_11 (by decide) (fun _ => ?_) (fun c1 => absurd rfl c1)
                refine lv_aload_n hx hb dX1_atom_43 rfl (lv_at hl 0 rfl) ?_
                refine zldcw hx hb hown (sr15 hStr hz) dX1_atom_44 ?_
                have hP : va_P D zCl ((cH k ah aw adr aim ard asc ath awl alo atr sh) ++ (cR k ard s1)) _ := hP
                have hD : va_D A ((cH k ah aw adr aim ard asc ath awl alo atr sh) ++ (cR k ard s1)) := hD
                refine cWVP (cH k ah aw adr aim ard asc ath awl alo atr sh) (cR k ard s1) (As := [.ref (adK 15)]) (ci := 3) ⟨hx, hb, hml, hown, hts⟩ hOK hz hS hA hP hD (mtX3_passesM l D k ard Z hOK hStr hPv s1 15 _ s2 g2) (kX3_passes hts q1243 rfl rfl ⟨(by show 7 + 1 ≤ fr; omega), (by show 8 + (2 + 11) + 340 ≤ lo; omega)⟩) 0 rfl rfl rfl hl.1 rfl (lv_room (Nat.le_of_ble_eq_true rfl)) ⟨(by simp only [rP, rLs, prc, rdO]; omega), (by simp only [rP, rLs, prc, rdO]; omega)⟩ dX1_atom_47 (fun r_ w_ H locs hq hP hD hS => ?_)
                obtain ⟨rfl, rfl⟩ := hq
                refine lv_if_eq (tgt := 75) hx hb dX1_atom_50 (by decide) (fun _ => ?_) (fun c1 => absurd rfl c1)
                refine lv_aload_n hx hb dX1_atom_75 rfl (lv_at hl 0 rfl) ?_
                refine va_ldcS hx hb hown (sr12 hStr hz) dX1_atom_76 ?_
                have hP : va_P D zCl ((cH k ah aw adr aim ard asc ath awl alo atr sh) ++ (cR k ard s2)) _ := hP
                have hD : va_D A ((cH k ah aw adr aim ard asc ath awl alo atr sh) ++ (cR k ard s2)) := hD
                refine cWVP (cH k ah aw adr aim ard asc ath awl alo atr sh) (cR k ard s2) (As := [.ref (adK 12)]) (ci := 3) ⟨hx, hb, hml, hown, hts⟩ hOK hz hS hA hP hD (mtX3_passesM l D k ard Z hOK hStr hPv s2 12 _ s3 g3) (kX3_passes hts q1243 rfl rfl ⟨(by show 7 + 1 ≤ fr; omega), (by show 8 + (2 + 11) + 340 ≤ lo; omega)⟩) 0 rfl rfl rfl hl.1 rfl (lv_room (Nat.le_of_ble_eq_true rfl)) ⟨(by simp only [rP, rLs, prc, rdO]; omega), (by simp only [rP, rLs, prc, rdO]; omega)⟩ dX1_atom_78 (fun r_ w_ H locs hq hP hD hS => ?_)
                obtain ⟨rfl, rfl⟩ := hq
                refine lv_if_eq (tgt := 93) hx hb dX1_atom_81 (by decide) (fun _ => ?_) (fun c1 => absurd rfl c1)
                refine lv_aload_n hx hb dX1_atom_93 rfl (lv_at hl 0 rfl) ?_
                refine zldcw hx hb hown (sr16 hStr hz) dX1_atom_94 ?_
                have hP : va_P D zCl ((cH k ah aw adr aim ard asc ath awl alo atr sh) ++ (cR k ard s3)) _ := hP
                have hD : va_D A ((cH k ah aw adr aim ard asc ath awl alo atr sh) ++ (cR k ard s3)) := hD
                refine cWVP (cH k ah aw adr aim ard asc ath awl alo atr sh) (cR k ard s3) (As := [.ref (adK 16)]) (ci := 3) ⟨hx, hb, hml, hown, hts⟩ hOK hz hS hA hP hD (mtX3_passesM l D k ard Z hOK hStr hPv s3 16 _ s4 g4) (kX3_passes hts q1243 rfl rfl ⟨(by show 7 + 1 ≤ fr; omega), (by show 8 + (2 + 11) + 340 ≤ lo; omega)⟩) 0 rfl rfl rfl hl.1 rfl (lv_room (Nat.le_of_ble_eq_true rfl)) ⟨(by simp only [rP, rLs, prc, rdO]; omega), (by simp only [rP, rLs, prc, rdO]; omega)⟩ dX1_atom_97 (fun r_ w_ H locs hq hP hD hS => ?_)
                obtain ⟨rfl, rfl⟩ := hq
                refine lv_if_eq (tgt := 112) hx hb dX1_atom_100 (by decide) (fun _ => ?_) (fun c1 => absurd rfl c1)
                refine lv_aload_n hx hb dX1_atom_112 rfl (lv_at hl 1 rfl) ?_
                have hP : va_P D zCl ((cH k ah aw adr aim ard asc ath awl alo atr sh) ++ (cR k ard s4)) _ := hP
                have hD : va_D A ((cH k ah aw adr aim ard asc ath awl alo atr sh) ++ (cR k ard s4)) := hD
                refine cXV0 (As := []) (ci := 1) ⟨hx, hb, hml, hown, hts⟩ hOK hz hS hA hP hD (mtX1_sum l D k ah aw adr aim ard asc ath awl alo atr Z hOK6 hlt hTh hStr hPv hLs hVl sh s4 _ h5) (kX1_sum hts q1386 rfl rfl ⟨(by show 11 + 1 ≤ fr; omega), (by show 8 + (2 + 11) + 460 ≤ lo; omega)⟩) 0 rfl rfl rfl hl.1 rfl (lv_room (Nat.le_of_ble_eq_true rfl)) ⟨(by simp only [rP, rLs, prc]; show _ + (_ * (rA s5 - rA s4) + _) ≤ _ * (rA s7 - rA srd) + _; omega), (by simp only [rP, rLs, prc]; show _ + (_ * (rA s5 - rA s4) + _) ≤ _ * (rA s7 - rA srd) + _; omega)⟩ dX1_atom_113 (fun E_ w_ ce_ q9_ H locs hq hP hD hS hce hcv hcl => ?_) (fun r_ w_ H locs hq hP hD hS => ?_)
                · obtain ⟨ord, he, rfl⟩ := hq
                  exact nomatch he
                obtain ⟨g_, ord, qa, na, he, rfl, hpa, rfl⟩ := hq
                cases he
                refine W.widen (k := 27 + 50 * (rA s5 - rA s4) + 15) (n := 4800 + 5500 * (rA s5 - rA s4) + 1640) (by simp only [prc]; show _ + (_ * (rA s5 - rA s4) + _) ≤ _; omega) (by simp only [prc]; show _ + (_ * (rA s5 - rA s4) + _) ≤ _; omega) ?_
                refine lv_astore_n (lv' := [(2, .ref qa), (1, .ref (ard 0)), (0, .ref (ah 0))]) hx hb dX1_atom_116 rfl hl (by decide) rfl (fun ls hl => ?_)
                refine lv_aload_n hx hb dX1_atom_117 rfl (lv_at hl 1 rfl) ?_
                refine lv_bipush (v := (60 : Int32)) hx hb dX1_atom_118 (by decide) ?_
                have hP : va_P D zCl ((cH k ah aw adr aim ard asc ath awl alo atr sh) ++ ((cR k ard s5) ++ na)) _ := hP
                have hD : va_D A ((cH k ah aw adr aim ard asc ath awl alo atr sh) ++ ((cR k ard s5) ++ na)) := hD
                refine cWV (cH k ah aw adr aim ard asc ath awl alo atr sh) (cR k ard s5) na (As := [.int (60 : Int32)]) (ci := 3) ⟨hx, hb, hml, hown, hts⟩ hOK hz hS hA hP hD (mtX3_sign l D k ard Z hOK s5 60 _ s6 g6) (kX3_sign hts q1262 rfl rfl ⟨(by show 2 + 1 ≤ fr; omega), (by show 8 + (2 + 11) + 41 ≤ lo; omega)⟩) 0 rfl rfl rfl hl.1 rfl (lv_room (Nat.le_of_ble_eq_true rfl)) ⟨(by simp only [rP, rLs, prc, rdO]; omega), (by simp only [rP, rLs, prc, rdO]; omega)⟩ dX1_atom_120 (fun r_ w_ H locs hq hP hD hS => ?_)
                obtain ⟨rfl, rfl⟩ := hq
                refine lv_if_eq (tgt := 139) hx hb dX1_atom_123 (by decide) (fun c1 => absurd c1 (by decide)) (fun _ => ?_)
                refine va_new (ci := 14) (fs := [.null, .null]) (C := RX16) (T := TX16) (N := 2) hx hb hts in_X16 tyX16 tyX16_ok hown (hts _ q1496) (hts _ q1497) (hts _ q143) hK hP hD hS hA rfl (zdef 2 tyX16) (by simp only [rP, rLs, prc, rdO]; omega) (by simp only [rP, rLs, prc, rdO]; omega) dX1_atom_126 (fun qs H hP hD hS => ?_)
                refine lv_dup hx hb dX1_atom_129 rfl ?_
                refine lv_aload_n hx hb dX1_atom_130 rfl (lv_at hl 0 rfl) ?_
                refine lv_aload_n hx hb dX1_atom_131 rfl (lv_at hl 2 rfl) ?_
                have hP : va_P D zCl ([] ++ (((cH k ah aw adr aim ard asc ath awl alo atr sh) ++ (cR k ard s6)) ++ (na ++ [(qs, .inr (14, [.null, .null]))]))) _ := hP
                have hD : va_D A ([] ++ (((cH k ah aw adr aim ard asc ath awl alo atr sh) ++ (cR k ard s6)) ++ (na ++ [(qs, .inr (14, [.null, .null]))]))) := hD
                refine cXV [] ((cH k ah aw adr aim ard asc ath awl alo atr sh) ++ (cR k ard s6)) (na ++ [(qs, .inr (14, [.null, .null]))]) (As := []) (ci := 1) ⟨hx, hb, hml, hown, hts⟩ hOK hz hS hA hP hD (mtX1_sum l D k ah aw adr aim ard asc ath awl alo atr Z hOK6 hlt hTh hStr hPv hLs hVl sh s6 _ h7) (kX1_sum hts q1386 rfl rfl ⟨(by show 11 + 1 ≤ fr; omega), (by show 8 + (2 + 11) + 460 ≤ lo; omega)⟩) 0 rfl rfl rfl hl.1 rfl (lv_room (Nat.le_of_ble_eq_true rfl)) ⟨(by simp only [rP, rLs, prc]; show _ + (_ * (rA s7 - rA s6) + _) ≤ _ * (rA s7 - rA srd) + _; omega), (by simp only [rP, rLs, prc]; show _ + (_ * (rA s7 - rA s6) + _) ≤ _ * (rA s7 - rA srd) + _; omega)⟩ dX1_atom_132 (fun E_ w_ ce_ q9_ H locs hq hP hD hS hce hcv hcl => ?_) (fun r_ w_ H locs hq hP hD hS => ?_)
                · obtain ⟨ord, he, rfl⟩ := hq
                  exact nomatch he
                obtain ⟨g_, ord, qb, nb, he, rfl, hpb, rfl⟩ := hq
                cases he
                refine W.widen (k := 27 + 50 * (rA s5 - rA s4) + 15 + 1 + (50 * (rA s7 - rA s6) + 15)) (n := 4800 + 5500 * (rA s5 - rA s4) + 1640 + 2 + (5500 * (rA s7 - rA s6) + 1640)) (by simp only [prc]; show _ + (_ * (rA s7 - rA s6) + _) ≤ _; omega) (by simp only [prc]; show _ + (_ * (rA s7 - rA s6) + _) ≤ _; omega) ?_
                have hP : va_P D zCl (zcat [(cH k ah aw adr aim ard asc ath awl alo atr sh), (cR k ard s7), nb, na, [(qs, .inr (14, [.null, .null]))]]) _ := hP
                have hD : va_D A (zcat [(cH k ah aw adr aim ard asc ath awl alo atr sh), (cR k ard s7), nb, na, [(qs, .inr (14, [.null, .null]))]]) := hD
                have hP := zsP [(cH k ah aw adr aim ard asc ath awl alo atr sh), (cR k ard s7), nb, na, [(qs, .inr (14, [.null, .null]))]] 5 [0, 1, 2, 3] [4] hP rfl (by decide)
                have hD := zsD [(cH k ah aw adr aim ard asc ath awl alo atr sh), (cR k ard s7), nb, na, [(qs, .inr (14, [.null, .null]))]] 5 [0, 1, 2, 3] [4] hD rfl (by decide)
                have hP : va_P D zCl (((cH k ah aw adr aim ard asc ath awl alo atr sh) ++ ((cR k ard s7) ++ (nb ++ na))) ++ ([(qs, .inr (14, [.null, .null]))] ++ [])) _ := hP
                have hD : va_D A (((cH k ah aw adr aim ard asc ath awl alo atr sh) ++ ((cR k ard s7) ++ (nb ++ na))) ++ ([(qs, .inr (14, [.null, .null]))] ++ [])) := hD
                refine cWI ((cH k ah aw adr aim ard asc ath awl alo atr sh) ++ ((cR k ard s7) ++ (nb ++ na))) [(qs, .inr (14, [.null, .null]))] [] (As := [.ref qa, .ref qb]) ⟨hx, hb, hml, hown, hts⟩ hOK hz hS hA hP hD (mtX16_init l D k Z hOK qs qa qb) (kX16_init hts q1498 rfl rfl ⟨(by show 1 + 1 ≤ fr; omega), (by show 8 + (3 + 11) + 30 ≤ lo; omega)⟩) rfl hl.1 rfl (lv_room (Nat.le_of_ble_eq_true rfl)) ⟨(by simp only [rP, rLs, prc, rdO]; omega), (by simp only [rP, rLs, prc, rdO]; omega)⟩ dX1_atom_135 (fun r_ w_ H locs hq hP hD hS => ?_)
                obtain ⟨rfl, rfl⟩ := hq
                have hP : va_P D zCl (((cH k ah aw adr aim ard asc ath awl alo atr sh) ++ ((cR k ard s7) ++ (nb ++ na))) ++ [(qs, .inr (14, [.ref qa, .ref qb]))]) _ := hP
                have hD : va_D A (((cH k ah aw adr aim ard asc ath awl alo atr sh) ++ ((cR k ard s7) ++ (nb ++ na))) ++ [(qs, .inr (14, [.ref qa, .ref qb]))]) := hD
                have hP : va_P D zCl (((cH k ah aw adr aim ard asc ath awl alo atr sh) ++ (cR k ard s7)) ++ ((nb ++ na) ++ [(qs, .inr (14, [.ref qa, .ref qb]))])) _ := hP
                have hD : va_D A (((cH k ah aw adr aim ard asc ath awl alo atr sh) ++ (cR k ard s7)) ++ ((nb ++ na) ++ [(qs, .inr (14, [.ref qa, .ref qb]))])) := hD
                refine widX (by simp only [prc, rdO]; omega) (by simp only [prc, rdO]; omega) ?_
                exact vx_ret (retW_a hx hb hr (Or.inl ⟨_, rfl⟩) hlocks hP hD hS ⟨_, _, qs, _, rfl, rfl, Or.inr (Or.inl ⟨qa, qb, _, _, List.mem_append_right _ (List.mem_singleton.mpr rfl), hpa.mono (fun x h => List.mem_append_left _ (List.mem_append_right _ h)), hpb.mono (fun x h => List.mem_append_left _ (List.mem_append_left _ h)), rfl⟩), ⟨14, _, _, List.mem_append_right _ (List.mem_singleton.mpr rfl), rfl, zN_of q2525 rfl⟩, rfl⟩ dX1_atom_138)
            | false =>
              have hrun := mif_n (by decide) hrun
              have hA6 : rA s5 + 0 ≤ rA s6 ∧ rA s6 ≤ 400 := hA6
              obtain ⟨b7, s7, g7, hrun⟩ := mo2_s rfl hrun
              obtain ⟨g7, hA7⟩ := gSign_s g7
              cases b7 with
              | true =>
                have hrun := mif_p rfl hrun
                have hA7 : rA s6 + 1 ≤ rA s7 ∧ rA s7 ≤ 400 := hA7
                obtain ⟨o8, h8, hrun⟩ := mox_s rfl hrun
                have h8n := sum_m h8
                cases o8 with
                | inl E =>
                  obtain ⟨E1, s8⟩ := E
                  have hrun := moxl hrun
                  have hAh8 : rA s7 ≤ rA s8 ∧ rA s8 ≤ 400 := h8n
                  cases hrun
                  refine CtX.of (by decide) (Nat.le_of_ble_eq_true rfl) ?_
                  intro p e9 s m args below meth c A hE hnoh hA hP hD hS hz ls hl
                  obtain ⟨hx, hb, hr, hml, hown, hts, hlocks, hname⟩ := hE
                  have hown : s.vm.findClass RX1 = some m.cls := hown
                  have hK := hOK.1 _ _ _ hz
                  have hN := hOK.2.1 _ _ _ hz
                  have hl : lv_has ls 3 [(0, .ref (ah 0))] := hl
                  refine lv_aload_n hx hb dX1_atom_0 rfl (lv_at hl 0 rfl) ?_
                  refine va_get (ci := 1) (v := .ref (ard 0)) (C := RX1) (T := TX1) (N := 10) hx hb hts in_X1 hown hK hP 0 rfl rfl 4 (by decide) (hts _ q375) (fun _ h9 => h9) rfl dX1_atom_1 ?_
                  refine lv_astore_n (lv' := [(1, .ref (ard 0)), (0, .ref (ah 0))]) hx hb dX1_atom_4 rfl hl (by decide) rfl (fun ls hl => ?_)
                  refine lv_aload_n hx hb dX1_atom_5 rfl (lv_at hl 0 rfl) ?_
                  refine lv_bipush (v := (40 : Int32)) hx hb dX1_atom_6 (by decide) ?_
                  have hP : va_P D zCl ((cH k ah aw adr aim ard asc ath awl alo atr sh) ++ (cR k ard srd)) _ := hP
                  have hD : va_D A ((cH k ah aw adr aim ard asc ath awl alo atr sh) ++ (cR k ard srd)) := hD
                  refine cWVP (cH k ah aw adr aim ard asc ath awl alo atr sh) (cR k ard srd) (As := [.int (40 : Int32)]) (ci := 3) ⟨hx, hb, hml, hown, hts⟩ hOK hz hS hA hP hD (mtX3_sign l D k ard Z hOK srd 40 _ s1 g1) (kX3_sign hts q1262 rfl rfl ⟨(by show 2 + 1 ≤ fr; omega), (by show 8 + (2 + 11) + 41 ≤ lo; omega)⟩) 0 rfl rfl rfl hl.1 rfl (lv_room (Nat.le_of_ble_eq_true rfl)) ⟨(by simp only [rP, rLs, prc, rdO]; omega), (by simp only [rP, rLs, prc, rdO]; omega)⟩ dX1_atom_8 (fun r_ w_ H locs hq hP hD hS => ?_)
                  obtain ⟨rfl, rfl⟩ := hq
                  refine lv_if_eq (tgt := 43) hx hb dX1_atom_11 (by decide) (fun _ => ?_) (fun c1 => absurd rfl c1)
                  refine lv_aload_n hx hb dX1_atom_43 rfl (lv_at hl 0 rfl) ?_
                  refine zldcw hx hb hown (sr15 hStr hz) dX1_atom_44 ?_
                  have hP : va_P D zCl ((cH k ah aw adr aim ard asc ath awl alo atr sh) ++ (cR k ard s1)) _ := hP
                  have hD : va_D A ((cH k ah aw adr aim ard asc ath awl alo atr sh) ++ (cR k ard s1)) := hD
                  refine cWVP (cH k ah aw adr aim ard asc ath awl alo atr sh) (cR k ard s1) (As := [.ref (adK 15)]) (ci := 3) ⟨hx, hb, hml, hown, hts⟩ hOK hz hS hA hP hD (mtX3_passesM l D k ard Z hOK hStr hPv s1 15 _ s2 g2) (kX3_passes hts q1243 rfl rfl ⟨(by show 7 + 1 ≤ fr; omega), (by show 8 + (2 + 11) + 340 ≤ lo; omega)⟩) 0 rfl rfl rfl hl.1 rfl (lv_room (Nat.le_of_ble_eq_true rfl)) ⟨(by simp only [rP, rLs, prc, rdO]; omega), (by simp only [rP, rLs, prc, rdO]; omega)⟩ dX1_atom_47 (fun r_ w_ H locs hq hP hD hS => ?_)
                  obtain ⟨rfl, rfl⟩ := hq
                  refine lv_if_eq (tgt := 75) hx hb dX1_atom_50 (by decide) (fun _ => ?_) (fun c1 => absurd rfl c1)
                  refine lv_aload_n hx hb dX1_atom_75 rfl (lv_at hl 0 rfl) ?_
                  refine va_ldcS hx hb hown (sr12 hStr hz) dX1_atom_76 ?_
                  have hP : va_P D zCl ((cH k ah aw adr aim ard asc ath awl alo atr sh) ++ (cR k ard s2)) _ := hP
                  have hD : va_D A ((cH k ah aw adr aim ard asc ath awl alo atr sh) ++ (cR k ard s2)) := hD
                  refine cWVP (cH k ah aw adr aim ard asc ath awl alo atr sh) (cR k ard s2) (As := [.ref (adK 12)]) (ci := 3) ⟨hx, hb, hml, hown, hts⟩ hOK hz hS hA hP hD (mtX3_passesM l D k ard Z hOK hStr hPv s2 12 _ s3 g3) (kX3_passes hts q1243 rfl rfl ⟨(by show 7 + 1 ≤ fr; omega), (by show 8 + (2 + 11) + 340 ≤ lo; omega)⟩) 0 rfl rfl rfl hl.1 rfl (lv_room (Nat.le_of_ble_eq_true rfl)) ⟨(by simp only [rP, rLs, prc, rdO]; omega), (by simp only [rP, rLs, prc, rdO]; omega)⟩ dX1_atom_78 (fun r_ w_ H locs hq hP hD hS => ?_)
                  obtain ⟨rfl, rfl⟩ := hq
                  refine lv_if_eq (tgt := 93) hx hb dX1_atom_81 (by decide) (fun _ => ?_) (fun c1 => absurd rfl c1)
                  refine lv_aload_n hx hb dX1_atom_93 rfl (lv_at hl 0 rfl) ?_
                  refine zldcw hx hb hown (sr16 hStr hz) dX1_atom_94 ?_
                  have hP : va_P D zCl ((cH k ah aw adr aim ard asc ath awl alo atr sh) ++ (cR k ard s3)) _ := hP
                  have hD : va_D A ((cH k ah aw adr aim ard asc ath awl alo atr sh) ++ (cR k ard s3)) := hD
                  refine cWVP (cH k ah aw adr aim ard asc ath awl alo atr sh) (cR k ard s3) (As := [.ref (adK 16)]) (ci := 3) ⟨hx, hb, hml, hown, hts⟩ hOK hz hS hA hP hD (mtX3_passesM l D k ard Z hOK hStr hPv s3 16 _ s4 g4) (kX3_passes hts q1243 rfl rfl ⟨(by show 7 + 1 ≤ fr; omega), (by show 8 + (2 + 11) + 340 ≤ lo; omega)⟩) 0 rfl rfl rfl hl.1 rfl (lv_room (Nat.le_of_ble_eq_true rfl)) ⟨(by simp only [rP, rLs, prc, rdO]; omega), (by simp only [rP, rLs, prc, rdO]; omega)⟩ dX1_atom_97 (fun r_ w_ H locs hq hP hD hS => ?_)
                  obtain ⟨rfl, rfl⟩ := hq
                  refine lv_if_eq (tgt := 112) hx hb dX1_atom_100 (by decide) (fun _ => ?_) (fun c1 => absurd rfl c1)
                  refine lv_aload_n hx hb dX1_atom_112 rfl (lv_at hl 1 rfl) ?_
                  have hP : va_P D zCl ((cH k ah aw adr aim ard asc ath awl alo atr sh) ++ (cR k ard s4)) _ := hP
                  have hD : va_D A ((cH k ah aw adr aim ard asc ath awl alo atr sh) ++ (cR k ard s4)) := hD
                  refine cXV0 (As := []) (ci := 1) ⟨hx, hb, hml, hown, hts⟩ hOK hz hS hA hP hD (mtX1_sum l D k ah aw adr aim ard asc ath awl alo atr Z hOK6 hlt hTh hStr hPv hLs hVl sh s4 _ h5) (kX1_sum hts q1386 rfl rfl ⟨(by show 11 + 1 ≤ fr; omega), (by show 8 + (2 + 11) + 460 ≤ lo; omega)⟩) 0 rfl rfl rfl hl.1 rfl (lv_room (Nat.le_of_ble_eq_true rfl)) ⟨(by simp only [rP, rLs, prc]; show _ + (_ * (rA s5 - rA s4) + _) ≤ _ * (rA s8 - rA srd) + _; omega), (by simp only [rP, rLs, prc]; show _ + (_ * (rA s5 - rA s4) + _) ≤ _ * (rA s8 - rA srd) + _; omega)⟩ dX1_atom_113 (fun E_ w_ ce_ q9_ H locs hq hP hD hS hce hcv hcl => ?_) (fun r_ w_ H locs hq hP hD hS => ?_)
                  · obtain ⟨ord, he, rfl⟩ := hq
                    exact nomatch he
                  obtain ⟨g_, ord, qa, na, he, rfl, hpa, rfl⟩ := hq
                  cases he
                  refine W.widen (k := 27 + 50 * (rA s5 - rA s4) + 15) (n := 4800 + 5500 * (rA s5 - rA s4) + 1640) (by simp only [prc]; show _ + (_ * (rA s5 - rA s4) + _) ≤ _; omega) (by simp only [prc]; show _ + (_ * (rA s5 - rA s4) + _) ≤ _; omega) ?_
                  refine lv_astore_n (lv' := [(2, .ref qa), (1, .ref (ard 0)), (0, .ref (ah 0))]) hx hb dX1_atom_116 rfl hl (by decide) rfl (fun ls hl => ?_)
                  refine lv_aload_n hx hb dX1_atom_117 rfl (lv_at hl 1 rfl) ?_
                  refine lv_bipush (v := (60 : Int32)) hx hb dX1_atom_118 (by decide) ?_
                  have hP : va_P D zCl ((cH k ah aw adr aim ard asc ath awl alo atr sh) ++ ((cR k ard s5) ++ na)) _ := hP
                  have hD : va_D A ((cH k ah aw adr aim ard asc ath awl alo atr sh) ++ ((cR k ard s5) ++ na)) := hD
                  refine cWV (cH k ah aw adr aim ard asc ath awl alo atr sh) (cR k ard s5) na (As := [.int (60 : Int32)]) (ci := 3) ⟨hx, hb, hml, hown, hts⟩ hOK hz hS hA hP hD (mtX3_sign l D k ard Z hOK s5 60 _ s6 g6) (kX3_sign hts q1262 rfl rfl ⟨(by show 2 + 1 ≤ fr; omega), (by show 8 + (2 + 11) + 41 ≤ lo; omega)⟩) 0 rfl rfl rfl hl.1 rfl (lv_room (Nat.le_of_ble_eq_true rfl)) ⟨(by simp only [rP, rLs, prc, rdO]; omega), (by simp only [rP, rLs, prc, rdO]; omega)⟩ dX1_atom_120 (fun r_ w_ H locs hq hP hD hS => ?_)
                  obtain ⟨rfl, rfl⟩ := hq
                  refine lv_if_eq (tgt := 139) hx hb dX1_atom_123 (by decide) (fun _ => ?_) (fun c1 => absurd rfl c1)
                  refine lv_aload_n hx hb dX1_atom_139 rfl (lv_at hl 1 rfl) ?_
                  refine lv_bipush (v := (62 : Int32)) hx hb dX1_atom_140 (by decide) ?_
                  have hP : va_P D zCl ((cH k ah aw adr aim ard asc ath awl alo atr sh) ++ ((cR k ard s6) ++ na)) _ := hP
                  have hD : va_D A ((cH k ah aw adr aim ard asc ath awl alo atr sh) ++ ((cR k ard s6) ++ na)) := hD
                  refine cWV (cH k ah aw adr aim ard asc ath awl alo atr sh) (cR k ard s6) na (As := [.int (62 : Int32)]) (ci := 3) ⟨hx, hb, hml, hown, hts⟩ hOK hz hS hA hP hD (mtX3_sign l D k ard Z hOK s6 62 _ s7 g7) (kX3_sign hts q1262 rfl rfl ⟨(by show 2 + 1 ≤ fr; omega), (by show 8 + (2 + 11) + 41 ≤ lo; omega)⟩) 0 rfl rfl rfl hl.1 rfl (lv_room (Nat.le_of_ble_eq_true rfl)) ⟨(by simp only [rP, rLs, prc, rdO]; omega), (by simp only [rP, rLs, prc, rdO]; omega)⟩ dX1_atom_142 (fun r_ w_ H locs hq hP hD hS => ?_)
                  obtain ⟨rfl, rfl⟩ := hq
                  refine lv_if_ne (tgt := 153) hx hb dX1_atom_145 (by decide) (fun _ => ?_) (fun c1 => absurd c1 (by decide))
                  refine va_new (ci := 14) (fs := [.null, .null]) (C := RX16) (T := TX16) (N := 2) hx hb hts in_X16 tyX16 tyX16_ok hown (hts _ q1496) (hts _ q1497) (hts _ q143) hK hP hD hS hA rfl (zdef 2 tyX16) (by simp only [rP, rLs, prc, rdO]; omega) (by simp only [rP, rLs, prc, rdO]; omega) dX1_atom_153 (fun qs H hP hD hS => ?_)
                  refine lv_dup hx hb dX1_atom_156 rfl ?_
                  refine lv_aload_n hx hb dX1_atom_157 rfl (lv_at hl 2 rfl) ?_
                  have hP : va_P D zCl ([] ++ (((cH k ah aw adr aim ard asc ath awl alo atr sh) ++ (cR k ard s7)) ++ (na ++ [(qs, .inr (14, [.null, .null]))]))) _ := hP
                  have hD : va_D A ([] ++ (((cH k ah aw adr aim ard asc ath awl alo atr sh) ++ (cR k ard s7)) ++ (na ++ [(qs, .inr (14, [.null, .null]))]))) := hD
                  refine cXV [] ((cH k ah aw adr aim ard asc ath awl alo atr sh) ++ (cR k ard s7)) (na ++ [(qs, .inr (14, [.null, .null]))]) (As := []) (ci := 1) ⟨hx, hb, hml, hown, hts⟩ hOK hz hS hA hP hD (mtX1_sum l D k ah aw adr aim ard asc ath awl alo atr Z hOK6 hlt hTh hStr hPv hLs hVl sh s7 _ h8) (kX1_sum hts q1386 rfl rfl ⟨(by show 11 + 1 ≤ fr; omega), (by show 8 + (2 + 11) + 460 ≤ lo; omega)⟩) 0 rfl rfl rfl hl.1 rfl (lv_room (Nat.le_of_ble_eq_true rfl)) ⟨(by simp only [rP, rLs, prc]; show _ + (_ * (rA s8 - rA s7) + _) ≤ _ * (rA s8 - rA srd) + _; omega), (by simp only [rP, rLs, prc]; show _ + (_ * (rA s8 - rA s7) + _) ≤ _ * (rA s8 - rA srd) + _; omega)⟩ dX1_atom_158 (fun E_ w_ ce_ q9_ H locs hq hP hD hS hce hcv hcl => ?_) (fun r_ w_ H locs hq hP hD hS => ?_)
                  · obtain ⟨ord, he, rfl⟩ := hq
                    cases he
                    have hP := zdropP (x := ((cH k ah aw adr aim ard asc ath awl alo atr sh) ++ (cR k ard s8))) (y := (na ++ [(qs, .inr (14, [.null, .null]))])) hP
                    have hD := zdropD (x := ((cH k ah aw adr aim ard asc ath awl alo atr sh) ++ (cR k ard s8))) (y := (na ++ [(qs, .inr (14, [.null, .null]))])) hD
                    exact zout hnoh hlocks hce hcv hcl hP hD hS ⟨_, rfl, rfl⟩ (by simp only [prc, rdO]; omega) (by simp only [prc, rdO]; omega)
                  · obtain ⟨g, ord, q, n_, he, -⟩ := hq
                    exact nomatch he
                | inr q =>
                  obtain ⟨f8, s8⟩ := q
                  have hrun := moxr hrun
                  have hAh8 : rA s7 ≤ rA s8 ∧ rA s8 ≤ 400 := h8n
                  cases hrun
                  refine CtX.of (by decide) (Nat.le_of_ble_eq_true rfl) ?_
                  intro p e9 s m args below meth c A hE hnoh hA hP hD hS hz ls hl
                  obtain ⟨hx, hb, hr, hml, hown, hts, hlocks, hname⟩ := hE
                  have hown : s.vm.findClass RX1 = some m.cls := hown
                  have hK := hOK.1 _ _ _ hz
                  have hN := hOK.2.1 _ _ _ hz
                  have hl : lv_has ls 3 [(0, .ref (ah 0))] := hl
                  refine lv_aload_n hx hb dX1_atom_0 rfl (lv_at hl 0 rfl) ?_
                  refine va_get (ci := 1) (v := .ref (ard 0)) (C := RX1) (T := TX1) (N := 10) hx hb hts in_X1 hown hK hP 0 rfl rfl 4 (by decide) (hts _ q375) (fun _ h9 => h9) rfl dX1_atom_1 ?_
                  refine lv_astore_n (lv' := [(1, .ref (ard 0)), (0, .ref (ah 0))]) hx hb dX1_atom_4 rfl hl (by decide) rfl (fun ls hl => ?_)
                  refine lv_aload_n hx hb dX1_atom_5 rfl (lv_at hl 0 rfl) ?_
                  refine lv_bipush (v := (40 : Int32)) hx hb dX1_atom_6 (by decide) ?_
                  have hP : va_P D zCl ((cH k ah aw adr aim ard asc ath awl alo atr sh) ++ (cR k ard srd)) _ := hP
                  have hD : va_D A ((cH k ah aw adr aim ard asc ath awl alo atr sh) ++ (cR k ard srd)) := hD
                  refine cWVP (cH k ah aw adr aim ard asc ath awl alo atr sh) (cR k ard srd) (As := [.int (40 : Int32)]) (ci := 3) ⟨hx, hb, hml, hown, hts⟩ hOK hz hS hA hP hD (mtX3_sign l D k ard Z hOK srd 40 _ s1 g1) (kX3_sign hts q1262 rfl rfl ⟨(by show 2 + 1 ≤ fr; omega), (by show 8 + (2 + 11) + 41 ≤ lo; omega)⟩) 0 rfl rfl rfl hl.1 rfl (lv_room (Nat.le_of_ble_eq_true rfl)) ⟨(by simp only [rP, rLs, prc, rdO]; omega), (by simp only [rP, rLs, prc, rdO]; omega)⟩ dX1_atom_8 (fun r_ w_ H locs hq hP hD hS => ?_)
                  obtain ⟨rfl, rfl⟩ := hq
                  refine lv_if_eq (tgt := 43) hx hb dX1_atom_11 (by decide) (fun _ => ?_) (fun c1 => absurd rfl c1)
                  refine lv_aload_n hx hb dX1_atom_43 rfl (lv_at hl 0 rfl) ?_
                  refine zldcw hx hb hown (sr15 hStr hz) dX1_atom_44 ?_
                  have hP : va_P D zCl ((cH k ah aw adr aim ard asc ath awl alo atr sh) ++ (cR k ard s1)) _ := hP
                  have hD : va_D A ((cH k ah aw adr aim ard asc ath awl alo atr sh) ++ (cR k ard s1)) := hD
                  refine cWVP (cH k ah aw adr aim ard asc ath awl alo atr sh) (cR k ard s1) (As := [.ref (adK 15)]) (ci := 3) ⟨hx, hb, hml, hown, hts⟩ hOK hz hS hA hP hD (mtX3_passesM l D k ard Z hOK hStr hPv s1 15 _ s2 g2) (kX3_passes hts q1243 rfl rfl ⟨(by show 7 + 1 ≤ fr; omega), (by show 8 + (2 + 11) + 340 ≤ lo; omega)⟩) 0 rfl rfl rfl hl.1 rfl (lv_room (Nat.le_of_ble_eq_true rfl)) ⟨(by simp only [rP, rLs, prc, rdO]; omega), (by simp only [rP, rLs, prc, rdO]; omega)⟩ dX1_atom_47 (fun r_ w_ H locs hq hP hD hS => ?_)
                  obtain ⟨rfl, rfl⟩ := hq
                  refine lv_if_eq (tgt := 75) hx hb dX1_atom_50 (by decide) (fun _ => ?_) (fun c1 => absurd rfl c1)
                  refine lv_aload_n hx hb dX1_atom_75 rfl (lv_at hl 0 rfl) ?_
                  refine va_ldcS hx hb hown (sr12 hStr hz) dX1_atom_76 ?_
                  have hP : va_P D zCl ((cH k ah aw adr aim ard asc ath awl alo atr sh) ++ (cR k ard s2)) _ := hP
                  have hD : va_D A ((cH k ah aw adr aim ard asc ath awl alo atr sh) ++ (cR k ard s2)) := hD
                  refine cWVP (cH k ah aw adr aim ard asc ath awl alo atr sh) (cR k ard s2) (As := [.ref (adK 12)]) (ci := 3) ⟨hx, hb, hml, hown, hts⟩ hOK hz hS hA hP hD (mtX3_passesM l D k ard Z hOK hStr hPv s2 12 _ s3 g3) (kX3_passes hts q1243 rfl rfl ⟨(by show 7 + 1 ≤ fr; omega), (by show 8 + (2 + 11) + 340 ≤ lo; omega)⟩) 0 rfl rfl rfl hl.1 rfl (lv_room (Nat.le_of_ble_eq_true rfl)) ⟨(by simp only [rP, rLs, prc, rdO]; omega), (by simp only [rP, rLs, prc, rdO]; omega)⟩ dX1_atom_78 (fun r_ w_ H locs hq hP hD hS => ?_)
                  obtain ⟨rfl, rfl⟩ := hq
                  refine lv_if_eq (tgt := 93) hx hb dX1_atom_81 (by decide) (fun _ => ?_) (fun c1 => absurd rfl c1)
                  refine lv_aload_n hx hb dX1_atom_93 rfl (lv_at hl 0 rfl) ?_
                  refine zldcw hx hb hown (sr16 hStr hz) dX1_atom_94 ?_
                  have hP : va_P D zCl ((cH k ah aw adr aim ard asc ath awl alo atr sh) ++ (cR k ard s3)) _ := hP
                  have hD : va_D A ((cH k ah aw adr aim ard asc ath awl alo atr sh) ++ (cR k ard s3)) := hD
                  refine cWVP (cH k ah aw adr aim ard asc ath awl alo atr sh) (cR k ard s3) (As := [.ref (adK 16)]) (ci := 3) ⟨hx, hb, hml, hown, hts⟩ hOK hz hS hA hP hD (mtX3_passesM l D k ard Z hOK hStr hPv s3 16 _ s4 g4) (kX3_passes hts q1243 rfl rfl ⟨(by show 7 + 1 ≤ fr; omega), (by show 8 + (2 + 11) + 340 ≤ lo; omega)⟩) 0 rfl rfl rfl hl.1 rfl (lv_room (Nat.le_of_ble_eq_true rfl)) ⟨(by simp only [rP, rLs, prc, rdO]; omega), (by simp only [rP, rLs, prc, rdO]; omega)⟩ dX1_atom_97 (fun r_ w_ H locs hq hP hD hS => ?_)
                  obtain ⟨rfl, rfl⟩ := hq
                  refine lv_if_eq (tgt := 112) hx hb dX1_atom_100 (by decide) (fun _ => ?_) (fun c1 => absurd rfl c1)
                  refine lv_aload_n hx hb dX1_atom_112 rfl (lv_at hl 1 rfl) ?_
                  have hP : va_P D zCl ((cH k ah aw adr aim ard asc ath awl alo atr sh) ++ (cR k ard s4)) _ := hP
                  have hD : va_D A ((cH k ah aw adr aim ard asc ath awl alo atr sh) ++ (cR k ard s4)) := hD
                  refine cXV0 (As := []) (ci := 1) ⟨hx, hb, hml, hown, hts⟩ hOK hz hS hA hP hD (mtX1_sum l D k ah aw adr aim ard asc ath awl alo atr Z hOK6 hlt hTh hStr hPv hLs hVl sh s4 _ h5) (kX1_sum hts q1386 rfl rfl ⟨(by show 11 + 1 ≤ fr; omega), (by show 8 + (2 + 11) + 460 ≤ lo; omega)⟩) 0 rfl rfl rfl hl.1 rfl (lv_room (Nat.le_of_ble_eq_true rfl)) ⟨(by simp only [rP, rLs, prc]; show _ + (_ * (rA s5 - rA s4) + _) ≤ _ * (rA s8 - rA srd) + _; omega), (by simp only [rP, rLs, prc]; show _ + (_ * (rA s5 - rA s4) + _) ≤ _ * (rA s8 - rA srd) + _; omega)⟩ dX1_atom_113 (fun E_ w_ ce_ q9_ H locs hq hP hD hS hce hcv hcl => ?_) (fun r_ w_ H locs hq hP hD hS => ?_)
                  · obtain ⟨ord, he, rfl⟩ := hq
                    exact nomatch he
                  obtain ⟨g_, ord, qa, na, he, rfl, hpa, rfl⟩ := hq
                  cases he
                  refine W.widen (k := 27 + 50 * (rA s5 - rA s4) + 15) (n := 4800 + 5500 * (rA s5 - rA s4) + 1640) (by simp only [prc]; show _ + (_ * (rA s5 - rA s4) + _) ≤ _; omega) (by simp only [prc]; show _ + (_ * (rA s5 - rA s4) + _) ≤ _; omega) ?_
                  refine lv_astore_n (lv' := [(2, .ref qa), (1, .ref (ard 0)), (0, .ref (ah 0))]) hx hb dX1_atom_116 rfl hl (by decide) rfl (fun ls hl => ?_)
                  refine lv_aload_n hx hb dX1_atom_117 rfl (lv_at hl 1 rfl) ?_
                  refine lv_bipush (v := (60 : Int32)) hx hb dX1_atom_118 (by decide) ?_
                  have hP : va_P D zCl ((cH k ah aw adr aim ard asc ath awl alo atr sh) ++ ((cR k ard s5) ++ na)) _ := hP
                  have hD : va_D A ((cH k ah aw adr aim ard asc ath awl alo atr sh) ++ ((cR k ard s5) ++ na)) := hD
                  refine cWV (cH k ah aw adr aim ard asc ath awl alo atr sh) (cR k ard s5) na (As := [.int (60 : Int32)]) (ci := 3) ⟨hx, hb, hml, hown, hts⟩ hOK hz hS hA hP hD (mtX3_sign l D k ard Z hOK s5 60 _ s6 g6) (kX3_sign hts q1262 rfl rfl ⟨(by show 2 + 1 ≤ fr; omega), (by show 8 + (2 + 11) + 41 ≤ lo; omega)⟩) 0 rfl rfl rfl hl.1 rfl (lv_room (Nat.le_of_ble_eq_true rfl)) ⟨(by simp only [rP, rLs, prc, rdO]; omega), (by simp only [rP, rLs, prc, rdO]; omega)⟩ dX1_atom_120 (fun r_ w_ H locs hq hP hD hS => ?_)
                  obtain ⟨rfl, rfl⟩ := hq
                  refine lv_if_eq (tgt := 139) hx hb dX1_atom_123 (by decide) (fun _ => ?_) (fun c1 => absurd rfl c1)
                  refine lv_aload_n hx hb dX1_atom_139 rfl (lv_at hl 1 rfl) ?_
                  refine lv_bipush (v := (62 : Int32)) hx hb dX1_atom_140 (by decide) ?_
                  have hP : va_P D zCl ((cH k ah aw adr aim ard asc ath awl alo atr sh) ++ ((cR k ard s6) ++ na)) _ := hP
                  have hD : va_D A ((cH k ah aw adr aim ard asc ath awl alo atr sh) ++ ((cR k ard s6) ++ na)) := hD
                  refine cWV (cH k ah aw adr aim ard asc ath awl alo atr sh) (cR k ard s6) na (As := [.int (62 : Int32)]) (ci := 3) ⟨hx, hb, hml, hown, hts⟩ hOK hz hS hA hP hD (mtX3_sign l D k ard Z hOK s6 62 _ s7 g7) (kX3_sign hts q1262 rfl rfl ⟨(by show 2 + 1 ≤ fr; omega), (by show 8 + (2 + 11) + 41 ≤ lo; omega)⟩) 0 rfl rfl rfl hl.1 rfl (lv_room (Nat.le_of_ble_eq_true rfl)) ⟨(by simp only [rP, rLs, prc, rdO]; omega), (by simp only [rP, rLs, prc, rdO]; omega)⟩ dX1_atom_142 (fun r_ w_ H locs hq hP hD hS => ?_)
                  obtain ⟨rfl, rfl⟩ := hq
                  refine lv_if_ne (tgt := 153) hx hb dX1_atom_145 (by decide) (fun _ => ?_) (fun c1 => absurd c1 (by decide))
                  refine va_new (ci := 14) (fs := [.null, .null]) (C := RX16) (T := TX16) (N := 2) hx hb hts in_X16 tyX16 tyX16_ok hown (hts _ q1496) (hts _ q1497) (hts _ q143) hK hP hD hS hA rfl (zdef 2 tyX16) (by simp only [rP, rLs, prc, rdO]; omega) (by simp only [rP, rLs, prc, rdO]; omega) dX1_atom_153 (fun qs H hP hD hS => ?_)
                  refine lv_dup hx hb dX1_atom_156 rfl ?_
                  refine lv_aload_n hx hb dX1_atom_157 rfl (lv_at hl 2 rfl) ?_
                  have hP : va_P D zCl ([] ++ (((cH k ah aw adr aim ard asc ath awl alo atr sh) ++ (cR k ard s7)) ++ (na ++ [(qs, .inr (14, [.null, .null]))]))) _ := hP
                  have hD : va_D A ([] ++ (((cH k ah aw adr aim ard asc ath awl alo atr sh) ++ (cR k ard s7)) ++ (na ++ [(qs, .inr (14, [.null, .null]))]))) := hD
                  refine cXV [] ((cH k ah aw adr aim ard asc ath awl alo atr sh) ++ (cR k ard s7)) (na ++ [(qs, .inr (14, [.null, .null]))]) (As := []) (ci := 1) ⟨hx, hb, hml, hown, hts⟩ hOK hz hS hA hP hD (mtX1_sum l D k ah aw adr aim ard asc ath awl alo atr Z hOK6 hlt hTh hStr hPv hLs hVl sh s7 _ h8) (kX1_sum hts q1386 rfl rfl ⟨(by show 11 + 1 ≤ fr; omega), (by show 8 + (2 + 11) + 460 ≤ lo; omega)⟩) 0 rfl rfl rfl hl.1 rfl (lv_room (Nat.le_of_ble_eq_true rfl)) ⟨(by simp only [rP, rLs, prc]; show _ + (_ * (rA s8 - rA s7) + _) ≤ _ * (rA s8 - rA srd) + _; omega), (by simp only [rP, rLs, prc]; show _ + (_ * (rA s8 - rA s7) + _) ≤ _ * (rA s8 - rA srd) + _; omega)⟩ dX1_atom_158 (fun E_ w_ ce_ q9_ H locs hq hP hD hS hce hcv hcl => ?_) (fun r_ w_ H locs hq hP hD hS => ?_)
                  · obtain ⟨ord, he, rfl⟩ := hq
                    exact nomatch he
                  obtain ⟨g_, ord, qb, nb, he, rfl, hpb, rfl⟩ := hq
                  cases he
                  refine W.widen (k := 27 + 50 * (rA s5 - rA s4) + 15 + 1 + (50 * (rA s8 - rA s7) + 15)) (n := 4800 + 5500 * (rA s5 - rA s4) + 1640 + 2 + (5500 * (rA s8 - rA s7) + 1640)) (by simp only [prc]; show _ + (_ * (rA s8 - rA s7) + _) ≤ _; omega) (by simp only [prc]; show _ + (_ * (rA s8 - rA s7) + _) ≤ _; omega) ?_
                  have hP : va_P D zCl (zcat [(cH k ah aw adr aim ard asc ath awl alo atr sh), (cR k ard s8), nb, na, [(qs, .inr (14, [.null, .null]))]]) _ := hP
                  have hD : va_D A (zcat [(cH k ah aw adr aim ard asc ath awl alo atr sh), (cR k ard s8), nb, na, [(qs, .inr (14, [.null, .null]))]]) := hD
                  have hP := zsP [(cH k ah aw adr aim ard asc ath awl alo atr sh), (cR k ard s8), nb, na, [(qs, .inr (14, [.null, .null]))]] 5 [0, 1, 2, 3] [4] hP rfl (by decide)
                  have hD := zsD [(cH k ah aw adr aim ard asc ath awl alo atr sh), (cR k ard s8), nb, na, [(qs, .inr (14, [.null, .null]))]] 5 [0, 1, 2, 3] [4] hD rfl (by decide)
                  refine lv_aload_n hx hb dX1_atom_161 rfl (lv_at hl 0 rfl) ?_
                  have hP : va_P D zCl (((cH k ah aw adr aim ard asc ath awl alo atr sh) ++ ((cR k ard s8) ++ (nb ++ na))) ++ ([(qs, .inr (14, [.null, .null]))] ++ [])) _ := hP
                  have hD : va_D A (((cH k ah aw adr aim ard asc ath awl alo atr sh) ++ ((cR k ard s8) ++ (nb ++ na))) ++ ([(qs, .inr (14, [.null, .null]))] ++ [])) := hD
                  refine cWI ((cH k ah aw adr aim ard asc ath awl alo atr sh) ++ ((cR k ard s8) ++ (nb ++ na))) [(qs, .inr (14, [.null, .null]))] [] (As := [.ref qb, .ref qa]) ⟨hx, hb, hml, hown, hts⟩ hOK hz hS hA hP hD (mtX16_init l D k Z hOK qs qb qa) (kX16_init hts q1498 rfl rfl ⟨(by show 1 + 1 ≤ fr; omega), (by show 8 + (3 + 11) + 30 ≤ lo; omega)⟩) rfl hl.1 rfl (lv_room (Nat.le_of_ble_eq_true rfl)) ⟨(by simp only [rP, rLs, prc, rdO]; omega), (by simp only [rP, rLs, prc, rdO]; omega)⟩ dX1_atom_162 (fun r_ w_ H locs hq hP hD hS => ?_)
                  obtain ⟨rfl, rfl⟩ := hq
                  have hP : va_P D zCl (((cH k ah aw adr aim ard asc ath awl alo atr sh) ++ ((cR k ard s8) ++ (nb ++ na))) ++ [(qs, .inr (14, [.ref qb, .ref qa]))]) _ := hP
                  have hD : va_D A (((cH k ah aw adr aim ard asc ath awl alo atr sh) ++ ((cR k ard s8) ++ (nb ++ na))) ++ [(qs, .inr (14, [.ref qb, .ref qa]))]) := hD
                  have hP : va_P D zCl (((cH k ah aw adr aim ard asc ath awl alo atr sh) ++ (cR k ard s8)) ++ ((nb ++ na) ++ [(qs, .inr (14, [.ref qb, .ref qa]))])) _ := hP
                  have hD : va_D A (((cH k ah aw adr aim ard asc ath awl alo atr sh) ++ (cR k ard s8)) ++ ((nb ++ na) ++ [(qs, .inr (14, [.ref qb, .ref qa]))])) := hD
                  refine widX (by simp only [prc, rdO]; omega) (by simp only [prc, rdO]; omega) ?_
                  exact vx_ret (retW_a hx hb hr (Or.inl ⟨_, rfl⟩) hlocks hP hD hS ⟨_, _, qs, _, rfl, rfl, Or.inr (Or.inl ⟨qb, qa, _, _, List.mem_append_right _ (List.mem_singleton.mpr rfl), hpb.mono (fun x h => List.mem_append_left _ (List.mem_append_left _ h)), hpa.mono (fun x h => List.mem_append_left _ (List.mem_append_right _ h)), rfl⟩), ⟨14, _, _, List.mem_append_right _ (List.mem_singleton.mpr rfl), rfl, zN_of q2525 rfl⟩, rfl⟩ dX1_atom_165)
              | false =>
                have hrun := mif_n (by decide) hrun
                have hA7 : rA s6 + 0 ≤ rA s7 ∧ rA s7 ≤ 400 := hA7
                cases hrun
                refine CtX.of (by decide) (Nat.le_of_ble_eq_true rfl) ?_
                intro p e9 s m args below meth c A hE hnoh hA hP hD hS hz ls hl
                obtain ⟨hx, hb, hr, hml, hown, hts, hlocks, hname⟩ := hE
                have hown : s.vm.findClass RX1 = some m.cls := hown
                have hK := hOK.1 _ _ _ hz
                have hN := hOK.2.1 _ _ _ hz
                have hl : lv_has ls 3 [(0, .ref (ah 0))] := hl
                refine lv_aload_n hx hb dX1_atom_0 rfl (lv_at hl 0 rfl) ?_
                refine va_get (ci := 1) (v := .ref (ard 0)) (C := RX1) (T := TX1) (N := 10) hx hb hts in_X1 hown hK hP 0 rfl rfl 4 (by decide) (hts _ q375) (fun _ h9 => h9) rfl dX1_atom_1 ?_
                refine lv_astore_n (lv' := [(1, .ref (ard 0)), (0, .ref (ah 0))]) hx hb dX1_atom_4 rfl hl (by decide) rfl (fun ls hl => ?_)
                refine lv_aload_n hx hb dX1_atom_5 rfl (lv_at hl 0 rfl) ?_
                refine lv_bipush (v := (40 : Int32)) hx hb dX1_atom_6 (by decide) ?_
                have hP : va_P D zCl ((cH k ah aw adr aim ard asc ath awl alo atr sh) ++ (cR k ard srd)) _ := hP
                have hD : va_D A ((cH k ah aw adr aim ard asc ath awl alo atr sh) ++ (cR k ard srd)) := hD
                refine cWVP (cH k ah aw adr aim ard asc ath awl alo atr sh) (cR k ard srd) (As := [.int (40 : Int32)]) (ci := 3) ⟨hx, hb, hml, hown, hts⟩ hOK hz hS hA hP hD (mtX3_sign l D k ard Z hOK srd 40 _ s1 g1) (kX3_sign hts q1262 rfl rfl ⟨(by show 2 + 1 ≤ fr; omega), (by show 8 + (2 + 11) + 41 ≤ lo; omega)⟩) 0 rfl rfl rfl hl.1 rfl (lv_room (Nat.le_of_ble_eq_true rfl)) ⟨(by simp only [rP, rLs, prc, rdO]; omega), (by simp only [rP, rLs, prc, rdO]; omega)⟩ dX1_atom_8 (fun r_ w_ H locs hq hP hD hS => ?_)
                obtain ⟨rfl, rfl⟩ := hq
                refine lv_if_eq (tgt := 43) hx hb dX1_atom_11 (by decide) (fun _ => ?_) (fun c1 => absurd rfl c1)
                refine lv_aload_n hx hb dX1_atom_43 rfl (lv_at hl 0 rfl) ?_
                refine zldcw hx hb hown (sr15 hStr hz) dX1_atom_44 ?_
                have hP : va_P D zCl ((cH k ah aw adr aim ard asc ath awl alo atr sh) ++ (cR k ard s1)) _ := hP
                have hD : va_D A ((cH k ah aw adr aim ard asc ath awl alo atr sh) ++ (cR k ard s1)) := hD
                refine cWVP (cH k ah aw adr aim ard asc ath awl alo atr sh) (cR k ard s1) (As := [.ref (adK 15)]) (ci := 3) ⟨hx, hb, hml, hown, hts⟩ hOK hz hS hA hP hD (mtX3_passesM l D k ard Z hOK hStr hPv s1 15 _ s2 g2) (kX3_passes hts q1243 rfl rfl ⟨(by show 7 + 1 ≤ fr; omega), (by show 8 + (2 + 11) + 340 ≤ lo; omega)⟩) 0 rfl rfl rfl hl.1 rfl (lv_room (Nat.le_of_ble_eq_true rfl)) ⟨(by simp only [rP, rLs, prc, rdO]; omega), (by simp only [rP, rLs, prc, rdO]; omega)⟩ dX1_atom_47 (fun r_ w_ H locs hq hP hD hS => ?_)
                obtain ⟨rfl, rfl⟩ := hq
                refine lv_if_eq (tgt := 75) hx hb dX1_atom_50 (by decide) (fun _ => ?_) (fun c1 => absurd rfl c1)
                refine lv_aload_n hx hb dX1_atom_75 rfl (lv_at hl 0 rfl) ?_
                refine va_ldcS hx hb hown (sr12 hStr hz) dX1_atom_76 ?_
                have hP : va_P D zCl ((cH k ah aw adr aim ard asc ath awl alo atr sh) ++ (cR k ard s2)) _ := hP
                have hD : va_D A ((cH k ah aw adr aim ard asc ath awl alo atr sh) ++ (cR k ard s2)) := hD
                refine cWVP (cH k ah aw adr aim ard asc ath awl alo atr sh) (cR k ard s2) (As := [.ref (adK 12)]) (ci := 3) ⟨hx, hb, hml, hown, hts⟩ hOK hz hS hA hP hD (mtX3_passesM l D k ard Z hOK hStr hPv s2 12 _ s3 g3) (kX3_passes hts q1243 rfl rfl ⟨(by show 7 + 1 ≤ fr; omega), (by show 8 + (2 + 11) + 340 ≤ lo; omega)⟩) 0 rfl rfl rfl hl.1 rfl (lv_room (Nat.le_of_ble_eq_true rfl)) ⟨(by simp only [rP, rLs, prc, rdO]; omega), (by simp only [rP, rLs, prc, rdO]; omega)⟩ dX1_atom_78 (fun r_ w_ H locs hq hP hD hS => ?_)
                obtain ⟨rfl, rfl⟩ := hq
                refine lv_if_eq (tgt := 93) hx hb dX1_atom_81 (by decide) (fun _ => ?_) (fun c1 => absurd rfl c1)
                refine lv_aload_n hx hb dX1_atom_93 rfl (lv_at hl 0 rfl) ?_
                refine zldcw hx hb hown (sr16 hStr hz) dX1_atom_94 ?_
                have hP : va_P D zCl ((cH k ah aw adr aim ard asc ath awl alo atr sh) ++ (cR k ard s3)) _ := hP
                have hD : va_D A ((cH k ah aw adr aim ard asc ath awl alo atr sh) ++ (cR k ard s3)) := hD
                refine cWVP (cH k ah aw adr aim ard asc ath awl alo atr sh) (cR k ard s3) (As := [.ref (adK 16)]) (ci := 3) ⟨hx, hb, hml, hown, hts⟩ hOK hz hS hA hP hD (mtX3_passesM l D k ard Z hOK hStr hPv s3 16 _ s4 g4) (kX3_passes hts q1243 rfl rfl ⟨(by show 7 + 1 ≤ fr; omega), (by show 8 + (2 + 11) + 340 ≤ lo; omega)⟩) 0 rfl rfl rfl hl.1 rfl (lv_room (Nat.le_of_ble_eq_true rfl)) ⟨(by simp only [rP, rLs, prc, rdO]; omega), (by simp only [rP, rLs, prc, rdO]; omega)⟩ dX1_atom_97 (fun r_ w_ H locs hq hP hD hS => ?_)
                obtain ⟨rfl, rfl⟩ := hq
                refine lv_if_eq (tgt := 112) hx hb dX1_atom_100 (by decide) (fun _ => ?_) (fun c1 => absurd rfl c1)
                refine lv_aload_n hx hb dX1_atom_112 rfl (lv_at hl 1 rfl) ?_
                have hP : va_P D zCl ((cH k ah aw adr aim ard asc ath awl alo atr sh) ++ (cR k ard s4)) _ := hP
                have hD : va_D A ((cH k ah aw adr aim ard asc ath awl alo atr sh) ++ (cR k ard s4)) := hD
                refine cXV0 (As := []) (ci := 1) ⟨hx, hb, hml, hown, hts⟩ hOK hz hS hA hP hD (mtX1_sum l D k ah aw adr aim ard asc ath awl alo atr Z hOK6 hlt hTh hStr hPv hLs hVl sh s4 _ h5) (kX1_sum hts q1386 rfl rfl ⟨(by show 11 + 1 ≤ fr; omega), (by show 8 + (2 + 11) + 460 ≤ lo; omega)⟩) 0 rfl rfl rfl hl.1 rfl (lv_room (Nat.le_of_ble_eq_true rfl)) ⟨(by simp only [rP, rLs, prc]; show _ + (_ * (rA s5 - rA s4) + _) ≤ _ * (rA s7 - rA srd) + _; omega), (by simp only [rP, rLs, prc]; show _ + (_ * (rA s5 - rA s4) + _) ≤ _ * (rA s7 - rA srd) + _; omega)⟩ dX1_atom_113 (fun E_ w_ ce_ q9_ H locs hq hP hD hS hce hcv hcl => ?_) (fun r_ w_ H locs hq hP hD hS => ?_)
                · obtain ⟨ord, he, rfl⟩ := hq
                  exact nomatch he
                obtain ⟨g_, ord, qa, na, he, rfl, hpa, rfl⟩ := hq
                cases he
                refine W.widen (k := 27 + 50 * (rA s5 - rA s4) + 15) (n := 4800 + 5500 * (rA s5 - rA s4) + 1640) (by simp only [prc]; show _ + (_ * (rA s5 - rA s4) + _) ≤ _; omega) (by simp only [prc]; show _ + (_ * (rA s5 - rA s4) + _) ≤ _; omega) ?_
                refine lv_astore_n (lv' := [(2, .ref qa), (1, .ref (ard 0)), (0, .ref (ah 0))]) hx hb dX1_atom_116 rfl hl (by decide) rfl (fun ls hl => ?_)
                refine lv_aload_n hx hb dX1_atom_117 rfl (lv_at hl 1 rfl) ?_
                refine lv_bipush (v := (60 : Int32)) hx hb dX1_atom_118 (by decide) ?_
                have hP : va_P D zCl ((cH k ah aw adr aim ard asc ath awl alo atr sh) ++ ((cR k ard s5) ++ na)) _ := hP
                have hD : va_D A ((cH k ah aw adr aim ard asc ath awl alo atr sh) ++ ((cR k ard s5) ++ na)) := hD
                refine cWV (cH k ah aw adr aim ard asc ath awl alo atr sh) (cR k ard s5) na (As := [.int (60 : Int32)]) (ci := 3) ⟨hx, hb, hml, hown, hts⟩ hOK hz hS hA hP hD (mtX3_sign l D k ard Z hOK s5 60 _ s6 g6) (kX3_sign hts q1262 rfl rfl ⟨(by show 2 + 1 ≤ fr; omega), (by show 8 + (2 + 11) + 41 ≤ lo; omega)⟩) 0 rfl rfl rfl hl.1 rfl (lv_room (Nat.le_of_ble_eq_true rfl)) ⟨(by simp only [rP, rLs, prc, rdO]; omega), (by simp only [rP, rLs, prc, rdO]; omega)⟩ dX1_atom_120 (fun r_ w_ H locs hq hP hD hS => ?_)
                obtain ⟨rfl, rfl⟩ := hq
                refine lv_if_eq (tgt := 139) hx hb dX1_atom_123 (by decide) (fun _ => ?_) (fun c1 => absurd rfl c1)
                refine lv_aload_n hx hb dX1_atom_139 rfl (lv_at hl 1 rfl) ?_
                refine lv_bipush (v := (62 : Int32)) hx hb dX1_atom_140 (by decide) ?_
                have hP : va_P D zCl ((cH k ah aw adr aim ard asc ath awl alo atr sh) ++ ((cR k ard s6) ++ na)) _ := hP
                have hD : va_D A ((cH k ah aw adr aim ard asc ath awl alo atr sh) ++ ((cR k ard s6) ++ na)) := hD
                refine cWV (cH k ah aw adr aim ard asc ath awl alo atr sh) (cR k ard s6) na (As := [.int (62 : Int32)]) (ci := 3) ⟨hx, hb, hml, hown, hts⟩ hOK hz hS hA hP hD (mtX3_sign l D k ard Z hOK s6 62 _ s7 g7) (kX3_sign hts q1262 rfl rfl ⟨(by show 2 + 1 ≤ fr; omega), (by show 8 + (2 + 11) + 41 ≤ lo; omega)⟩) 0 rfl rfl rfl hl.1 rfl (lv_room (Nat.le_of_ble_eq_true rfl)) ⟨(by simp only [rP, rLs, prc, rdO]; omega), (by simp only [rP, rLs, prc, rdO]; omega)⟩ dX1_atom_142 (fun r_ w_ H locs hq hP hD hS => ?_)
                obtain ⟨rfl, rfl⟩ := hq
                refine lv_if_ne (tgt := 153) hx hb dX1_atom_145 (by decide) (fun c1 => absurd rfl c1) (fun _ => ?_)
                refine lv_aload_n hx hb dX1_atom_148 rfl (lv_at hl 1 rfl) ?_
                have hP : va_P D zCl ((cH k ah aw adr aim ard asc ath awl alo atr sh) ++ ((cR k ard s7) ++ na)) _ := hP
                have hD : va_D A ((cH k ah aw adr aim ard asc ath awl alo atr sh) ++ ((cR k ard s7) ++ na)) := hD
                refine cWV (cH k ah aw adr aim ard asc ath awl alo atr sh) (cR k ard s7) na (As := []) (ci := 3) ⟨hx, hb, hml, hown, hts⟩ hOK hz hS hA hP hD (mtX3_wrongR l D k Z hOK hTh ard s7) (kX3_wrong hts q1113 rfl rfl ⟨(by show 4 + 1 ≤ fr; omega), (by show 8 + (1 + 11) + 120 ≤ lo; omega)⟩) 0 rfl rfl rfl hl.1 rfl (lv_room (Nat.le_of_ble_eq_true rfl)) ⟨(by simp only [rP, rLs, prc, rdO]; omega), (by simp only [rP, rLs, prc, rdO]; omega)⟩ dX1_atom_149 (fun r_ w_ H locs hq hP hD hS => ?_)
                obtain ⟨qw_, rfl, rfl⟩ := hq
                obtain ⟨ce_, hce_, hcv_, hcl_⟩ := zWr hK hP 3 rfl
                refine vx_athrow hx hb dX1_atom_152 ?_
                have hP := hP.sub (ws' := ((cH k ah aw adr aim ard asc ath awl alo atr sh) ++ (cR k ard s7))) [0, 1, 2] rfl
                have hD := hD.sub (ws' := ((cH k ah aw adr aim ard asc ath awl alo atr sh) ++ (cR k ard s7))) [0, 1, 2] (by decide) rfl
                exact zout hnoh hlocks hce_ hcv_ hcl_ hP hD hS ⟨_, rfl, rfl⟩ (by simp only [prc, rdO]; omega) (by simp only [prc, rdO]; omega)
