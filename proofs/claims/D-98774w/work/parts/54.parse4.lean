/-! THE LAW's TEXT: lines, the text -/
noncomputable def fX1_atom : Nat → Rd → Option cnO
  | 0 => fX1_atomF (fun _ => none) (fun _ => none)
  | d + 1 => fX1_atomF (fX1_atom d) (fX1_rowF (fX1_rowF (fX1_atom d) true 17) false 18)
noncomputable def fX1_cond (d : Nat) : Rd → Option cnO := fX1_rowF (fX1_rowF (fX1_atom d) true 17) false 18
theorem mtX1_atom (l : Launch) (D : va_G) (k : Nat → ClassId) (ah aw adr aim ard asc ath awl alo atr : Nat → Nat) (Z : zZ) (hOK6 : zOK D zCl (zTy6 k) Z) (hlt : l.stackTraces = false) (hTh : zTh Z) {adK adV : Nat → Nat} (hStr : zStr Z adK adV) (hPv : zPv Z) {e0 mi : Nat} (hLs : zLs Z e0 mi) {aF : Nat → Nat} {vq : Nat} (hVl : zVl k Z aF adK vq) (sh : Kp) : ∀ d : Nat, CnC l D k ah aw adr aim ard asc ath awl alo atr Z e0 aF sh yX1_atom cX1_atom 3 (1 + 2 * d) (12 + 3 * d) (500 + 90 * d) 43 6450 (fX1_atom d)
  | 0 => mtX1_atomF l D k ah aw adr aim ard asc ath awl alo atr Z hOK6 hlt hTh hStr hPv hLs hVl sh 0 0 0 12 500 11 400 11 400 (by omega) (by omega) (by omega) (by omega) (by omega) (by omega) (by omega) (by omega) _ _ CnC.none CnC.none
  | d + 1 => by
    have h1 := mtX1_atom l D k ah aw adr aim ard asc ath awl alo atr Z hOK6 hlt hTh hStr hPv hLs hVl sh d
    have h2 := mtX1_allOf l D k ah aw adr aim ard asc ath awl alo atr Z hOK6 hlt hTh hStr hPv hLs hVl sh _ _ _ (by omega) (by omega) _ h1
    have h3 := mtX1_cond l D k ah aw adr aim ard asc ath awl alo atr Z hOK6 hlt hTh hStr hPv hLs hVl sh _ _ _ (by omega) (by omega) _ h2
    have h4 := mtX1_atomF l D k ah aw adr aim ard asc ath awl alo atr Z hOK6 hlt hTh hStr hPv hLs hVl sh (2 + 2 * d) (1 + 2 * d) (1 + 2 * d + 1 + 1) (15 + 3 * d) (590 + 90 * d) (12 + 3 * d) (500 + 90 * d) (12 + 3 * d + 1 + 1) (500 + 90 * d + 30 + 30) (by omega) (by omega) (by omega) (by omega) (by omega) (by omega) (by omega) (by omega) _ _ h1 h3
    rw [show 2 + 2 * d + 1 = 1 + 2 * (d + 1) by omega, show 15 + 3 * d = 12 + 3 * (d + 1) by omega, show 590 + 90 * d = 500 + 90 * (d + 1) by omega] at h4
    exact h4
theorem mtX1_condC (l : Launch) (D : va_G) (k : Nat → ClassId) (ah aw adr aim ard asc ath awl alo atr : Nat → Nat) (Z : zZ) (hOK6 : zOK D zCl (zTy6 k) Z) (hlt : l.stackTraces = false) (hTh : zTh Z) {adK adV : Nat → Nat} (hStr : zStr Z adK adV) (hPv : zPv Z) {e0 mi : Nat} (hLs : zLs Z e0 mi) {aF : Nat → Nat} {vq : Nat} (hVl : zVl k Z aF adK vq) (sh : Kp) (d : Nat) : CnC l D k ah aw adr aim ard asc ath awl alo atr Z e0 aF sh yX1_cond cX1_cond 2 (3 + 2 * d) (14 + 3 * d) (560 + 90 * d) 67 9680 (fX1_cond d) := by
  have h1 := mtX1_atom l D k ah aw adr aim ard asc ath awl alo atr Z hOK6 hlt hTh hStr hPv hLs hVl sh d
  have h2 := mtX1_allOf l D k ah aw adr aim ard asc ath awl alo atr Z hOK6 hlt hTh hStr hPv hLs hVl sh _ _ _ (by omega) (by omega) _ h1
  have h3 := mtX1_cond l D k ah aw adr aim ard asc ath awl alo atr Z hOK6 hlt hTh hStr hPv hLs hVl sh _ _ _ (by omega) (by omega) _ h2
  have e1 : 1 + 2 * d + 1 + 1 = 3 + 2 * d := by omega
  have e2 : 12 + 3 * d + 1 + 1 = 14 + 3 * d := by omega
  have e3 : 500 + 90 * d + 30 + 30 = 560 + 90 * d := by omega
  rw [e1, e2, e3] at h3
  exact h3
abbrev lnO : Type := (String × Rd) ⊕ ((Sc → Int32) × Rd)
def lnV (b : Bool) (n : Int32) : Int32 := if b = true then n else -n
noncomputable def fX1_lawLine (srd : Rd) : Option lnO :=
  mob (gWd srd) fun s1 => if (wdIs s1 11 || wdIs s1 13) = true then mtk 4 srd s1 <|
      mox (gNum s1 (0 : Int32) (30 : Int32)) (fun E => some (.inl E)) fun q => mo2 (gPass q.2 14) fun b s3 => if b = true then
        mox (fX1_cond 6 s3) (fun E => some (.inl E)) fun c => some (.inr ((fun sc => if c.1 sc = true then (if wdIs s1 11 = true then q.1 else -q.1) else 0), c.2))
      else some (.inr ((fun _ => if wdIs s1 11 = true then q.1 else -q.1), s3))
    else some (.inl ("SaturdayKeep$Wrong", s1))
theorem lawLine_m {srd : Rd} {o : lnO} (hCm : ∀ (srd : Rd) (o : cnO), fX1_cond 6 srd = some o → rA srd ≤ rA (rdO o) ∧ rA (rdO o) ≤ 400) (hrun : fX1_lawLine srd = some o) : rA srd ≤ rA (rdO o) ∧ rA (rdO o) ≤ 400 := by
  unfold fX1_lawLine at hrun
  obtain ⟨s1, hw, hrun⟩ := mob_s rfl hrun
  obtain ⟨hw1, ⟨b, a, hwd⟩, hA1⟩ := gWd_s hw
  by_cases hdc : (wdIs s1 11 || wdIs s1 13) = true
  · have hrun := mif_p hdc hrun
    obtain ⟨hA0, hrun⟩ := mtk_s rfl hrun
    obtain ⟨o2, h2, hrun⟩ := mox_s rfl hrun
    obtain ⟨h2, h2n, h2m⟩ := gNum_s h2
    cases o2 with
    | inl E =>
      obtain ⟨E1, s2⟩ := E
      have hrun := moxl hrun
      have hA2 : rA s1 ≤ rA s2 ∧ rA s2 ≤ 400 := h2n _ rfl
      cases hrun
      show rA srd ≤ rA s2 ∧ rA s2 ≤ 400
      omega
    | inr q =>
      obtain ⟨n2, s2⟩ := q
      have hrun := moxr hrun
      have hA2 : rA s1 + 1 ≤ rA s2 ∧ rA s2 ≤ 400 := h2m _ rfl
      obtain ⟨b3, s3, g3, hrun⟩ := mo2_s rfl hrun
      obtain ⟨g3, hA3⟩ := gPass_s g3
      cases b3 with
      | true =>
        have hrun := mif_p rfl hrun
        have hA3 : rA s2 + 2 ≤ rA s3 ∧ rA s3 ≤ 400 := hA3
        obtain ⟨o4, h4, hrun⟩ := mox_s rfl hrun
        have h4n := hCm _ _ h4
        cases o4 with
        | inl E =>
          obtain ⟨E1, s4⟩ := E
          have hrun := moxl hrun
          have hA4 : rA s3 ≤ rA s4 ∧ rA s4 ≤ 400 := h4n
          cases hrun
          show rA srd ≤ rA s4 ∧ rA s4 ≤ 400
          omega
        | inr q =>
          obtain ⟨f4, s4⟩ := q
          have hrun := moxr hrun
          have hA4 : rA s3 ≤ rA s4 ∧ rA s4 ≤ 400 := h4n
          cases hrun
          show rA srd ≤ rA s4 ∧ rA s4 ≤ 400
          omega
      | false =>
        have hrun := mif_n (by decide) hrun
        have hA3 : rA s2 + 0 ≤ rA s3 ∧ rA s3 ≤ 400 := hA3
        cases hrun
        show rA srd ≤ rA s3 ∧ rA s3 ≤ 400
        omega
  · have hrun := mif_n hdc hrun
    cases hrun
    show rA srd ≤ rA s1 ∧ rA s1 ≤ 400
    omega
theorem kX1_lawLine {R : Room} {s : State} {args : Array Value} {own : String} {idx mc ms : Nat} {rm : Room} (hts : ∀ w ∈ lw_all, w.before args s = true) (hl : Cond.methodLink own idx yX1_lawLine ∈ lw_all) (hrc : rm.cells = mc) (hrs : rm.slots = ms) (hR : rm.frames + 1 ≤ R.frames ∧ 8 + (4 + 11) + rm.locals ≤ R.locals) : CallW R s args own RX1 idx yX1_lawLine cX1_lawLine 4 (some (.object "SaturdayKeep$Line")) (ws_ yX1_lawLine cX1_lawLine 4 (some (.object "SaturdayKeep$Line"))) rm mc ms 0 :=
  cwV 0 hts (lw_V hl q1322 qs25 q107 q1323) rfl hrc hrs (by decide +kernel) hR
set_option maxRecDepth 100000 in
set_option maxHeartbeats 4000000 in
theorem mtX1_lawLine (l : Launch) (D : va_G) (k : Nat → ClassId) (ah aw adr aim ard asc ath awl alo atr : Nat → Nat) (Z : zZ) (hOK6 : zOK D zCl (zTy6 k) Z) (hlt : l.stackTraces = false) (hTh : zTh Z) {adK adV : Nat → Nat} (hStr : zStr Z adK adV) (hPv : zPv Z) {e0 mi : Nat} (hLs : zLs Z e0 mi) {aF : Nat → Nat} {vq : Nat} (hVl : zVl k Z aF adK vq) (sh : Kp) (srd : Rd) (o : lnO) (hrun : fX1_lawLine srd = some o) : CtX l yX1_lawLine cX1_lawLine 4 (some (.object "SaturdayKeep$Line")) (rP 33 1130 10 1606 srd o) Z D zCl ((cH k ah aw adr aim ard asc ath awl alo atr sh) ++ (cR k ard srd)) [.ref (ah 0)] (fun r' w' => ∃ g ord q np, o = .inr (g, ord) ∧ r' = some (.ref q) ∧ lnAt k e0 aF np 15 q g ∧ elIn np q ∧ w' = (((cH k ah aw adr aim ard asc ath awl alo atr sh) ++ (cR k ard ord)) ++ np)) (fun E' w' => ∃ ord, o = .inl (E', ord) ∧ w' = ((cH k ah aw adr aim ard asc ath awl alo atr sh) ++ (cR k ard ord))) (prc 50 10 srd o) (prc 5500 1606 srd o) := by
  have hOK := zOK6 hOK6
  have hCm := (mtX1_condC l D k ah aw adr aim ard asc ath awl alo atr Z hOK6 hlt hTh hStr hPv hLs hVl sh 6).1
  unfold fX1_lawLine at hrun
  obtain ⟨s1, hw, hrun⟩ := mob_s rfl hrun
  obtain ⟨hw1, ⟨b, a, hwd⟩, hA1⟩ := gWd_s hw
  by_cases hdc : (wdIs s1 11 || wdIs s1 13) = true
  · have hrun := mif_p hdc hrun
    obtain ⟨hA0, hrun⟩ := mtk_s rfl hrun
    obtain ⟨o2, h2, hrun⟩ := mox_s rfl hrun
    obtain ⟨h2, h2n, h2m⟩ := gNum_s h2
    cases o2 with
    | inl E =>
      obtain ⟨E1, s2⟩ := E
      have hrun := moxl hrun
      have hA2 : rA s1 ≤ rA s2 ∧ rA s2 ≤ 400 := h2n _ rfl
      cases hrun
      refine CtX.of (by decide) (Nat.le_of_ble_eq_true rfl) ?_
      intro p e9 s m args below meth c A hE hnoh hA hP hD hS hz ls hl
      obtain ⟨hx, hb, hr, hml, hown, hts, hlocks, hname⟩ := hE
      have hown : s.vm.findClass RX1 = some m.cls := hown
      have hK := hOK.1 _ _ _ hz
      have hN := hOK.2.1 _ _ _ hz
      have hl : lv_has ls 4 [(0, .ref (ah 0))] := hl
      have hab : a - b < 2 ^ 31 := by have := hwd.2.2.2.1; omega
      refine lv_aload_n hx hb dX1_lawLine_0 rfl (lv_at hl 0 rfl) ?_
      refine va_get (ci := 1) (v := .ref (ard 0)) (C := RX1) (T := TX1) (N := 10) hx hb hts in_X1 hown hK hP 0 rfl rfl 4 (by decide) (hts _ q375) (fun _ h9 => h9) rfl dX1_lawLine_1 ?_
      have hP : va_P D zCl ((cH k ah aw adr aim ard asc ath awl alo atr sh) ++ (cR k ard srd)) _ := hP
      have hD : va_D A ((cH k ah aw adr aim ard asc ath awl alo atr sh) ++ (cR k ard srd)) := hD
      refine cWVP (cH k ah aw adr aim ard asc ath awl alo atr sh) (cR k ard srd) (As := []) (ci := 3) ⟨hx, hb, hml, hown, hts⟩ hOK hz hS hA hP hD (mtX3_word l D k ard Z hOK (fun A U H h => (hStr A U H h).2.2.1) hPv srd s1 hw1 b a hwd) (kX3_word hts q783 rfl rfl ⟨Nat.le_of_ble_eq_true rfl, Nat.le_of_ble_eq_true rfl⟩) 0 rfl rfl rfl hl.1 rfl (lv_room (Nat.le_of_ble_eq_true rfl)) ⟨(by simp only [rP, rLs, prc, rdO]; omega), (by simp only [rP, rLs, prc, rdO]; omega)⟩ dX1_lawLine_4 (fun r_ w_ H locs hq hP hD hS => ?_)
      obtain ⟨q, v1, f1, rfl, hF1, hf1, rfl⟩ := hq
      have hP : va_P D zCl ((cH k ah aw adr aim ard asc ath awl alo atr sh) ++ ((cR k ard s1) ++ (strC k q v1 (a - b) 0 false f1))) _ := hP
      have hD : va_D A ((cH k ah aw adr aim ard asc ath awl alo atr sh) ++ ((cR k ard s1) ++ (strC k q v1 (a - b) 0 false f1))) := hD
      have hAq : A q := hD.2 3 _ rfl
      refine lv_astore_n (lv' := [(1, .ref q), (0, .ref (ah 0))]) hx hb dX1_lawLine_7 rfl hl (by decide) rfl (fun ls hl => ?_)
      refine lv_aload_n hx hb dX1_lawLine_8 rfl (lv_at hl 0 rfl) ?_
      refine va_ldcS hx hb hown (sr11 hStr hz) dX1_lawLine_9 ?_
      refine cRV (As := [.ref (adK 11)]) (ci := 17) ⟨hx, hb, hml, hown, hts⟩ hOK hz hS (hP.sub (ws' := (strC k q v1 (a - b) 0 false f1)) [3, 4] rfl) ((mtJ5_eqCS l D k Z hOK (fun A U H h => (hStr A U H h).2.2.1) (adK 11) (adV 11) (stL 11) (stC 11) (stN_l 11 (by decide)) q v1 (a - b) f1 hab 0 false (zneS hStr hz (i := 11) (by decide) hAq)).mono (fun A U H h => ⟨h, (hStr A U H h).1.1 11 (by decide)⟩)) (kJ5_equals hts q1203 rfl rfl ⟨Nat.le_of_ble_eq_true rfl, Nat.le_of_ble_eq_true rfl⟩) 0 rfl rfl rfl hl.1 rfl (lv_room (Nat.le_of_ble_eq_true rfl)) ⟨(by simp only [rP, rLs, prc, rdO]; omega), (by simp only [rP, rLs, prc, rdO]; omega)⟩ dX1_lawLine_11 ?_
      rw [wdIs_of hwd hf1]
      refine lv_istore_n (lv' := [(2, .int (bz (wdIs s1 11))), (1, .ref q), (0, .ref (ah 0))]) hx hb dX1_lawLine_14 rfl hl (by decide) rfl (fun ls hl => ?_)
      refine lv_iload_n hx hb dX1_lawLine_15 rfl (lv_at hl 0 rfl) ?_
      by_cases h11 : wdIs s1 11 = true
      · refine lv_if_ne (tgt := 37) hx hb dX1_lawLine_16 (by decide) (fun _ => ?_) (fun c1 => absurd (show bz (wdIs s1 11) = 0 from c1) (by rw [h11]; decide))
        refine lv_aload_n hx hb dX1_lawLine_37 rfl (lv_at hl 2 rfl) ?_
        refine va_get (ci := 1) (v := .ref (ard 0)) (C := RX1) (T := TX1) (N := 10) hx hb hts in_X1 hown hK hP 0 rfl rfl 4 (by decide) (hts _ q375) (fun _ h9 => h9) rfl dX1_lawLine_38 ?_
        refine lv_iconst (v := (0 : Int32)) hx hb dX1_lawLine_41 (by decide) ?_
        refine lv_bipush (v := (30 : Int32)) hx hb dX1_lawLine_42 (by decide) ?_
        have hP : va_P D zCl ((cH k ah aw adr aim ard asc ath awl alo atr sh) ++ ((cR k ard s1) ++ (strC k q v1 (a - b) 0 false f1))) _ := hP
        have hD : va_D A ((cH k ah aw adr aim ard asc ath awl alo atr sh) ++ ((cR k ard s1) ++ (strC k q v1 (a - b) 0 false f1))) := hD
        refine cXV (cH k ah aw adr aim ard asc ath awl alo atr sh) (cR k ard s1) (strC k q v1 (a - b) 0 false f1) (As := [.int (0 : Int32), .int (30 : Int32)]) (ci := 3) ⟨hx, hb, hml, hown, hts⟩ hOK hz hS hA hP hD (mtX3_number l D k ard Z hOK hlt hTh s1 0 30 _ h2) (kX3_number hts q1232 rfl rfl ⟨Nat.le_of_ble_eq_true rfl, Nat.le_of_ble_eq_true rfl⟩) 0 rfl rfl rfl hl.1 rfl (lv_room (Nat.le_of_ble_eq_true rfl)) ⟨(by simp only [rP, rLs, prc, rdO]; omega), (by simp only [rP, rLs, prc, rdO]; omega)⟩ dX1_lawLine_44 (fun E_ w_ ce_ q9_ H locs hq hP hD hS hce hcv hcl => ?_) (fun r_ w_ H locs hq hP hD hS => ?_)
        · obtain ⟨ord, he, rfl⟩ := hq
          cases he
          have hP : va_P D zCl (((cH k ah aw adr aim ard asc ath awl alo atr sh) ++ (cR k ard s2)) ++ (strC k q v1 (a - b) 0 false f1)) _ := hP
          have hD : va_D A (((cH k ah aw adr aim ard asc ath awl alo atr sh) ++ (cR k ard s2)) ++ (strC k q v1 (a - b) 0 false f1)) := hD
          have hP := zdropP (x := ((cH k ah aw adr aim ard asc ath awl alo atr sh) ++ (cR k ard s2))) (y := (strC k q v1 (a - b) 0 false f1)) hP
          have hD := zdropD (x := ((cH k ah aw adr aim ard asc ath awl alo atr sh) ++ (cR k ard s2))) (y := (strC k q v1 (a - b) 0 false f1)) hD
          exact zout hnoh hlocks hce hcv hcl hP hD hS ⟨_, rfl, rfl⟩ (by simp only [prc, rdO]; omega) (by simp only [prc, rdO]; omega)
        · obtain ⟨r, ord, he, rfl, rfl⟩ := hq
          exact nomatch he
      · have h11 := eq_false_of_ne_true h11
        have hd13 : wdIs s1 13 = true := by rw [h11, Bool.false_or] at hdc; exact hdc
        refine lv_if_ne (tgt := 37) hx hb dX1_lawLine_16 (by decide) (fun c1 => absurd (show bz (wdIs s1 11) = 0 by rw [h11]; rfl) c1) (fun _ => ?_)
        refine lv_aload_n hx hb dX1_lawLine_19 rfl (lv_at hl 1 rfl) ?_
        refine zldcw hx hb hown (sr13 hStr hz) dX1_lawLine_20 ?_
        refine cRV (As := [.ref (adK 13)]) (ci := 17) ⟨hx, hb, hml, hown, hts⟩ hOK hz hS (hP.sub (ws' := (strC k q v1 (a - b) 0 false f1)) [3, 4] rfl) ((mtJ5_eqCS l D k Z hOK (fun A U H h => (hStr A U H h).2.2.1) (adK 13) (adV 13) (stL 13) (stC 13) (stN_l 13 (by decide)) q v1 (a - b) f1 hab 0 false (zneS hStr hz (i := 13) (by decide) hAq)).mono (fun A U H h => ⟨h, (hStr A U H h).1.1 13 (by decide)⟩)) (kJ5_equals hts q1203 rfl rfl ⟨Nat.le_of_ble_eq_true rfl, Nat.le_of_ble_eq_true rfl⟩) 0 rfl rfl rfl hl.1 rfl (lv_room (Nat.le_of_ble_eq_true rfl)) ⟨(by simp only [rP, rLs, prc, rdO]; omega), (by simp only [rP, rLs, prc, rdO]; omega)⟩ dX1_lawLine_23 ?_
        rw [wdIs_of hwd hf1]
        refine lv_if_ne (tgt := 37) hx hb dX1_lawLine_26 (by decide) (fun _ => ?_) (fun c1 => absurd (show bz (wdIs s1 13) = 0 from c1) (by rw [hd13]; decide))
        refine lv_aload_n hx hb dX1_lawLine_37 rfl (lv_at hl 2 rfl) ?_
        refine va_get (ci := 1) (v := .ref (ard 0)) (C := RX1) (T := TX1) (N := 10) hx hb hts in_X1 hown hK hP 0 rfl rfl 4 (by decide) (hts _ q375) (fun _ h9 => h9) rfl dX1_lawLine_38 ?_
        refine lv_iconst (v := (0 : Int32)) hx hb dX1_lawLine_41 (by decide) ?_
        refine lv_bipush (v := (30 : Int32)) hx hb dX1_lawLine_42 (by decide) ?_
        have hP : va_P D zCl ((cH k ah aw adr aim ard asc ath awl alo atr sh) ++ ((cR k ard s1) ++ (strC k q v1 (a - b) 0 false f1))) _ := hP
        have hD : va_D A ((cH k ah aw adr aim ard asc ath awl alo atr sh) ++ ((cR k ard s1) ++ (strC k q v1 (a - b) 0 false f1))) := hD
        refine cXV (cH k ah aw adr aim ard asc ath awl alo atr sh) (cR k ard s1) (strC k q v1 (a - b) 0 false f1) (As := [.int (0 : Int32), .int (30 : Int32)]) (ci := 3) ⟨hx, hb, hml, hown, hts⟩ hOK hz hS hA hP hD (mtX3_number l D k ard Z hOK hlt hTh s1 0 30 _ h2) (kX3_number hts q1232 rfl rfl ⟨Nat.le_of_ble_eq_true rfl, Nat.le_of_ble_eq_true rfl⟩) 0 rfl rfl rfl hl.1 rfl (lv_room (Nat.le_of_ble_eq_true rfl)) ⟨(by simp only [rP, rLs, prc, rdO]; omega), (by simp only [rP, rLs, prc, rdO]; omega)⟩ dX1_lawLine_44 (fun E_ w_ ce_ q9_ H locs hq hP hD hS hce hcv hcl => ?_) (fun r_ w_ H locs hq hP hD hS => ?_)
        · obtain ⟨ord, he, rfl⟩ := hq
          cases he
          have hP : va_P D zCl (((cH k ah aw adr aim ard asc ath awl alo atr sh) ++ (cR k ard s2)) ++ (strC k q v1 (a - b) 0 false f1)) _ := hP
          have hD : va_D A (((cH k ah aw adr aim ard asc ath awl alo atr sh) ++ (cR k ard s2)) ++ (strC k q v1 (a - b) 0 false f1)) := hD
          have hP := zdropP (x := ((cH k ah aw adr aim ard asc ath awl alo atr sh) ++ (cR k ard s2))) (y := (strC k q v1 (a - b) 0 false f1)) hP
          have hD := zdropD (x := ((cH k ah aw adr aim ard asc ath awl alo atr sh) ++ (cR k ard s2))) (y := (strC k q v1 (a - b) 0 false f1)) hD
          exact zout hnoh hlocks hce hcv hcl hP hD hS ⟨_, rfl, rfl⟩ (by simp only [prc, rdO]; omega) (by simp only [prc, rdO]; omega)
        · obtain ⟨r, ord, he, rfl, rfl⟩ := hq
          exact nomatch he
    | inr q =>
      obtain ⟨n2, s2⟩ := q
      have hrun := moxr hrun
      have hA2 : rA s1 + 1 ≤ rA s2 ∧ rA s2 ≤ 400 := h2m _ rfl
      obtain ⟨b3, s3, g3, hrun⟩ := mo2_s rfl hrun
      obtain ⟨g3, hA3⟩ := gPass_s g3
      cases b3 with
      | true =>
        have hrun := mif_p rfl hrun
        have hA3 : rA s2 + 2 ≤ rA s3 ∧ rA s3 ≤ 400 := hA3
        obtain ⟨o4, h4, hrun⟩ := mox_s rfl hrun
        have h4n := hCm _ _ h4
        cases o4 with
        | inl E =>
          obtain ⟨E1, s4⟩ := E
          have hrun := moxl hrun
          have hA4 : rA s3 ≤ rA s4 ∧ rA s4 ≤ 400 := h4n
          cases hrun
          refine CtX.of (by decide) (Nat.le_of_ble_eq_true rfl) ?_
          intro p e9 s m args below meth c A hE hnoh hA hP hD hS hz ls hl
          obtain ⟨hx, hb, hr, hml, hown, hts, hlocks, hname⟩ := hE
          have hown : s.vm.findClass RX1 = some m.cls := hown
          have hK := hOK.1 _ _ _ hz
          have hN := hOK.2.1 _ _ _ hz
          have hl : lv_has ls 4 [(0, .ref (ah 0))] := hl
          have hab : a - b < 2 ^ 31 := by have := hwd.2.2.2.1; omega
          refine lv_aload_n hx hb dX1_lawLine_0 rfl (lv_at hl 0 rfl) ?_
          refine va_get (ci := 1) (v := .ref (ard 0)) (C := RX1) (T := TX1) (N := 10) hx hb hts in_X1 hown hK hP 0 rfl rfl 4 (by decide) (hts _ q375) (fun _ h9 => h9) rfl dX1_lawLine_1 ?_
          have hP : va_P D zCl ((cH k ah aw adr aim ard asc ath awl alo atr sh) ++ (cR k ard srd)) _ := hP
          have hD : va_D A ((cH k ah aw adr aim ard asc ath awl alo atr sh) ++ (cR k ard srd)) := hD
          refine cWVP (cH k ah aw adr aim ard asc ath awl alo atr sh) (cR k ard srd) (As := []) (ci := 3) ⟨hx, hb, hml, hown, hts⟩ hOK hz hS hA hP hD (mtX3_word l D k ard Z hOK (fun A U H h => (hStr A U H h).2.2.1) hPv srd s1 hw1 b a hwd) (kX3_word hts q783 rfl rfl ⟨Nat.le_of_ble_eq_true rfl, Nat.le_of_ble_eq_true rfl⟩) 0 rfl rfl rfl hl.1 rfl (lv_room (Nat.le_of_ble_eq_true rfl)) ⟨(by simp only [rP, rLs, prc, rdO]; omega), (by simp only [rP, rLs, prc, rdO]; omega)⟩ dX1_lawLine_4 (fun r_ w_ H locs hq hP hD hS => ?_)
          obtain ⟨q, v1, f1, rfl, hF1, hf1, rfl⟩ := hq
          have hP : va_P D zCl ((cH k ah aw adr aim ard asc ath awl alo atr sh) ++ ((cR k ard s1) ++ (strC k q v1 (a - b) 0 false f1))) _ := hP
          have hD : va_D A ((cH k ah aw adr aim ard asc ath awl alo atr sh) ++ ((cR k ard s1) ++ (strC k q v1 (a - b) 0 false f1))) := hD
          have hAq : A q := hD.2 3 _ rfl
          refine lv_astore_n (lv' := [(1, .ref q), (0, .ref (ah 0))]) hx hb dX1_lawLine_7 rfl hl (by decide) rfl (fun ls hl => ?_)
          refine lv_aload_n hx hb dX1_lawLine_8 rfl (lv_at hl 0 rfl) ?_
          refine va_ldcS hx hb hown (sr11 hStr hz) dX1_lawLine_9 ?_
          refine cRV (As := [.ref (adK 11)]) (ci := 17) ⟨hx, hb, hml, hown, hts⟩ hOK hz hS (hP.sub (ws' := (strC k q v1 (a - b) 0 false f1)) [3, 4] rfl) ((mtJ5_eqCS l D k Z hOK (fun A U H h => (hStr A U H h).2.2.1) (adK 11) (adV 11) (stL 11) (stC 11) (stN_l 11 (by decide)) q v1 (a - b) f1 hab 0 false (zneS hStr hz (i := 11) (by decide) hAq)).mono (fun A U H h => ⟨h, (hStr A U H h).1.1 11 (by decide)⟩)) (kJ5_equals hts q1203 rfl rfl ⟨Nat.le_of_ble_eq_true rfl, Nat.le_of_ble_eq_true rfl⟩) 0 rfl rfl rfl hl.1 rfl (lv_room (Nat.le_of_ble_eq_true rfl)) ⟨(by simp only [rP, rLs, prc, rdO]; omega), (by simp only [rP, rLs, prc, rdO]; omega)⟩ dX1_lawLine_11 ?_
          rw [wdIs_of hwd hf1]
          refine lv_istore_n (lv' := [(2, .int (bz (wdIs s1 11))), (1, .ref q), (0, .ref (ah 0))]) hx hb dX1_lawLine_14 rfl hl (by decide) rfl (fun ls hl => ?_)
          refine lv_iload_n hx hb dX1_lawLine_15 rfl (lv_at hl 0 rfl) ?_
          by_cases h11 : wdIs s1 11 = true
          · refine lv_if_ne (tgt := 37) hx hb dX1_lawLine_16 (by decide) (fun _ => ?_) (fun c1 => absurd (show bz (wdIs s1 11) = 0 from c1) (by rw [h11]; decide))
            refine lv_aload_n hx hb dX1_lawLine_37 rfl (lv_at hl 2 rfl) ?_
            refine va_get (ci := 1) (v := .ref (ard 0)) (C := RX1) (T := TX1) (N := 10) hx hb hts in_X1 hown hK hP 0 rfl rfl 4 (by decide) (hts _ q375) (fun _ h9 => h9) rfl dX1_lawLine_38 ?_
            refine lv_iconst (v := (0 : Int32)) hx hb dX1_lawLine_41 (by decide) ?_
            refine lv_bipush (v := (30 : Int32)) hx hb dX1_lawLine_42 (by decide) ?_
            have hP : va_P D zCl ((cH k ah aw adr aim ard asc ath awl alo atr sh) ++ ((cR k ard s1) ++ (strC k q v1 (a - b) 0 false f1))) _ := hP
            have hD : va_D A ((cH k ah aw adr aim ard asc ath awl alo atr sh) ++ ((cR k ard s1) ++ (strC k q v1 (a - b) 0 false f1))) := hD
            refine cXV (cH k ah aw adr aim ard asc ath awl alo atr sh) (cR k ard s1) (strC k q v1 (a - b) 0 false f1) (As := [.int (0 : Int32), .int (30 : Int32)]) (ci := 3) ⟨hx, hb, hml, hown, hts⟩ hOK hz hS hA hP hD (mtX3_number l D k ard Z hOK hlt hTh s1 0 30 _ h2) (kX3_number hts q1232 rfl rfl ⟨Nat.le_of_ble_eq_true rfl, Nat.le_of_ble_eq_true rfl⟩) 0 rfl rfl rfl hl.1 rfl (lv_room (Nat.le_of_ble_eq_true rfl)) ⟨(by simp only [rP, rLs, prc, rdO]; omega), (by simp only [rP, rLs, prc, rdO]; omega)⟩ dX1_lawLine_44 (fun E_ w_ ce_ q9_ H locs hq hP hD hS hce hcv hcl => ?_) (fun r_ w_ H locs hq hP hD hS => ?_)
            · obtain ⟨ord, he, rfl⟩ := hq
              exact nomatch he
            obtain ⟨r, ord, he, rfl, rfl⟩ := hq
            cases he
            have hP : va_P D zCl (((cH k ah aw adr aim ard asc ath awl alo atr sh) ++ (cR k ard s2)) ++ (strC k q v1 (a - b) 0 false f1)) _ := hP
            have hD : va_D A (((cH k ah aw adr aim ard asc ath awl alo atr sh) ++ (cR k ard s2)) ++ (strC k q v1 (a - b) 0 false f1)) := hD
            have hP := zdropP (x := ((cH k ah aw adr aim ard asc ath awl alo atr sh) ++ (cR k ard s2))) (y := (strC k q v1 (a - b) 0 false f1)) hP
            have hD := zdropD (x := ((cH k ah aw adr aim ard asc ath awl alo atr sh) ++ (cR k ard s2))) (y := (strC k q v1 (a - b) 0 false f1)) hD
            refine lv_istore_n (lv' := [(3, .int n2), (2, .int (bz (wdIs s1 11))), (1, .ref q), (0, .ref (ah 0))]) hx hb dX1_lawLine_47 rfl hl (by decide) rfl (fun ls hl => ?_)
            refine va_new (ci := 8) (fs := [.int 0, .int 0, .null]) (C := RX9) (T := TX9) (N := 3) hx hb hts in_X9 tyX9 tyX9_ok hown (hts _ q1325) (hts _ q1326) (hts _ q135) hK hP hD hS hA rfl (zdef 3 tyX9) (by simp only [rP, rLs, prc, rdO]; omega) (by simp only [rP, rLs, prc, rdO]; omega) dX1_lawLine_48 (fun qs H hP hD hS => ?_)
            refine lv_dup hx hb dX1_lawLine_51 rfl ?_
            refine lv_iload_n hx hb dX1_lawLine_52 rfl (lv_at hl 1 rfl) ?_
            refine lv_iload_n hx hb dX1_lawLine_53 rfl (lv_at hl 0 rfl) ?_
            refine lv_aload_n hx hb dX1_lawLine_54 rfl (lv_at hl 3 rfl) ?_
            refine va_get (ci := 1) (v := .ref (ard 0)) (C := RX1) (T := TX1) (N := 10) hx hb hts in_X1 hown hK hP 0 rfl rfl 4 (by decide) (hts _ q375) (fun _ h9 => h9) rfl dX1_lawLine_55 ?_
            refine zldcw hx hb hown (sr14 hStr hz) dX1_lawLine_58 ?_
            have hP : va_P D zCl ((cH k ah aw adr aim ard asc ath awl alo atr sh) ++ ((cR k ard s2) ++ [(qs, .inr (8, [.int 0, .int 0, .null]))])) _ := hP
            have hD : va_D A ((cH k ah aw adr aim ard asc ath awl alo atr sh) ++ ((cR k ard s2) ++ [(qs, .inr (8, [.int 0, .int 0, .null]))])) := hD
            refine cWV (cH k ah aw adr aim ard asc ath awl alo atr sh) (cR k ard s2) [(qs, .inr (8, [.int 0, .int 0, .null]))] (As := [.ref (adK 14)]) (ci := 3) ⟨hx, hb, hml, hown, hts⟩ hOK hz hS hA hP hD (mtX3_passesM l D k ard Z hOK hStr hPv s2 14 _ s3 g3) (kX3_passes hts q1243 rfl rfl ⟨Nat.le_of_ble_eq_true rfl, Nat.le_of_ble_eq_true rfl⟩) 0 rfl rfl rfl hl.1 rfl (lv_room (Nat.le_of_ble_eq_true rfl)) ⟨(by simp only [rP, rLs, prc, rdO]; omega), (by simp only [rP, rLs, prc, rdO]; omega)⟩ dX1_lawLine_61 (fun r_ w_ H locs hq hP hD hS => ?_)
            obtain ⟨rfl, rfl⟩ := hq
            refine lv_if_eq (tgt := 74) hx hb dX1_lawLine_64 (by decide) (fun c1 => absurd c1 (by decide)) (fun _ => ?_)
            refine lv_aload_n hx hb dX1_lawLine_67 rfl (lv_at hl 3 rfl) ?_
            have hP : va_P D zCl ([] ++ (((cH k ah aw adr aim ard asc ath awl alo atr sh) ++ (cR k ard s3)) ++ [(qs, .inr (8, [.int 0, .int 0, .null]))])) _ := hP
            have hD : va_D A ([] ++ (((cH k ah aw adr aim ard asc ath awl alo atr sh) ++ (cR k ard s3)) ++ [(qs, .inr (8, [.int 0, .int 0, .null]))])) := hD
            refine cXV [] ((cH k ah aw adr aim ard asc ath awl alo atr sh) ++ (cR k ard s3)) [(qs, .inr (8, [.int 0, .int 0, .null]))] (As := []) (ci := 1) ⟨hx, hb, hml, hown, hts⟩ hOK hz hS hA hP hD ((mtX1_condC l D k ah aw adr aim ard asc ath awl alo atr Z hOK6 hlt hTh hStr hPv hLs hVl sh 6).2 s3 _ h4) (kX1_cond hts q1328 rfl rfl ⟨Nat.le_of_ble_eq_true rfl, Nat.le_of_ble_eq_true rfl⟩) 0 rfl rfl rfl hl.1 rfl (lv_room (Nat.le_of_ble_eq_true rfl)) ⟨(by simp only [rP, rLs, prc]; show _ + (_ * (rA s4 - rA s3) + _) ≤ _ * (rA s4 - rA srd) + _; omega), (by simp only [rP, rLs, prc]; show _ + (_ * (rA s4 - rA s3) + _) ≤ _ * (rA s4 - rA srd) + _; omega)⟩ dX1_lawLine_68 (fun E_ w_ ce_ q9_ H locs hq hP hD hS hce hcv hcl => ?_) (fun r_ w_ H locs hq hP hD hS => ?_)
            · obtain ⟨ord, he, rfl⟩ := hq
              cases he
              have hP := zdropP (x := ((cH k ah aw adr aim ard asc ath awl alo atr sh) ++ (cR k ard s4))) (y := [(qs, .inr (8, [.int 0, .int 0, .null]))]) hP
              have hD := zdropD (x := ((cH k ah aw adr aim ard asc ath awl alo atr sh) ++ (cR k ard s4))) (y := [(qs, .inr (8, [.int 0, .int 0, .null]))]) hD
              exact zout hnoh hlocks hce hcv hcl hP hD hS ⟨_, rfl, rfl⟩ (by simp only [prc, rdO]; omega) (by simp only [prc, rdO]; omega)
            · obtain ⟨g, ord, q, n_, he, -⟩ := hq
              exact nomatch he
          · have h11 := eq_false_of_ne_true h11
            have hd13 : wdIs s1 13 = true := by rw [h11, Bool.false_or] at hdc; exact hdc
            refine lv_if_ne (tgt := 37) hx hb dX1_lawLine_16 (by decide) (fun c1 => absurd (show bz (wdIs s1 11) = 0 by rw [h11]; rfl) c1) (fun _ => ?_)
            refine lv_aload_n hx hb dX1_lawLine_19 rfl (lv_at hl 1 rfl) ?_
            refine zldcw hx hb hown (sr13 hStr hz) dX1_lawLine_20 ?_
            refine cRV (As := [.ref (adK 13)]) (ci := 17) ⟨hx, hb, hml, hown, hts⟩ hOK hz hS (hP.sub (ws' := (strC k q v1 (a - b) 0 false f1)) [3, 4] rfl) ((mtJ5_eqCS l D k Z hOK (fun A U H h => (hStr A U H h).2.2.1) (adK 13) (adV 13) (stL 13) (stC 13) (stN_l 13 (by decide)) q v1 (a - b) f1 hab 0 false (zneS hStr hz (i := 13) (by decide) hAq)).mono (fun A U H h => ⟨h, (hStr A U H h).1.1 13 (by decide)⟩)) (kJ5_equals hts q1203 rfl rfl ⟨Nat.le_of_ble_eq_true rfl, Nat.le_of_ble_eq_true rfl⟩) 0 rfl rfl rfl hl.1 rfl (lv_room (Nat.le_of_ble_eq_true rfl)) ⟨(by simp only [rP, rLs, prc, rdO]; omega), (by simp only [rP, rLs, prc, rdO]; omega)⟩ dX1_lawLine_23 ?_
            rw [wdIs_of hwd hf1]
            refine lv_if_ne (tgt := 37) hx hb dX1_lawLine_26 (by decide) (fun _ => ?_) (fun c1 => absurd (show bz (wdIs s1 13) = 0 from c1) (by rw [hd13]; decide))
            refine lv_aload_n hx hb dX1_lawLine_37 rfl (lv_at hl 2 rfl) ?_
            refine va_get (ci := 1) (v := .ref (ard 0)) (C := RX1) (T := TX1) (N := 10) hx hb hts in_X1 hown hK hP 0 rfl rfl 4 (by decide) (hts _ q375) (fun _ h9 => h9) rfl dX1_lawLine_38 ?_
            refine lv_iconst (v := (0 : Int32)) hx hb dX1_lawLine_41 (by decide) ?_
            refine lv_bipush (v := (30 : Int32)) hx hb dX1_lawLine_42 (by decide) ?_
            have hP : va_P D zCl ((cH k ah aw adr aim ard asc ath awl alo atr sh) ++ ((cR k ard s1) ++ (strC k q v1 (a - b) 0 false f1))) _ := hP
            have hD : va_D A ((cH k ah aw adr aim ard asc ath awl alo atr sh) ++ ((cR k ard s1) ++ (strC k q v1 (a - b) 0 false f1))) := hD
            refine cXV (cH k ah aw adr aim ard asc ath awl alo atr sh) (cR k ard s1) (strC k q v1 (a - b) 0 false f1) (As := [.int (0 : Int32), .int (30 : Int32)]) (ci := 3) ⟨hx, hb, hml, hown, hts⟩ hOK hz hS hA hP hD (mtX3_number l D k ard Z hOK hlt hTh s1 0 30 _ h2) (kX3_number hts q1232 rfl rfl ⟨Nat.le_of_ble_eq_true rfl, Nat.le_of_ble_eq_true rfl⟩) 0 rfl rfl rfl hl.1 rfl (lv_room (Nat.le_of_ble_eq_true rfl)) ⟨(by simp only [rP, rLs, prc, rdO]; omega), (by simp only [rP, rLs, prc, rdO]; omega)⟩ dX1_lawLine_44 (fun E_ w_ ce_ q9_ H locs hq hP hD hS hce hcv hcl => ?_) (fun r_ w_ H locs hq hP hD hS => ?_)
            · obtain ⟨ord, he, rfl⟩ := hq
              exact nomatch he
            obtain ⟨r, ord, he, rfl, rfl⟩ := hq
            cases he
            have hP : va_P D zCl (((cH k ah aw adr aim ard asc ath awl alo atr sh) ++ (cR k ard s2)) ++ (strC k q v1 (a - b) 0 false f1)) _ := hP
            have hD : va_D A (((cH k ah aw adr aim ard asc ath awl alo atr sh) ++ (cR k ard s2)) ++ (strC k q v1 (a - b) 0 false f1)) := hD
            have hP := zdropP (x := ((cH k ah aw adr aim ard asc ath awl alo atr sh) ++ (cR k ard s2))) (y := (strC k q v1 (a - b) 0 false f1)) hP
            have hD := zdropD (x := ((cH k ah aw adr aim ard asc ath awl alo atr sh) ++ (cR k ard s2))) (y := (strC k q v1 (a - b) 0 false f1)) hD
            refine lv_istore_n (lv' := [(3, .int n2), (2, .int (bz (wdIs s1 11))), (1, .ref q), (0, .ref (ah 0))]) hx hb dX1_lawLine_47 rfl hl (by decide) rfl (fun ls hl => ?_)
            refine va_new (ci := 8) (fs := [.int 0, .int 0, .null]) (C := RX9) (T := TX9) (N := 3) hx hb hts in_X9 tyX9 tyX9_ok hown (hts _ q1325) (hts _ q1326) (hts _ q135) hK hP hD hS hA rfl (zdef 3 tyX9) (by simp only [rP, rLs, prc, rdO]; omega) (by simp only [rP, rLs, prc, rdO]; omega) dX1_lawLine_48 (fun qs H hP hD hS => ?_)
            refine lv_dup hx hb dX1_lawLine_51 rfl ?_
            refine lv_iload_n hx hb dX1_lawLine_52 rfl (lv_at hl 1 rfl) ?_
            refine lv_iload_n hx hb dX1_lawLine_53 rfl (lv_at hl 0 rfl) ?_
            refine lv_aload_n hx hb dX1_lawLine_54 rfl (lv_at hl 3 rfl) ?_
            refine va_get (ci := 1) (v := .ref (ard 0)) (C := RX1) (T := TX1) (N := 10) hx hb hts in_X1 hown hK hP 0 rfl rfl 4 (by decide) (hts _ q375) (fun _ h9 => h9) rfl dX1_lawLine_55 ?_
            refine zldcw hx hb hown (sr14 hStr hz) dX1_lawLine_58 ?_
            have hP : va_P D zCl ((cH k ah aw adr aim ard asc ath awl alo atr sh) ++ ((cR k ard s2) ++ [(qs, .inr (8, [.int 0, .int 0, .null]))])) _ := hP
            have hD : va_D A ((cH k ah aw adr aim ard asc ath awl alo atr sh) ++ ((cR k ard s2) ++ [(qs, .inr (8, [.int 0, .int 0, .null]))])) := hD
            refine cWV (cH k ah aw adr aim ard asc ath awl alo atr sh) (cR k ard s2) [(qs, .inr (8, [.int 0, .int 0, .null]))] (As := [.ref (adK 14)]) (ci := 3) ⟨hx, hb, hml, hown, hts⟩ hOK hz hS hA hP hD (mtX3_passesM l D k ard Z hOK hStr hPv s2 14 _ s3 g3) (kX3_passes hts q1243 rfl rfl ⟨Nat.le_of_ble_eq_true rfl, Nat.le_of_ble_eq_true rfl⟩) 0 rfl rfl rfl hl.1 rfl (lv_room (Nat.le_of_ble_eq_true rfl)) ⟨(by simp only [rP, rLs, prc, rdO]; omega), (by simp only [rP, rLs, prc, rdO]; omega)⟩ dX1_lawLine_61 (fun r_ w_ H locs hq hP hD hS => ?_)
            obtain ⟨rfl, rfl⟩ := hq
            refine lv_if_eq (tgt := 74) hx hb dX1_lawLine_64 (by decide) (fun c1 => absurd c1 (by decide)) (fun _ => ?_)
            refine lv_aload_n hx hb dX1_lawLine_67 rfl (lv_at hl 3 rfl) ?_
            have hP : va_P D zCl ([] ++ (((cH k ah aw adr aim ard asc ath awl alo atr sh) ++ (cR k ard s3)) ++ [(qs, .inr (8, [.int 0, .int 0, .null]))])) _ := hP
            have hD : va_D A ([] ++ (((cH k ah aw adr aim ard asc ath awl alo atr sh) ++ (cR k ard s3)) ++ [(qs, .inr (8, [.int 0, .int 0, .null]))])) := hD
            refine cXV [] ((cH k ah aw adr aim ard asc ath awl alo atr sh) ++ (cR k ard s3)) [(qs, .inr (8, [.int 0, .int 0, .null]))] (As := []) (ci := 1) ⟨hx, hb, hml, hown, hts⟩ hOK hz hS hA hP hD ((mtX1_condC l D k ah aw adr aim ard asc ath awl alo atr Z hOK6 hlt hTh hStr hPv hLs hVl sh 6).2 s3 _ h4) (kX1_cond hts q1328 rfl rfl ⟨Nat.le_of_ble_eq_true rfl, Nat.le_of_ble_eq_true rfl⟩) 0 rfl rfl rfl hl.1 rfl (lv_room (Nat.le_of_ble_eq_true rfl)) ⟨(by simp only [rP, rLs, prc]; show _ + (_ * (rA s4 - rA s3) + _) ≤ _ * (rA s4 - rA srd) + _; omega), (by simp only [rP, rLs, prc]; show _ + (_ * (rA s4 - rA s3) + _) ≤ _ * (rA s4 - rA srd) + _; omega)⟩ dX1_lawLine_68 (fun E_ w_ ce_ q9_ H locs hq hP hD hS hce hcv hcl => ?_) (fun r_ w_ H locs hq hP hD hS => ?_)
            · obtain ⟨ord, he, rfl⟩ := hq
              cases he
              have hP := zdropP (x := ((cH k ah aw adr aim ard asc ath awl alo atr sh) ++ (cR k ard s4))) (y := [(qs, .inr (8, [.int 0, .int 0, .null]))]) hP
              have hD := zdropD (x := ((cH k ah aw adr aim ard asc ath awl alo atr sh) ++ (cR k ard s4))) (y := [(qs, .inr (8, [.int 0, .int 0, .null]))]) hD
              exact zout hnoh hlocks hce hcv hcl hP hD hS ⟨_, rfl, rfl⟩ (by simp only [prc, rdO]; omega) (by simp only [prc, rdO]; omega)
            · obtain ⟨g, ord, q, n_, he, -⟩ := hq
              exact nomatch he
        | inr q =>
          obtain ⟨f4, s4⟩ := q
          have hrun := moxr hrun
          have hA4 : rA s3 ≤ rA s4 ∧ rA s4 ≤ 400 := h4n
          cases hrun
          refine CtX.of (by decide) (Nat.le_of_ble_eq_true rfl) ?_
          intro p e9 s m args below meth c A hE hnoh hA hP hD hS hz ls hl
          obtain ⟨hx, hb, hr, hml, hown, hts, hlocks, hname⟩ := hE
          have hown : s.vm.findClass RX1 = some m.cls := hown
          have hK := hOK.1 _ _ _ hz
          have hN := hOK.2.1 _ _ _ hz
          have hl : lv_has ls 4 [(0, .ref (ah 0))] := hl
          have hab : a - b < 2 ^ 31 := by have := hwd.2.2.2.1; omega
          refine lv_aload_n hx hb dX1_lawLine_0 rfl (lv_at hl 0 rfl) ?_
          refine va_get (ci := 1) (v := .ref (ard 0)) (C := RX1) (T := TX1) (N := 10) hx hb hts in_X1 hown hK hP 0 rfl rfl 4 (by decide) (hts _ q375) (fun _ h9 => h9) rfl dX1_lawLine_1 ?_
          have hP : va_P D zCl ((cH k ah aw adr aim ard asc ath awl alo atr sh) ++ (cR k ard srd)) _ := hP
          have hD : va_D A ((cH k ah aw adr aim ard asc ath awl alo atr sh) ++ (cR k ard srd)) := hD
          refine cWVP (cH k ah aw adr aim ard asc ath awl alo atr sh) (cR k ard srd) (As := []) (ci := 3) ⟨hx, hb, hml, hown, hts⟩ hOK hz hS hA hP hD (mtX3_word l D k ard Z hOK (fun A U H h => (hStr A U H h).2.2.1) hPv srd s1 hw1 b a hwd) (kX3_word hts q783 rfl rfl ⟨Nat.le_of_ble_eq_true rfl, Nat.le_of_ble_eq_true rfl⟩) 0 rfl rfl rfl hl.1 rfl (lv_room (Nat.le_of_ble_eq_true rfl)) ⟨(by simp only [rP, rLs, prc, rdO]; omega), (by simp only [rP, rLs, prc, rdO]; omega)⟩ dX1_lawLine_4 (fun r_ w_ H locs hq hP hD hS => ?_)
          obtain ⟨q, v1, f1, rfl, hF1, hf1, rfl⟩ := hq
          have hP : va_P D zCl ((cH k ah aw adr aim ard asc ath awl alo atr sh) ++ ((cR k ard s1) ++ (strC k q v1 (a - b) 0 false f1))) _ := hP
          have hD : va_D A ((cH k ah aw adr aim ard asc ath awl alo atr sh) ++ ((cR k ard s1) ++ (strC k q v1 (a - b) 0 false f1))) := hD
          have hAq : A q := hD.2 3 _ rfl
          refine lv_astore_n (lv' := [(1, .ref q), (0, .ref (ah 0))]) hx hb dX1_lawLine_7 rfl hl (by decide) rfl (fun ls hl => ?_)
          refine lv_aload_n hx hb dX1_lawLine_8 rfl (lv_at hl 0 rfl) ?_
          refine va_ldcS hx hb hown (sr11 hStr hz) dX1_lawLine_9 ?_
          refine cRV (As := [.ref (adK 11)]) (ci := 17) ⟨hx, hb, hml, hown, hts⟩ hOK hz hS (hP.sub (ws' := (strC k q v1 (a - b) 0 false f1)) [3, 4] rfl) ((mtJ5_eqCS l D k Z hOK (fun A U H h => (hStr A U H h).2.2.1) (adK 11) (adV 11) (stL 11) (stC 11) (stN_l 11 (by decide)) q v1 (a - b) f1 hab 0 false (zneS hStr hz (i := 11) (by decide) hAq)).mono (fun A U H h => ⟨h, (hStr A U H h).1.1 11 (by decide)⟩)) (kJ5_equals hts q1203 rfl rfl ⟨Nat.le_of_ble_eq_true rfl, Nat.le_of_ble_eq_true rfl⟩) 0 rfl rfl rfl hl.1 rfl (lv_room (Nat.le_of_ble_eq_true rfl)) ⟨(by simp only [rP, rLs, prc, rdO]; omega), (by simp only [rP, rLs, prc, rdO]; omega)⟩ dX1_lawLine_11 ?_
          rw [wdIs_of hwd hf1]
          refine lv_istore_n (lv' := [(2, .int (bz (wdIs s1 11))), (1, .ref q), (0, .ref (ah 0))]) hx hb dX1_lawLine_14 rfl hl (by decide) rfl (fun ls hl => ?_)
          refine lv_iload_n hx hb dX1_lawLine_15 rfl (lv_at hl 0 rfl) ?_
          by_cases h11 : wdIs s1 11 = true
          · refine lv_if_ne (tgt := 37) hx hb dX1_lawLine_16 (by decide) (fun _ => ?_) (fun c1 => absurd (show bz (wdIs s1 11) = 0 from c1) (by rw [h11]; decide))
            refine lv_aload_n hx hb dX1_lawLine_37 rfl (lv_at hl 2 rfl) ?_
            refine va_get (ci := 1) (v := .ref (ard 0)) (C := RX1) (T := TX1) (N := 10) hx hb hts in_X1 hown hK hP 0 rfl rfl 4 (by decide) (hts _ q375) (fun _ h9 => h9) rfl dX1_lawLine_38 ?_
            refine lv_iconst (v := (0 : Int32)) hx hb dX1_lawLine_41 (by decide) ?_
            refine lv_bipush (v := (30 : Int32)) hx hb dX1_lawLine_42 (by decide) ?_
            have hP : va_P D zCl ((cH k ah aw adr aim ard asc ath awl alo atr sh) ++ ((cR k ard s1) ++ (strC k q v1 (a - b) 0 false f1))) _ := hP
            have hD : va_D A ((cH k ah aw adr aim ard asc ath awl alo atr sh) ++ ((cR k ard s1) ++ (strC k q v1 (a - b) 0 false f1))) := hD
            refine cXV (cH k ah aw adr aim ard asc ath awl alo atr sh) (cR k ard s1) (strC k q v1 (a - b) 0 false f1) (As := [.int (0 : Int32), .int (30 : Int32)]) (ci := 3) ⟨hx, hb, hml, hown, hts⟩ hOK hz hS hA hP hD (mtX3_number l D k ard Z hOK hlt hTh s1 0 30 _ h2) (kX3_number hts q1232 rfl rfl ⟨Nat.le_of_ble_eq_true rfl, Nat.le_of_ble_eq_true rfl⟩) 0 rfl rfl rfl hl.1 rfl (lv_room (Nat.le_of_ble_eq_true rfl)) ⟨(by simp only [rP, rLs, prc, rdO]; omega), (by simp only [rP, rLs, prc, rdO]; omega)⟩ dX1_lawLine_44 (fun E_ w_ ce_ q9_ H locs hq hP hD hS hce hcv hcl => ?_) (fun r_ w_ H locs hq hP hD hS => ?_)
            · obtain ⟨ord, he, rfl⟩ := hq
              exact nomatch he
            obtain ⟨r, ord, he, rfl, rfl⟩ := hq
            cases he
            have hP : va_P D zCl (((cH k ah aw adr aim ard asc ath awl alo atr sh) ++ (cR k ard s2)) ++ (strC k q v1 (a - b) 0 false f1)) _ := hP
            have hD : va_D A (((cH k ah aw adr aim ard asc ath awl alo atr sh) ++ (cR k ard s2)) ++ (strC k q v1 (a - b) 0 false f1)) := hD
            have hP := zdropP (x := ((cH k ah aw adr aim ard asc ath awl alo atr sh) ++ (cR k ard s2))) (y := (strC k q v1 (a - b) 0 false f1)) hP
            have hD := zdropD (x := ((cH k ah aw adr aim ard asc ath awl alo atr sh) ++ (cR k ard s2))) (y := (strC k q v1 (a - b) 0 false f1)) hD
            refine lv_istore_n (lv' := [(3, .int n2), (2, .int (bz (wdIs s1 11))), (1, .ref q), (0, .ref (ah 0))]) hx hb dX1_lawLine_47 rfl hl (by decide) rfl (fun ls hl => ?_)
            refine va_new (ci := 8) (fs := [.int 0, .int 0, .null]) (C := RX9) (T := TX9) (N := 3) hx hb hts in_X9 tyX9 tyX9_ok hown (hts _ q1325) (hts _ q1326) (hts _ q135) hK hP hD hS hA rfl (zdef 3 tyX9) (by simp only [rP, rLs, prc, rdO]; omega) (by simp only [rP, rLs, prc, rdO]; omega) dX1_lawLine_48 (fun qs H hP hD hS => ?_)
            refine lv_dup hx hb dX1_lawLine_51 rfl ?_
            refine lv_iload_n hx hb dX1_lawLine_52 rfl (lv_at hl 1 rfl) ?_
            refine lv_iload_n hx hb dX1_lawLine_53 rfl (lv_at hl 0 rfl) ?_
            refine lv_aload_n hx hb dX1_lawLine_54 rfl (lv_at hl 3 rfl) ?_
            refine va_get (ci := 1) (v := .ref (ard 0)) (C := RX1) (T := TX1) (N := 10) hx hb hts in_X1 hown hK hP 0 rfl rfl 4 (by decide) (hts _ q375) (fun _ h9 => h9) rfl dX1_lawLine_55 ?_
            refine zldcw hx hb hown (sr14 hStr hz) dX1_lawLine_58 ?_
            have hP : va_P D zCl ((cH k ah aw adr aim ard asc ath awl alo atr sh) ++ ((cR k ard s2) ++ [(qs, .inr (8, [.int 0, .int 0, .null]))])) _ := hP
            have hD : va_D A ((cH k ah aw adr aim ard asc ath awl alo atr sh) ++ ((cR k ard s2) ++ [(qs, .inr (8, [.int 0, .int 0, .null]))])) := hD
            refine cWV (cH k ah aw adr aim ard asc ath awl alo atr sh) (cR k ard s2) [(qs, .inr (8, [.int 0, .int 0, .null]))] (As := [.ref (adK 14)]) (ci := 3) ⟨hx, hb, hml, hown, hts⟩ hOK hz hS hA hP hD (mtX3_passesM l D k ard Z hOK hStr hPv s2 14 _ s3 g3) (kX3_passes hts q1243 rfl rfl ⟨Nat.le_of_ble_eq_true rfl, Nat.le_of_ble_eq_true rfl⟩) 0 rfl rfl rfl hl.1 rfl (lv_room (Nat.le_of_ble_eq_true rfl)) ⟨(by simp only [rP, rLs, prc, rdO]; omega), (by simp only [rP, rLs, prc, rdO]; omega)⟩ dX1_lawLine_61 (fun r_ w_ H locs hq hP hD hS => ?_)
            obtain ⟨rfl, rfl⟩ := hq
            refine lv_if_eq (tgt := 74) hx hb dX1_lawLine_64 (by decide) (fun c1 => absurd c1 (by decide)) (fun _ => ?_)
            refine lv_aload_n hx hb dX1_lawLine_67 rfl (lv_at hl 3 rfl) ?_
            have hP : va_P D zCl ([] ++ (((cH k ah aw adr aim ard asc ath awl alo atr sh) ++ (cR k ard s3)) ++ [(qs, .inr (8, [.int 0, .int 0, .null]))])) _ := hP
            have hD : va_D A ([] ++ (((cH k ah aw adr aim ard asc ath awl alo atr sh) ++ (cR k ard s3)) ++ [(qs, .inr (8, [.int 0, .int 0, .null]))])) := hD
            refine cXV [] ((cH k ah aw adr aim ard asc ath awl alo atr sh) ++ (cR k ard s3)) [(qs, .inr (8, [.int 0, .int 0, .null]))] (As := []) (ci := 1) ⟨hx, hb, hml, hown, hts⟩ hOK hz hS hA hP hD ((mtX1_condC l D k ah aw adr aim ard asc ath awl alo atr Z hOK6 hlt hTh hStr hPv hLs hVl sh 6).2 s3 _ h4) (kX1_cond hts q1328 rfl rfl ⟨Nat.le_of_ble_eq_true rfl, Nat.le_of_ble_eq_true rfl⟩) 0 rfl rfl rfl hl.1 rfl (lv_room (Nat.le_of_ble_eq_true rfl)) ⟨(by simp only [rP, rLs, prc]; show _ + (_ * (rA s4 - rA s3) + _) ≤ _ * (rA s4 - rA srd) + _; omega), (by simp only [rP, rLs, prc]; show _ + (_ * (rA s4 - rA s3) + _) ≤ _ * (rA s4 - rA srd) + _; omega)⟩ dX1_lawLine_68 (fun E_ w_ ce_ q9_ H locs hq hP hD hS hce hcv hcl => ?_) (fun r_ w_ H locs hq hP hD hS => ?_)
            · obtain ⟨ord, he, rfl⟩ := hq
              exact nomatch he
            obtain ⟨g_, ord, qc, np, he, rfl, hp, hel9, rfl⟩ := hq
            cases he
            refine W.widen (k := 9 + 1 + 9 + (50 * (rA s4 - rA s3) + 67) + 1) (n := 1600 + 6 + 3 + 1600 + (5500 * (rA s4 - rA s3) + 9680)) (by simp only [prc]; show _ + (_ * (rA s4 - rA s3) + _) ≤ _; omega) (by simp only [prc]; show _ + (_ * (rA s4 - rA s3) + _) ≤ _; omega) ?_
            refine lv_goto (tgt := 75) hx hb dX1_lawLine_71 (by decide) ?_
            have hP : va_P D zCl (zcat [(cH k ah aw adr aim ard asc ath awl alo atr sh), (cR k ard s4), np, [(qs, .inr (8, [.int 0, .int 0, .null]))]]) _ := hP
            have hD : va_D A (zcat [(cH k ah aw adr aim ard asc ath awl alo atr sh), (cR k ard s4), np, [(qs, .inr (8, [.int 0, .int 0, .null]))]]) := hD
            have hP := zsP [(cH k ah aw adr aim ard asc ath awl alo atr sh), (cR k ard s4), np, [(qs, .inr (8, [.int 0, .int 0, .null]))]] 4 [0, 1, 2] [3] hP rfl (by decide)
            have hD := zsD [(cH k ah aw adr aim ard asc ath awl alo atr sh), (cR k ard s4), np, [(qs, .inr (8, [.int 0, .int 0, .null]))]] 4 [0, 1, 2] [3] hD rfl (by decide)
            have hP : va_P D zCl (((cH k ah aw adr aim ard asc ath awl alo atr sh) ++ ((cR k ard s4) ++ np)) ++ ([(qs, .inr (8, [.int 0, .int 0, .null]))] ++ [])) _ := hP
            have hD : va_D A (((cH k ah aw adr aim ard asc ath awl alo atr sh) ++ ((cR k ard s4) ++ np)) ++ ([(qs, .inr (8, [.int 0, .int 0, .null]))] ++ [])) := hD
            refine cWI ((cH k ah aw adr aim ard asc ath awl alo atr sh) ++ ((cR k ard s4) ++ np)) [(qs, .inr (8, [.int 0, .int 0, .null]))] [] (As := [.int (bz (wdIs s1 11)), .int n2, va_rf (some qc)]) ⟨hx, hb, hml, hown, hts⟩ hOK hz hS hA hP hD (mtX9_init l D k Z hOK qs (wdIs s1 11) n2 (some qc)) (kX9_init hts q1511 rfl rfl ⟨Nat.le_of_ble_eq_true rfl, Nat.le_of_ble_eq_true rfl⟩) rfl hl.1 rfl (lv_room (Nat.le_of_ble_eq_true rfl)) ⟨(by simp only [rP, rLs, prc, rdO]; omega), (by simp only [rP, rLs, prc, rdO]; omega)⟩ dX1_lawLine_75 (fun r_ w_ H locs hq hP hD hS => ?_)
            obtain ⟨rfl, rfl⟩ := hq
            have hP : va_P D zCl (((cH k ah aw adr aim ard asc ath awl alo atr sh) ++ (cR k ard s4)) ++ (np ++ [(qs, .inr (8, [.int (bz (wdIs s1 11)), .int n2, va_rf (some qc)]))])) _ := hP
            have hD : va_D A (((cH k ah aw adr aim ard asc ath awl alo atr sh) ++ (cR k ard s4)) ++ (np ++ [(qs, .inr (8, [.int (bz (wdIs s1 11)), .int n2, va_rf (some qc)]))])) := hD
            refine widX (by simp only [prc, rdO]; omega) (by simp only [prc, rdO]; omega) ?_
            exact vx_ret (retW_a hx hb hr (Or.inl ⟨_, rfl⟩) hlocks hP hD hS ⟨_, _, qs, _, rfl, rfl, ⟨wdIs s1 11, n2, Or.inr ⟨qc, _, List.mem_append_right _ (List.mem_singleton.mpr rfl), cnAt.mono (fun x h => List.mem_append_left _ h) _ _ _ _ (by omega) hp, rfl⟩⟩, ⟨8, _, _, List.mem_append_right _ (List.mem_singleton.mpr rfl), rfl, zN_of q2519 rfl⟩, rfl⟩ dX1_lawLine_78)
          · have h11 := eq_false_of_ne_true h11
            have hd13 : wdIs s1 13 = true := by rw [h11, Bool.false_or] at hdc; exact hdc
            refine lv_if_ne (tgt := 37) hx hb dX1_lawLine_16 (by decide) (fun c1 => absurd (show bz (wdIs s1 11) = 0 by rw [h11]; rfl) c1) (fun _ => ?_)
            refine lv_aload_n hx hb dX1_lawLine_19 rfl (lv_at hl 1 rfl) ?_
            refine zldcw hx hb hown (sr13 hStr hz) dX1_lawLine_20 ?_
            refine cRV (As := [.ref (adK 13)]) (ci := 17) ⟨hx, hb, hml, hown, hts⟩ hOK hz hS (hP.sub (ws' := (strC k q v1 (a - b) 0 false f1)) [3, 4] rfl) ((mtJ5_eqCS l D k Z hOK (fun A U H h => (hStr A U H h).2.2.1) (adK 13) (adV 13) (stL 13) (stC 13) (stN_l 13 (by decide)) q v1 (a - b) f1 hab 0 false (zneS hStr hz (i := 13) (by decide) hAq)).mono (fun A U H h => ⟨h, (hStr A U H h).1.1 13 (by decide)⟩)) (kJ5_equals hts q1203 rfl rfl ⟨Nat.le_of_ble_eq_true rfl, Nat.le_of_ble_eq_true rfl⟩) 0 rfl rfl rfl hl.1 rfl (lv_room (Nat.le_of_ble_eq_true rfl)) ⟨(by simp only [rP, rLs, prc, rdO]; omega), (by simp only [rP, rLs, prc, rdO]; omega)⟩ dX1_lawLine_23 ?_
            rw [wdIs_of hwd hf1]
            refine lv_if_ne (tgt := 37) hx hb dX1_lawLine_26 (by decide) (fun _ => ?_) (fun c1 => absurd (show bz (wdIs s1 13) = 0 from c1) (by rw [hd13]; decide))
            refine lv_aload_n hx hb dX1_lawLine_37 rfl (lv_at hl 2 rfl) ?_
            refine va_get (ci := 1) (v := .ref (ard 0)) (C := RX1) (T := TX1) (N := 10) hx hb hts in_X1 hown hK hP 0 rfl rfl 4 (by decide) (hts _ q375) (fun _ h9 => h9) rfl dX1_lawLine_38 ?_
            refine lv_iconst (v := (0 : Int32)) hx hb dX1_lawLine_41 (by decide) ?_
            refine lv_bipush (v := (30 : Int32)) hx hb dX1_lawLine_42 (by decide) ?_
            have hP : va_P D zCl ((cH k ah aw adr aim ard asc ath awl alo atr sh) ++ ((cR k ard s1) ++ (strC k q v1 (a - b) 0 false f1))) _ := hP
            have hD : va_D A ((cH k ah aw adr aim ard asc ath awl alo atr sh) ++ ((cR k ard s1) ++ (strC k q v1 (a - b) 0 false f1))) := hD
            refine cXV (cH k ah aw adr aim ard asc ath awl alo atr sh) (cR k ard s1) (strC k q v1 (a - b) 0 false f1) (As := [.int (0 : Int32), .int (30 : Int32)]) (ci := 3) ⟨hx, hb, hml, hown, hts⟩ hOK hz hS hA hP hD (mtX3_number l D k ard Z hOK hlt hTh s1 0 30 _ h2) (kX3_number hts q1232 rfl rfl ⟨Nat.le_of_ble_eq_true rfl, Nat.le_of_ble_eq_true rfl⟩) 0 rfl rfl rfl hl.1 rfl (lv_room (Nat.le_of_ble_eq_true rfl)) ⟨(by simp only [rP, rLs, prc, rdO]; omega), (by simp only [rP, rLs, prc, rdO]; omega)⟩ dX1_lawLine_44 (fun E_ w_ ce_ q9_ H locs hq hP hD hS hce hcv hcl => ?_) (fun r_ w_ H locs hq hP hD hS => ?_)
            · obtain ⟨ord, he, rfl⟩ := hq
              exact nomatch he
            obtain ⟨r, ord, he, rfl, rfl⟩ := hq
            cases he
            have hP : va_P D zCl (((cH k ah aw adr aim ard asc ath awl alo atr sh) ++ (cR k ard s2)) ++ (strC k q v1 (a - b) 0 false f1)) _ := hP
            have hD : va_D A (((cH k ah aw adr aim ard asc ath awl alo atr sh) ++ (cR k ard s2)) ++ (strC k q v1 (a - b) 0 false f1)) := hD
            have hP := zdropP (x := ((cH k ah aw adr aim ard asc ath awl alo atr sh) ++ (cR k ard s2))) (y := (strC k q v1 (a - b) 0 false f1)) hP
            have hD := zdropD (x := ((cH k ah aw adr aim ard asc ath awl alo atr sh) ++ (cR k ard s2))) (y := (strC k q v1 (a - b) 0 false f1)) hD
            refine lv_istore_n (lv' := [(3, .int n2), (2, .int (bz (wdIs s1 11))), (1, .ref q), (0, .ref (ah 0))]) hx hb dX1_lawLine_47 rfl hl (by decide) rfl (fun ls hl => ?_)
            refine va_new (ci := 8) (fs := [.int 0, .int 0, .null]) (C := RX9) (T := TX9) (N := 3) hx hb hts in_X9 tyX9 tyX9_ok hown (hts _ q1325) (hts _ q1326) (hts _ q135) hK hP hD hS hA rfl (zdef 3 tyX9) (by simp only [rP, rLs, prc, rdO]; omega) (by simp only [rP, rLs, prc, rdO]; omega) dX1_lawLine_48 (fun qs H hP hD hS => ?_)
            refine lv_dup hx hb dX1_lawLine_51 rfl ?_
            refine lv_iload_n hx hb dX1_lawLine_52 rfl (lv_at hl 1 rfl) ?_
            refine lv_iload_n hx hb dX1_lawLine_53 rfl (lv_at hl 0 rfl) ?_
            refine lv_aload_n hx hb dX1_lawLine_54 rfl (lv_at hl 3 rfl) ?_
            refine va_get (ci := 1) (v := .ref (ard 0)) (C := RX1) (T := TX1) (N := 10) hx hb hts in_X1 hown hK hP 0 rfl rfl 4 (by decide) (hts _ q375) (fun _ h9 => h9) rfl dX1_lawLine_55 ?_
            refine zldcw hx hb hown (sr14 hStr hz) dX1_lawLine_58 ?_
            have hP : va_P D zCl ((cH k ah aw adr aim ard asc ath awl alo atr sh) ++ ((cR k ard s2) ++ [(qs, .inr (8, [.int 0, .int 0, .null]))])) _ := hP
            have hD : va_D A ((cH k ah aw adr aim ard asc ath awl alo atr sh) ++ ((cR k ard s2) ++ [(qs, .inr (8, [.int 0, .int 0, .null]))])) := hD
            refine cWV (cH k ah aw adr aim ard asc ath awl alo atr sh) (cR k ard s2) [(qs, .inr (8, [.int 0, .int 0, .null]))] (As := [.ref (adK 14)]) (ci := 3) ⟨hx, hb, hml, hown, hts⟩ hOK hz hS hA hP hD (mtX3_passesM l D k ard Z hOK hStr hPv s2 14 _ s3 g3) (kX3_passes hts q1243 rfl rfl ⟨Nat.le_of_ble_eq_true rfl, Nat.le_of_ble_eq_true rfl⟩) 0 rfl rfl rfl hl.1 rfl (lv_room (Nat.le_of_ble_eq_true rfl)) ⟨(by simp only [rP, rLs, prc, rdO]; omega), (by simp only [rP, rLs, prc, rdO]; omega)⟩ dX1_lawLine_61 (fun r_ w_ H locs hq hP hD hS => ?_)
            obtain ⟨rfl, rfl⟩ := hq
            refine lv_if_eq (tgt := 74) hx hb dX1_lawLine_64 (by decide) (fun c1 => absurd c1 (by decide)) (fun _ => ?_)
            refine lv_aload_n hx hb dX1_lawLine_67 rfl (lv_at hl 3 rfl) ?_
            have hP : va_P D zCl ([] ++ (((cH k ah aw adr aim ard asc ath awl alo atr sh) ++ (cR k ard s3)) ++ [(qs, .inr (8, [.int 0, .int 0, .null]))])) _ := hP
            have hD : va_D A ([] ++ (((cH k ah aw adr aim ard asc ath awl alo atr sh) ++ (cR k ard s3)) ++ [(qs, .inr (8, [.int 0, .int 0, .null]))])) := hD
            refine cXV [] ((cH k ah aw adr aim ard asc ath awl alo atr sh) ++ (cR k ard s3)) [(qs, .inr (8, [.int 0, .int 0, .null]))] (As := []) (ci := 1) ⟨hx, hb, hml, hown, hts⟩ hOK hz hS hA hP hD ((mtX1_condC l D k ah aw adr aim ard asc ath awl alo atr Z hOK6 hlt hTh hStr hPv hLs hVl sh 6).2 s3 _ h4) (kX1_cond hts q1328 rfl rfl ⟨Nat.le_of_ble_eq_true rfl, Nat.le_of_ble_eq_true rfl⟩) 0 rfl rfl rfl hl.1 rfl (lv_room (Nat.le_of_ble_eq_true rfl)) ⟨(by simp only [rP, rLs, prc]; show _ + (_ * (rA s4 - rA s3) + _) ≤ _ * (rA s4 - rA srd) + _; omega), (by simp only [rP, rLs, prc]; show _ + (_ * (rA s4 - rA s3) + _) ≤ _ * (rA s4 - rA srd) + _; omega)⟩ dX1_lawLine_68 (fun E_ w_ ce_ q9_ H locs hq hP hD hS hce hcv hcl => ?_) (fun r_ w_ H locs hq hP hD hS => ?_)
            · obtain ⟨ord, he, rfl⟩ := hq
              exact nomatch he
            obtain ⟨g_, ord, qc, np, he, rfl, hp, hel9, rfl⟩ := hq
            cases he
            refine W.widen (k := 9 + 1 + 9 + (50 * (rA s4 - rA s3) + 67) + 1) (n := 1600 + 6 + 3 + 1600 + (5500 * (rA s4 - rA s3) + 9680)) (by simp only [prc]; show _ + (_ * (rA s4 - rA s3) + _) ≤ _; omega) (by simp only [prc]; show _ + (_ * (rA s4 - rA s3) + _) ≤ _; omega) ?_
            refine lv_goto (tgt := 75) hx hb dX1_lawLine_71 (by decide) ?_
            have hP : va_P D zCl (zcat [(cH k ah aw adr aim ard asc ath awl alo atr sh), (cR k ard s4), np, [(qs, .inr (8, [.int 0, .int 0, .null]))]]) _ := hP
            have hD : va_D A (zcat [(cH k ah aw adr aim ard asc ath awl alo atr sh), (cR k ard s4), np, [(qs, .inr (8, [.int 0, .int 0, .null]))]]) := hD
            have hP := zsP [(cH k ah aw adr aim ard asc ath awl alo atr sh), (cR k ard s4), np, [(qs, .inr (8, [.int 0, .int 0, .null]))]] 4 [0, 1, 2] [3] hP rfl (by decide)
            have hD := zsD [(cH k ah aw adr aim ard asc ath awl alo atr sh), (cR k ard s4), np, [(qs, .inr (8, [.int 0, .int 0, .null]))]] 4 [0, 1, 2] [3] hD rfl (by decide)
            have hP : va_P D zCl (((cH k ah aw adr aim ard asc ath awl alo atr sh) ++ ((cR k ard s4) ++ np)) ++ ([(qs, .inr (8, [.int 0, .int 0, .null]))] ++ [])) _ := hP
            have hD : va_D A (((cH k ah aw adr aim ard asc ath awl alo atr sh) ++ ((cR k ard s4) ++ np)) ++ ([(qs, .inr (8, [.int 0, .int 0, .null]))] ++ [])) := hD
            refine cWI ((cH k ah aw adr aim ard asc ath awl alo atr sh) ++ ((cR k ard s4) ++ np)) [(qs, .inr (8, [.int 0, .int 0, .null]))] [] (As := [.int (bz (wdIs s1 11)), .int n2, va_rf (some qc)]) ⟨hx, hb, hml, hown, hts⟩ hOK hz hS hA hP hD (mtX9_init l D k Z hOK qs (wdIs s1 11) n2 (some qc)) (kX9_init hts q1511 rfl rfl ⟨Nat.le_of_ble_eq_true rfl, Nat.le_of_ble_eq_true rfl⟩) rfl hl.1 rfl (lv_room (Nat.le_of_ble_eq_true rfl)) ⟨(by simp only [rP, rLs, prc, rdO]; omega), (by simp only [rP, rLs, prc, rdO]; omega)⟩ dX1_lawLine_75 (fun r_ w_ H locs hq hP hD hS => ?_)
            obtain ⟨rfl, rfl⟩ := hq
            have hP : va_P D zCl (((cH k ah aw adr aim ard asc ath awl alo atr sh) ++ (cR k ard s4)) ++ (np ++ [(qs, .inr (8, [.int (bz (wdIs s1 11)), .int n2, va_rf (some qc)]))])) _ := hP
            have hD : va_D A (((cH k ah aw adr aim ard asc ath awl alo atr sh) ++ (cR k ard s4)) ++ (np ++ [(qs, .inr (8, [.int (bz (wdIs s1 11)), .int n2, va_rf (some qc)]))])) := hD
            refine widX (by simp only [prc, rdO]; omega) (by simp only [prc, rdO]; omega) ?_
            exact vx_ret (retW_a hx hb hr (Or.inl ⟨_, rfl⟩) hlocks hP hD hS ⟨_, _, qs, _, rfl, rfl, ⟨wdIs s1 11, n2, Or.inr ⟨qc, _, List.mem_append_right _ (List.mem_singleton.mpr rfl), cnAt.mono (fun x h => List.mem_append_left _ h) _ _ _ _ (by omega) hp, rfl⟩⟩, ⟨8, _, _, List.mem_append_right _ (List.mem_singleton.mpr rfl), rfl, zN_of q2519 rfl⟩, rfl⟩ dX1_lawLine_78)
      | false =>
        have hrun := mif_n (by decide) hrun
        have hA3 : rA s2 + 0 ≤ rA s3 ∧ rA s3 ≤ 400 := hA3
        cases hrun
        refine CtX.of (by decide) (Nat.le_of_ble_eq_true rfl) ?_
        intro p e9 s m args below meth c A hE hnoh hA hP hD hS hz ls hl
        obtain ⟨hx, hb, hr, hml, hown, hts, hlocks, hname⟩ := hE
        have hown : s.vm.findClass RX1 = some m.cls := hown
        have hK := hOK.1 _ _ _ hz
        have hN := hOK.2.1 _ _ _ hz
        have hl : lv_has ls 4 [(0, .ref (ah 0))] := hl
        have hab : a - b < 2 ^ 31 := by have := hwd.2.2.2.1; omega
        refine lv_aload_n hx hb dX1_lawLine_0 rfl (lv_at hl 0 rfl) ?_
        refine va_get (ci := 1) (v := .ref (ard 0)) (C := RX1) (T := TX1) (N := 10) hx hb hts in_X1 hown hK hP 0 rfl rfl 4 (by decide) (hts _ q375) (fun _ h9 => h9) rfl dX1_lawLine_1 ?_
        have hP : va_P D zCl ((cH k ah aw adr aim ard asc ath awl alo atr sh) ++ (cR k ard srd)) _ := hP
        have hD : va_D A ((cH k ah aw adr aim ard asc ath awl alo atr sh) ++ (cR k ard srd)) := hD
        refine cWVP (cH k ah aw adr aim ard asc ath awl alo atr sh) (cR k ard srd) (As := []) (ci := 3) ⟨hx, hb, hml, hown, hts⟩ hOK hz hS hA hP hD (mtX3_word l D k ard Z hOK (fun A U H h => (hStr A U H h).2.2.1) hPv srd s1 hw1 b a hwd) (kX3_word hts q783 rfl rfl ⟨Nat.le_of_ble_eq_true rfl, Nat.le_of_ble_eq_true rfl⟩) 0 rfl rfl rfl hl.1 rfl (lv_room (Nat.le_of_ble_eq_true rfl)) ⟨(by simp only [rP, rLs, prc, rdO]; omega), (by simp only [rP, rLs, prc, rdO]; omega)⟩ dX1_lawLine_4 (fun r_ w_ H locs hq hP hD hS => ?_)
        obtain ⟨q, v1, f1, rfl, hF1, hf1, rfl⟩ := hq
        have hP : va_P D zCl ((cH k ah aw adr aim ard asc ath awl alo atr sh) ++ ((cR k ard s1) ++ (strC k q v1 (a - b) 0 false f1))) _ := hP
        have hD : va_D A ((cH k ah aw adr aim ard asc ath awl alo atr sh) ++ ((cR k ard s1) ++ (strC k q v1 (a - b) 0 false f1))) := hD
        have hAq : A q := hD.2 3 _ rfl
        refine lv_astore_n (lv' := [(1, .ref q), (0, .ref (ah 0))]) hx hb dX1_lawLine_7 rfl hl (by decide) rfl (fun ls hl => ?_)
        refine lv_aload_n hx hb dX1_lawLine_8 rfl (lv_at hl 0 rfl) ?_
        refine va_ldcS hx hb hown (sr11 hStr hz) dX1_lawLine_9 ?_
        refine cRV (As := [.ref (adK 11)]) (ci := 17) ⟨hx, hb, hml, hown, hts⟩ hOK hz hS (hP.sub (ws' := (strC k q v1 (a - b) 0 false f1)) [3, 4] rfl) ((mtJ5_eqCS l D k Z hOK (fun A U H h => (hStr A U H h).2.2.1) (adK 11) (adV 11) (stL 11) (stC 11) (stN_l 11 (by decide)) q v1 (a - b) f1 hab 0 false (zneS hStr hz (i := 11) (by decide) hAq)).mono (fun A U H h => ⟨h, (hStr A U H h).1.1 11 (by decide)⟩)) (kJ5_equals hts q1203 rfl rfl ⟨Nat.le_of_ble_eq_true rfl, Nat.le_of_ble_eq_true rfl⟩) 0 rfl rfl rfl hl.1 rfl (lv_room (Nat.le_of_ble_eq_true rfl)) ⟨(by simp only [rP, rLs, prc, rdO]; omega), (by simp only [rP, rLs, prc, rdO]; omega)⟩ dX1_lawLine_11 ?_
        rw [wdIs_of hwd hf1]
        refine lv_istore_n (lv' := [(2, .int (bz (wdIs s1 11))), (1, .ref q), (0, .ref (ah 0))]) hx hb dX1_lawLine_14 rfl hl (by decide) rfl (fun ls hl => ?_)
        refine lv_iload_n hx hb dX1_lawLine_15 rfl (lv_at hl 0 rfl) ?_
        by_cases h11 : wdIs s1 11 = true
        · refine lv_if_ne (tgt := 37) hx hb dX1_lawLine_16 (by decide) (fun _ => ?_) (fun c1 => absurd (show bz (wdIs s1 11) = 0 from c1) (by rw [h11]; decide))
          refine lv_aload_n hx hb dX1_lawLine_37 rfl (lv_at hl 2 rfl) ?_
          refine va_get (ci := 1) (v := .ref (ard 0)) (C := RX1) (T := TX1) (N := 10) hx hb hts in_X1 hown hK hP 0 rfl rfl 4 (by decide) (hts _ q375) (fun _ h9 => h9) rfl dX1_lawLine_38 ?_
          refine lv_iconst (v := (0 : Int32)) hx hb dX1_lawLine_41 (by decide) ?_
          refine lv_bipush (v := (30 : Int32)) hx hb dX1_lawLine_42 (by decide) ?_
          have hP : va_P D zCl ((cH k ah aw adr aim ard asc ath awl alo atr sh) ++ ((cR k ard s1) ++ (strC k q v1 (a - b) 0 false f1))) _ := hP
          have hD : va_D A ((cH k ah aw adr aim ard asc ath awl alo atr sh) ++ ((cR k ard s1) ++ (strC k q v1 (a - b) 0 false f1))) := hD
          refine cXV (cH k ah aw adr aim ard asc ath awl alo atr sh) (cR k ard s1) (strC k q v1 (a - b) 0 false f1) (As := [.int (0 : Int32), .int (30 : Int32)]) (ci := 3) ⟨hx, hb, hml, hown, hts⟩ hOK hz hS hA hP hD (mtX3_number l D k ard Z hOK hlt hTh s1 0 30 _ h2) (kX3_number hts q1232 rfl rfl ⟨Nat.le_of_ble_eq_true rfl, Nat.le_of_ble_eq_true rfl⟩) 0 rfl rfl rfl hl.1 rfl (lv_room (Nat.le_of_ble_eq_true rfl)) ⟨(by simp only [rP, rLs, prc, rdO]; omega), (by simp only [rP, rLs, prc, rdO]; omega)⟩ dX1_lawLine_44 (fun E_ w_ ce_ q9_ H locs hq hP hD hS hce hcv hcl => ?_) (fun r_ w_ H locs hq hP hD hS => ?_)
          · obtain ⟨ord, he, rfl⟩ := hq
            exact nomatch he
          obtain ⟨r, ord, he, rfl, rfl⟩ := hq
          cases he
          have hP : va_P D zCl (((cH k ah aw adr aim ard asc ath awl alo atr sh) ++ (cR k ard s2)) ++ (strC k q v1 (a - b) 0 false f1)) _ := hP
          have hD : va_D A (((cH k ah aw adr aim ard asc ath awl alo atr sh) ++ (cR k ard s2)) ++ (strC k q v1 (a - b) 0 false f1)) := hD
          have hP := zdropP (x := ((cH k ah aw adr aim ard asc ath awl alo atr sh) ++ (cR k ard s2))) (y := (strC k q v1 (a - b) 0 false f1)) hP
          have hD := zdropD (x := ((cH k ah aw adr aim ard asc ath awl alo atr sh) ++ (cR k ard s2))) (y := (strC k q v1 (a - b) 0 false f1)) hD
          refine lv_istore_n (lv' := [(3, .int n2), (2, .int (bz (wdIs s1 11))), (1, .ref q), (0, .ref (ah 0))]) hx hb dX1_lawLine_47 rfl hl (by decide) rfl (fun ls hl => ?_)
          refine va_new (ci := 8) (fs := [.int 0, .int 0, .null]) (C := RX9) (T := TX9) (N := 3) hx hb hts in_X9 tyX9 tyX9_ok hown (hts _ q1325) (hts _ q1326) (hts _ q135) hK hP hD hS hA rfl (zdef 3 tyX9) (by simp only [rP, rLs, prc, rdO]; omega) (by simp only [rP, rLs, prc, rdO]; omega) dX1_lawLine_48 (fun qs H hP hD hS => ?_)
          refine lv_dup hx hb dX1_lawLine_51 rfl ?_
          refine lv_iload_n hx hb dX1_lawLine_52 rfl (lv_at hl 1 rfl) ?_
          refine lv_iload_n hx hb dX1_lawLine_53 rfl (lv_at hl 0 rfl) ?_
          refine lv_aload_n hx hb dX1_lawLine_54 rfl (lv_at hl 3 rfl) ?_
          refine va_get (ci := 1) (v := .ref (ard 0)) (C := RX1) (T := TX1) (N := 10) hx hb hts in_X1 hown hK hP 0 rfl rfl 4 (by decide) (hts _ q375) (fun _ h9 => h9) rfl dX1_lawLine_55 ?_
          refine zldcw hx hb hown (sr14 hStr hz) dX1_lawLine_58 ?_
          have hP : va_P D zCl ((cH k ah aw adr aim ard asc ath awl alo atr sh) ++ ((cR k ard s2) ++ [(qs, .inr (8, [.int 0, .int 0, .null]))])) _ := hP
          have hD : va_D A ((cH k ah aw adr aim ard asc ath awl alo atr sh) ++ ((cR k ard s2) ++ [(qs, .inr (8, [.int 0, .int 0, .null]))])) := hD
          refine cWV (cH k ah aw adr aim ard asc ath awl alo atr sh) (cR k ard s2) [(qs, .inr (8, [.int 0, .int 0, .null]))] (As := [.ref (adK 14)]) (ci := 3) ⟨hx, hb, hml, hown, hts⟩ hOK hz hS hA hP hD (mtX3_passesM l D k ard Z hOK hStr hPv s2 14 _ s3 g3) (kX3_passes hts q1243 rfl rfl ⟨Nat.le_of_ble_eq_true rfl, Nat.le_of_ble_eq_true rfl⟩) 0 rfl rfl rfl hl.1 rfl (lv_room (Nat.le_of_ble_eq_true rfl)) ⟨(by simp only [rP, rLs, prc, rdO]; omega), (by simp only [rP, rLs, prc, rdO]; omega)⟩ dX1_lawLine_61 (fun r_ w_ H locs hq hP hD hS => ?_)
          obtain ⟨rfl, rfl⟩ := hq
          refine lv_if_eq (tgt := 74) hx hb dX1_lawLine_64 (by decide) (fun _ => ?_) (fun c1 => absurd rfl c1)
          refine lv_null hx hb dX1_lawLine_74 ?_
          have hP : va_P D zCl (((cH k ah aw adr aim ard asc ath awl alo atr sh) ++ (cR k ard s3)) ++ ([(qs, .inr (8, [.int 0, .int 0, .null]))] ++ [])) _ := hP
          have hD : va_D A (((cH k ah aw adr aim ard asc ath awl alo atr sh) ++ (cR k ard s3)) ++ ([(qs, .inr (8, [.int 0, .int 0, .null]))] ++ [])) := hD
          refine cWI ((cH k ah aw adr aim ard asc ath awl alo atr sh) ++ (cR k ard s3)) [(qs, .inr (8, [.int 0, .int 0, .null]))] [] (As := [.int (bz (wdIs s1 11)), .int n2, va_rf none]) ⟨hx, hb, hml, hown, hts⟩ hOK hz hS hA hP hD (mtX9_init l D k Z hOK qs (wdIs s1 11) n2 none) (kX9_init hts q1511 rfl rfl ⟨Nat.le_of_ble_eq_true rfl, Nat.le_of_ble_eq_true rfl⟩) rfl hl.1 rfl (lv_room (Nat.le_of_ble_eq_true rfl)) ⟨(by simp only [rP, rLs, prc, rdO]; omega), (by simp only [rP, rLs, prc, rdO]; omega)⟩ dX1_lawLine_75 (fun r_ w_ H locs hq hP hD hS => ?_)
          obtain ⟨rfl, rfl⟩ := hq
          have hP : va_P D zCl (((cH k ah aw adr aim ard asc ath awl alo atr sh) ++ (cR k ard s3)) ++ [(qs, .inr (8, [.int (bz (wdIs s1 11)), .int n2, va_rf none]))]) _ := hP
          have hD : va_D A (((cH k ah aw adr aim ard asc ath awl alo atr sh) ++ (cR k ard s3)) ++ [(qs, .inr (8, [.int (bz (wdIs s1 11)), .int n2, va_rf none]))]) := hD
          refine widX (by simp only [prc, rdO]; omega) (by simp only [prc, rdO]; omega) ?_
          exact vx_ret (retW_a hx hb hr (Or.inl ⟨_, rfl⟩) hlocks hP hD hS ⟨_, _, qs, _, rfl, rfl, ⟨wdIs s1 11, n2, Or.inl ⟨List.mem_singleton.mpr rfl, rfl⟩⟩, ⟨8, _, _, List.mem_singleton.mpr rfl, rfl, zN_of q2519 rfl⟩, rfl⟩ dX1_lawLine_78)
        · have h11 := eq_false_of_ne_true h11
          have hd13 : wdIs s1 13 = true := by rw [h11, Bool.false_or] at hdc; exact hdc
          refine lv_if_ne (tgt := 37) hx hb dX1_lawLine_16 (by decide) (fun c1 => absurd (show bz (wdIs s1 11) = 0 by rw [h11]; rfl) c1) (fun _ => ?_)
          refine lv_aload_n hx hb dX1_lawLine_19 rfl (lv_at hl 1 rfl) ?_
          refine zldcw hx hb hown (sr13 hStr hz) dX1_lawLine_20 ?_
          refine cRV (As := [.ref (adK 13)]) (ci := 17) ⟨hx, hb, hml, hown, hts⟩ hOK hz hS (hP.sub (ws' := (strC k q v1 (a - b) 0 false f1)) [3, 4] rfl) ((mtJ5_eqCS l D k Z hOK (fun A U H h => (hStr A U H h).2.2.1) (adK 13) (adV 13) (stL 13) (stC 13) (stN_l 13 (by decide)) q v1 (a - b) f1 hab 0 false (zneS hStr hz (i := 13) (by decide) hAq)).mono (fun A U H h => ⟨h, (hStr A U H h).1.1 13 (by decide)⟩)) (kJ5_equals hts q1203 rfl rfl ⟨Nat.le_of_ble_eq_true rfl, Nat.le_of_ble_eq_true rfl⟩) 0 rfl rfl rfl hl.1 rfl (lv_room (Nat.le_of_ble_eq_true rfl)) ⟨(by simp only [rP, rLs, prc, rdO]; omega), (by simp only [rP, rLs, prc, rdO]; omega)⟩ dX1_lawLine_23 ?_
          rw [wdIs_of hwd hf1]
          refine lv_if_ne (tgt := 37) hx hb dX1_lawLine_26 (by decide) (fun _ => ?_) (fun c1 => absurd (show bz (wdIs s1 13) = 0 from c1) (by rw [hd13]; decide))
          refine lv_aload_n hx hb dX1_lawLine_37 rfl (lv_at hl 2 rfl) ?_
          refine va_get (ci := 1) (v := .ref (ard 0)) (C := RX1) (T := TX1) (N := 10) hx hb hts in_X1 hown hK hP 0 rfl rfl 4 (by decide) (hts _ q375) (fun _ h9 => h9) rfl dX1_lawLine_38 ?_
          refine lv_iconst (v := (0 : Int32)) hx hb dX1_lawLine_41 (by decide) ?_
          refine lv_bipush (v := (30 : Int32)) hx hb dX1_lawLine_42 (by decide) ?_
          have hP : va_P D zCl ((cH k ah aw adr aim ard asc ath awl alo atr sh) ++ ((cR k ard s1) ++ (strC k q v1 (a - b) 0 false f1))) _ := hP
          have hD : va_D A ((cH k ah aw adr aim ard asc ath awl alo atr sh) ++ ((cR k ard s1) ++ (strC k q v1 (a - b) 0 false f1))) := hD
          refine cXV (cH k ah aw adr aim ard asc ath awl alo atr sh) (cR k ard s1) (strC k q v1 (a - b) 0 false f1) (As := [.int (0 : Int32), .int (30 : Int32)]) (ci := 3) ⟨hx, hb, hml, hown, hts⟩ hOK hz hS hA hP hD (mtX3_number l D k ard Z hOK hlt hTh s1 0 30 _ h2) (kX3_number hts q1232 rfl rfl ⟨Nat.le_of_ble_eq_true rfl, Nat.le_of_ble_eq_true rfl⟩) 0 rfl rfl rfl hl.1 rfl (lv_room (Nat.le_of_ble_eq_true rfl)) ⟨(by simp only [rP, rLs, prc, rdO]; omega), (by simp only [rP, rLs, prc, rdO]; omega)⟩ dX1_lawLine_44 (fun E_ w_ ce_ q9_ H locs hq hP hD hS hce hcv hcl => ?_) (fun r_ w_ H locs hq hP hD hS => ?_)
          · obtain ⟨ord, he, rfl⟩ := hq
            exact nomatch he
          obtain ⟨r, ord, he, rfl, rfl⟩ := hq
          cases he
          have hP : va_P D zCl (((cH k ah aw adr aim ard asc ath awl alo atr sh) ++ (cR k ard s2)) ++ (strC k q v1 (a - b) 0 false f1)) _ := hP
          have hD : va_D A (((cH k ah aw adr aim ard asc ath awl alo atr sh) ++ (cR k ard s2)) ++ (strC k q v1 (a - b) 0 false f1)) := hD
          have hP := zdropP (x := ((cH k ah aw adr aim ard asc ath awl alo atr sh) ++ (cR k ard s2))) (y := (strC k q v1 (a - b) 0 false f1)) hP
          have hD := zdropD (x := ((cH k ah aw adr aim ard asc ath awl alo atr sh) ++ (cR k ard s2))) (y := (strC k q v1 (a - b) 0 false f1)) hD
          refine lv_istore_n (lv' := [(3, .int n2), (2, .int (bz (wdIs s1 11))), (1, .ref q), (0, .ref (ah 0))]) hx hb dX1_lawLine_47 rfl hl (by decide) rfl (fun ls hl => ?_)
          refine va_new (ci := 8) (fs := [.int 0, .int 0, .null]) (C := RX9) (T := TX9) (N := 3) hx hb hts in_X9 tyX9 tyX9_ok hown (hts _ q1325) (hts _ q1326) (hts _ q135) hK hP hD hS hA rfl (zdef 3 tyX9) (by simp only [rP, rLs, prc, rdO]; omega) (by simp only [rP, rLs, prc, rdO]; omega) dX1_lawLine_48 (fun qs H hP hD hS => ?_)
          refine lv_dup hx hb dX1_lawLine_51 rfl ?_
          refine lv_iload_n hx hb dX1_lawLine_52 rfl (lv_at hl 1 rfl) ?_
          refine lv_iload_n hx hb dX1_lawLine_53 rfl (lv_at hl 0 rfl) ?_
          refine lv_aload_n hx hb dX1_lawLine_54 rfl (lv_at hl 3 rfl) ?_
          refine va_get (ci := 1) (v := .ref (ard 0)) (C := RX1) (T := TX1) (N := 10) hx hb hts in_X1 hown hK hP 0 rfl rfl 4 (by decide) (hts _ q375) (fun _ h9 => h9) rfl dX1_lawLine_55 ?_
          refine zldcw hx hb hown (sr14 hStr hz) dX1_lawLine_58 ?_
          have hP : va_P D zCl ((cH k ah aw adr aim ard asc ath awl alo atr sh) ++ ((cR k ard s2) ++ [(qs, .inr (8, [.int 0, .int 0, .null]))])) _ := hP
          have hD : va_D A ((cH k ah aw adr aim ard asc ath awl alo atr sh) ++ ((cR k ard s2) ++ [(qs, .inr (8, [.int 0, .int 0, .null]))])) := hD
          refine cWV (cH k ah aw adr aim ard asc ath awl alo atr sh) (cR k ard s2) [(qs, .inr (8, [.int 0, .int 0, .null]))] (As := [.ref (adK 14)]) (ci := 3) ⟨hx, hb, hml, hown, hts⟩ hOK hz hS hA hP hD (mtX3_passesM l D k ard Z hOK hStr hPv s2 14 _ s3 g3) (kX3_passes hts q1243 rfl rfl ⟨Nat.le_of_ble_eq_true rfl, Nat.le_of_ble_eq_true rfl⟩) 0 rfl rfl rfl hl.1 rfl (lv_room (Nat.le_of_ble_eq_true rfl)) ⟨(by simp only [rP, rLs, prc, rdO]; omega), (by simp only [rP, rLs, prc, rdO]; omega)⟩ dX1_lawLine_61 (fun r_ w_ H locs hq hP hD hS => ?_)
          obtain ⟨rfl, rfl⟩ := hq
          refine lv_if_eq (tgt := 74) hx hb dX1_lawLine_64 (by decide) (fun _ => ?_) (fun c1 => absurd rfl c1)
          refine lv_null hx hb dX1_lawLine_74 ?_
          have hP : va_P D zCl (((cH k ah aw adr aim ard asc ath awl alo atr sh) ++ (cR k ard s3)) ++ ([(qs, .inr (8, [.int 0, .int 0, .null]))] ++ [])) _ := hP
          have hD : va_D A (((cH k ah aw adr aim ard asc ath awl alo atr sh) ++ (cR k ard s3)) ++ ([(qs, .inr (8, [.int 0, .int 0, .null]))] ++ [])) := hD
          refine cWI ((cH k ah aw adr aim ard asc ath awl alo atr sh) ++ (cR k ard s3)) [(qs, .inr (8, [.int 0, .int 0, .null]))] [] (As := [.int (bz (wdIs s1 11)), .int n2, va_rf none]) ⟨hx, hb, hml, hown, hts⟩ hOK hz hS hA hP hD (mtX9_init l D k Z hOK qs (wdIs s1 11) n2 none) (kX9_init hts q1511 rfl rfl ⟨Nat.le_of_ble_eq_true rfl, Nat.le_of_ble_eq_true rfl⟩) rfl hl.1 rfl (lv_room (Nat.le_of_ble_eq_true rfl)) ⟨(by simp only [rP, rLs, prc, rdO]; omega), (by simp only [rP, rLs, prc, rdO]; omega)⟩ dX1_lawLine_75 (fun r_ w_ H locs hq hP hD hS => ?_)
          obtain ⟨rfl, rfl⟩ := hq
          have hP : va_P D zCl (((cH k ah aw adr aim ard asc ath awl alo atr sh) ++ (cR k ard s3)) ++ [(qs, .inr (8, [.int (bz (wdIs s1 11)), .int n2, va_rf none]))]) _ := hP
          have hD : va_D A (((cH k ah aw adr aim ard asc ath awl alo atr sh) ++ (cR k ard s3)) ++ [(qs, .inr (8, [.int (bz (wdIs s1 11)), .int n2, va_rf none]))]) := hD
          refine widX (by simp only [prc, rdO]; omega) (by simp only [prc, rdO]; omega) ?_
          exact vx_ret (retW_a hx hb hr (Or.inl ⟨_, rfl⟩) hlocks hP hD hS ⟨_, _, qs, _, rfl, rfl, ⟨wdIs s1 11, n2, Or.inl ⟨List.mem_singleton.mpr rfl, rfl⟩⟩, ⟨8, _, _, List.mem_singleton.mpr rfl, rfl, zN_of q2519 rfl⟩, rfl⟩ dX1_lawLine_78)
  · have hrun := mif_n hdc hrun
    cases hrun
    refine CtX.of (by decide) (Nat.le_of_ble_eq_true rfl) ?_
    intro p e9 s m args below meth c A hE hnoh hA hP hD hS hz ls hl
    obtain ⟨hx, hb, hr, hml, hown, hts, hlocks, hname⟩ := hE
    have hown : s.vm.findClass RX1 = some m.cls := hown
    have hK := hOK.1 _ _ _ hz
    have hN := hOK.2.1 _ _ _ hz
    have hl : lv_has ls 4 [(0, .ref (ah 0))] := hl
    have hab : a - b < 2 ^ 31 := by have := hwd.2.2.2.1; omega
    refine lv_aload_n hx hb dX1_lawLine_0 rfl (lv_at hl 0 rfl) ?_
    refine va_get (ci := 1) (v := .ref (ard 0)) (C := RX1) (T := TX1) (N := 10) hx hb hts in_X1 hown hK hP 0 rfl rfl 4 (by decide) (hts _ q375) (fun _ h9 => h9) rfl dX1_lawLine_1 ?_
    have hP : va_P D zCl ((cH k ah aw adr aim ard asc ath awl alo atr sh) ++ (cR k ard srd)) _ := hP
    have hD : va_D A ((cH k ah aw adr aim ard asc ath awl alo atr sh) ++ (cR k ard srd)) := hD
    refine cWVP (cH k ah aw adr aim ard asc ath awl alo atr sh) (cR k ard srd) (As := []) (ci := 3) ⟨hx, hb, hml, hown, hts⟩ hOK hz hS hA hP hD (mtX3_word l D k ard Z hOK (fun A U H h => (hStr A U H h).2.2.1) hPv srd s1 hw1 b a hwd) (kX3_word hts q783 rfl rfl ⟨Nat.le_of_ble_eq_true rfl, Nat.le_of_ble_eq_true rfl⟩) 0 rfl rfl rfl hl.1 rfl (lv_room (Nat.le_of_ble_eq_true rfl)) ⟨(by simp only [rP, rLs, prc, rdO]; omega), (by simp only [rP, rLs, prc, rdO]; omega)⟩ dX1_lawLine_4 (fun r_ w_ H locs hq hP hD hS => ?_)
    obtain ⟨q, v1, f1, rfl, hF1, hf1, rfl⟩ := hq
    have hP : va_P D zCl ((cH k ah aw adr aim ard asc ath awl alo atr sh) ++ ((cR k ard s1) ++ (strC k q v1 (a - b) 0 false f1))) _ := hP
    have hD : va_D A ((cH k ah aw adr aim ard asc ath awl alo atr sh) ++ ((cR k ard s1) ++ (strC k q v1 (a - b) 0 false f1))) := hD
    have hAq : A q := hD.2 3 _ rfl
    refine lv_astore_n (lv' := [(1, .ref q), (0, .ref (ah 0))]) hx hb dX1_lawLine_7 rfl hl (by decide) rfl (fun ls hl => ?_)
    refine lv_aload_n hx hb dX1_lawLine_8 rfl (lv_at hl 0 rfl) ?_
    refine va_ldcS hx hb hown (sr11 hStr hz) dX1_lawLine_9 ?_
    refine cRV (As := [.ref (adK 11)]) (ci := 17) ⟨hx, hb, hml, hown, hts⟩ hOK hz hS (hP.sub (ws' := (strC k q v1 (a - b) 0 false f1)) [3, 4] rfl) ((mtJ5_eqCS l D k Z hOK (fun A U H h => (hStr A U H h).2.2.1) (adK 11) (adV 11) (stL 11) (stC 11) (stN_l 11 (by decide)) q v1 (a - b) f1 hab 0 false (zneS hStr hz (i := 11) (by decide) hAq)).mono (fun A U H h => ⟨h, (hStr A U H h).1.1 11 (by decide)⟩)) (kJ5_equals hts q1203 rfl rfl ⟨Nat.le_of_ble_eq_true rfl, Nat.le_of_ble_eq_true rfl⟩) 0 rfl rfl rfl hl.1 rfl (lv_room (Nat.le_of_ble_eq_true rfl)) ⟨(by simp only [rP, rLs, prc, rdO]; omega), (by simp only [rP, rLs, prc, rdO]; omega)⟩ dX1_lawLine_11 ?_
    rw [wdIs_of hwd hf1]
    refine lv_istore_n (lv' := [(2, .int (bz (wdIs s1 11))), (1, .ref q), (0, .ref (ah 0))]) hx hb dX1_lawLine_14 rfl hl (by decide) rfl (fun ls hl => ?_)
    refine lv_iload_n hx hb dX1_lawLine_15 rfl (lv_at hl 0 rfl) ?_
    have hd11 : wdIs s1 11 = false := eq_false_of_ne_true fun h7 => hdc (by rw [h7, Bool.true_or])
    have hd13 : wdIs s1 13 = false := eq_false_of_ne_true fun h7 => hdc (by rw [h7, Bool.or_true])
    refine lv_if_ne (tgt := 37) hx hb dX1_lawLine_16 (by decide) (fun c1 => absurd (show bz (wdIs s1 11) = 0 by rw [hd11]; rfl) c1) (fun _ => ?_)
    refine lv_aload_n hx hb dX1_lawLine_19 rfl (lv_at hl 1 rfl) ?_
    refine zldcw hx hb hown (sr13 hStr hz) dX1_lawLine_20 ?_
    refine cRV (As := [.ref (adK 13)]) (ci := 17) ⟨hx, hb, hml, hown, hts⟩ hOK hz hS (hP.sub (ws' := (strC k q v1 (a - b) 0 false f1)) [3, 4] rfl) ((mtJ5_eqCS l D k Z hOK (fun A U H h => (hStr A U H h).2.2.1) (adK 13) (adV 13) (stL 13) (stC 13) (stN_l 13 (by decide)) q v1 (a - b) f1 hab 0 false (zneS hStr hz (i := 13) (by decide) hAq)).mono (fun A U H h => ⟨h, (hStr A U H h).1.1 13 (by decide)⟩)) (kJ5_equals hts q1203 rfl rfl ⟨Nat.le_of_ble_eq_true rfl, Nat.le_of_ble_eq_true rfl⟩) 0 rfl rfl rfl hl.1 rfl (lv_room (Nat.le_of_ble_eq_true rfl)) ⟨(by simp only [rP, rLs, prc, rdO]; omega), (by simp only [rP, rLs, prc, rdO]; omega)⟩ dX1_lawLine_23 ?_
    rw [wdIs_of hwd hf1]
    refine lv_if_ne (tgt := 37) hx hb dX1_lawLine_26 (by decide) (fun c1 => absurd (show bz (wdIs s1 13) = 0 by rw [hd13]; rfl) c1) (fun _ => ?_)
    refine lv_aload_n hx hb dX1_lawLine_29 rfl (lv_at hl 2 rfl) ?_
    refine va_get (ci := 1) (v := .ref (ard 0)) (C := RX1) (T := TX1) (N := 10) hx hb hts in_X1 hown hK hP 0 rfl rfl 4 (by decide) (hts _ q375) (fun _ h9 => h9) rfl dX1_lawLine_30 ?_
    have hP : va_P D zCl ((cH k ah aw adr aim ard asc ath awl alo atr sh) ++ ((cR k ard s1) ++ (strC k q v1 (a - b) 0 false f1))) _ := hP
    have hD : va_D A ((cH k ah aw adr aim ard asc ath awl alo atr sh) ++ ((cR k ard s1) ++ (strC k q v1 (a - b) 0 false f1))) := hD
    refine cWV (cH k ah aw adr aim ard asc ath awl alo atr sh) (cR k ard s1) (strC k q v1 (a - b) 0 false f1) (As := []) (ci := 3) ⟨hx, hb, hml, hown, hts⟩ hOK hz hS hA hP hD (mtX3_wrongR l D k Z hOK hTh ard s1) (kX3_wrong hts q1113 rfl rfl ⟨Nat.le_of_ble_eq_true rfl, Nat.le_of_ble_eq_true rfl⟩) 0 rfl rfl rfl hl.1 rfl (lv_room (Nat.le_of_ble_eq_true rfl)) ⟨(by simp only [rP, rLs, prc, rdO]; omega), (by simp only [rP, rLs, prc, rdO]; omega)⟩ dX1_lawLine_33 (fun r_ w_ H locs hq hP hD hS => ?_)
    obtain ⟨qw_, rfl, rfl⟩ := hq
    obtain ⟨ce_, hce_, hcv_, hcl_⟩ := zWr hK hP 3 rfl
    refine vx_athrow hx hb dX1_lawLine_36 ?_
    have hP := hP.sub (ws' := ((cH k ah aw adr aim ard asc ath awl alo atr sh) ++ (cR k ard s1))) [0, 1, 2] rfl
    have hD := hD.sub (ws' := ((cH k ah aw adr aim ard asc ath awl alo atr sh) ++ (cR k ard s1))) [0, 1, 2] (by decide) rfl
    exact zout hnoh hlocks hce_ hcv_ hcl_ hP hD hS ⟨_, rfl, rfl⟩ (by simp only [prc, rdO]; omega) (by simp only [prc, rdO]; omega)
