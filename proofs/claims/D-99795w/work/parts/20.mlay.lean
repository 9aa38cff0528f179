/-! ===== THE REFERENCE'S CELLS (by program) ===== -/
set_option maxRecDepth 100000
abbrev aM : Nat := 264
abbrev aTape : Nat := 265
abbrev aText : Nat := 266
abbrev aPeople : Nat := 267
abbrev aSacks : Nat := 268
abbrev aThings : Nat := 269
abbrev aUnits : Nat := 270
abbrev aSneeze : Nat := 271
abbrev aDraw : Nat := 272
abbrev aTold : Nat := 273
abbrev aShy : Nat := 274
abbrev aFrom : Nat := 275
abbrev aWhom : Nat := 276
abbrev aHot : Nat := 277
abbrev aInSack : Nat := 278
abbrev aRuleFrom : Nat := 279
abbrev aRuleTo : Nat := 280
abbrev aPName : Nat := 281
abbrev aSName : Nat := 282
abbrev aTName : Nat := 283
abbrev aCode : Nat := 284
abbrev aCodeNumber : Nat := 285
abbrev aEWhat : Nat := 286
abbrev aESign : Nat := 287
abbrev aPile : Nat := 288
abbrev aAll : Nat := 289
abbrev aWas : Nat := 290
abbrev aKept : Nat := 291
abbrev aLaidRow : Nat := 292
abbrev aFeasts : Nat := 293
abbrev aManyBy : Nat := 294
abbrev aSSack : Nat := 295
abbrev aSMany : Nat := 296
abbrev aSIs : Nat := 297
abbrev aSTold : Nat := 298
abbrev aSUntold : Nat := 299
abbrev aParts : Nat := 300
abbrev aByMany : Nat := 301
abbrev aBoxAll : Nat := 302
abbrev aIsBoxed : Nat := 303
def mAd : Nat → Nat := fun k => match k with
  | 0 => 265
  | 1 => 266
  | 11 => 267
  | 12 => 268
  | 13 => 269
  | 14 => 270
  | 15 => 271
  | 16 => 272
  | 17 => 273
  | 18 => 274
  | 19 => 275
  | 20 => 276
  | 21 => 277
  | 22 => 278
  | 23 => 279
  | 24 => 280
  | 25 => 281
  | 26 => 282
  | 27 => 283
  | 28 => 284
  | 29 => 285
  | 30 => 286
  | 31 => 287
  | 32 => 288
  | 42 => 289
  | 45 => 290
  | 48 => 291
  | 49 => 292
  | 51 => 293
  | 52 => 294
  | 53 => 295
  | 54 => 296
  | 55 => 297
  | 56 => 298
  | 57 => 299
  | 58 => 300
  | 59 => 301
  | 63 => 302
  | 64 => 303
  | _ => 0
def mKd : Nat → Nat := fun k => match k with
  | 0 => 101
  | 1 => 101
  | 11 => 100
  | 12 => 100
  | 13 => 100
  | 14 => 100
  | 15 => 100
  | 16 => 100
  | 17 => 100
  | 18 => 100
  | 19 => 100
  | 20 => 100
  | 21 => 100
  | 22 => 100
  | 23 => 100
  | 24 => 100
  | 25 => 103
  | 26 => 103
  | 27 => 103
  | 28 => 100
  | 29 => 100
  | 30 => 100
  | 31 => 100
  | 32 => 100
  | 42 => 100
  | 45 => 100
  | 48 => 100
  | 49 => 100
  | 51 => 100
  | 52 => 100
  | 53 => 100
  | 54 => 100
  | 55 => 100
  | 56 => 100
  | 57 => 100
  | 58 => 100
  | 59 => 100
  | 63 => 100
  | 64 => 102
  | _ => 0
def mLn : Nat → Nat := fun k => match k with
  | 0 => 1620
  | 1 => 1600
  | 11 => 2
  | 12 => 2
  | 13 => 2
  | 14 => 2
  | 15 => 2
  | 16 => 2
  | 17 => 2
  | 18 => 12
  | 19 => 20
  | 20 => 20
  | 21 => 20
  | 22 => 20
  | 23 => 2
  | 24 => 2
  | 25 => 12
  | 26 => 10
  | 27 => 20
  | 28 => 1120
  | 29 => 1120
  | 30 => 90
  | 31 => 90
  | 32 => 60
  | 42 => 19
  | 45 => 779
  | 48 => 19
  | 49 => 6
  | 51 => 8
  | 52 => 180
  | 53 => 30
  | 54 => 30
  | 55 => 30
  | 56 => 30
  | 57 => 30
  | 58 => 12
  | 59 => 11
  | 63 => 57
  | 64 => 3
  | _ => 0
/-- the reference's object and arrays stand where they were made -/
def MLay (h : ev_H) : Prop := hK h aM = 5 ∧ ∀ k, k < 65 → mAd k ≠ 0 → hR h aM k = mAd k ∧ hK h (mAd k) = mKd k ∧ hL h (mAd k) = mLn k
theorem MLay.sI {h : ev_H} (hm : MLay h) (a k : Nat) (v : Int32) : MLay (sI h a k v) := hm
theorem MLay.sJ {h : ev_H} (hm : MLay h) (a k : Nat) (v : Int64) : MLay (sJ h a k v) := hm
theorem l_tape {h : ev_H} (hm : MLay h) : hR h aM 0 = aTape ∧ hK h aTape = 101 ∧ hL h aTape = 1620 := hm.2 0 (by decide) (by decide)
theorem l_text {h : ev_H} (hm : MLay h) : hR h aM 1 = aText ∧ hK h aText = 101 ∧ hL h aText = 1600 := hm.2 1 (by decide) (by decide)
theorem l_people {h : ev_H} (hm : MLay h) : hR h aM 11 = aPeople ∧ hK h aPeople = 100 ∧ hL h aPeople = 2 := hm.2 11 (by decide) (by decide)
theorem l_sacks {h : ev_H} (hm : MLay h) : hR h aM 12 = aSacks ∧ hK h aSacks = 100 ∧ hL h aSacks = 2 := hm.2 12 (by decide) (by decide)
theorem l_things {h : ev_H} (hm : MLay h) : hR h aM 13 = aThings ∧ hK h aThings = 100 ∧ hL h aThings = 2 := hm.2 13 (by decide) (by decide)
theorem l_units {h : ev_H} (hm : MLay h) : hR h aM 14 = aUnits ∧ hK h aUnits = 100 ∧ hL h aUnits = 2 := hm.2 14 (by decide) (by decide)
theorem l_sneeze {h : ev_H} (hm : MLay h) : hR h aM 15 = aSneeze ∧ hK h aSneeze = 100 ∧ hL h aSneeze = 2 := hm.2 15 (by decide) (by decide)
theorem l_draw {h : ev_H} (hm : MLay h) : hR h aM 16 = aDraw ∧ hK h aDraw = 100 ∧ hL h aDraw = 2 := hm.2 16 (by decide) (by decide)
theorem l_told {h : ev_H} (hm : MLay h) : hR h aM 17 = aTold ∧ hK h aTold = 100 ∧ hL h aTold = 2 := hm.2 17 (by decide) (by decide)
theorem l_shy {h : ev_H} (hm : MLay h) : hR h aM 18 = aShy ∧ hK h aShy = 100 ∧ hL h aShy = 12 := hm.2 18 (by decide) (by decide)
theorem l_from {h : ev_H} (hm : MLay h) : hR h aM 19 = aFrom ∧ hK h aFrom = 100 ∧ hL h aFrom = 20 := hm.2 19 (by decide) (by decide)
theorem l_whom {h : ev_H} (hm : MLay h) : hR h aM 20 = aWhom ∧ hK h aWhom = 100 ∧ hL h aWhom = 20 := hm.2 20 (by decide) (by decide)
theorem l_hot {h : ev_H} (hm : MLay h) : hR h aM 21 = aHot ∧ hK h aHot = 100 ∧ hL h aHot = 20 := hm.2 21 (by decide) (by decide)
theorem l_inSack {h : ev_H} (hm : MLay h) : hR h aM 22 = aInSack ∧ hK h aInSack = 100 ∧ hL h aInSack = 20 := hm.2 22 (by decide) (by decide)
theorem l_ruleFrom {h : ev_H} (hm : MLay h) : hR h aM 23 = aRuleFrom ∧ hK h aRuleFrom = 100 ∧ hL h aRuleFrom = 2 := hm.2 23 (by decide) (by decide)
theorem l_ruleTo {h : ev_H} (hm : MLay h) : hR h aM 24 = aRuleTo ∧ hK h aRuleTo = 100 ∧ hL h aRuleTo = 2 := hm.2 24 (by decide) (by decide)
theorem l_pName {h : ev_H} (hm : MLay h) : hR h aM 25 = aPName ∧ hK h aPName = 103 ∧ hL h aPName = 12 := hm.2 25 (by decide) (by decide)
theorem l_sName {h : ev_H} (hm : MLay h) : hR h aM 26 = aSName ∧ hK h aSName = 103 ∧ hL h aSName = 10 := hm.2 26 (by decide) (by decide)
theorem l_tName {h : ev_H} (hm : MLay h) : hR h aM 27 = aTName ∧ hK h aTName = 103 ∧ hL h aTName = 20 := hm.2 27 (by decide) (by decide)
theorem l_code {h : ev_H} (hm : MLay h) : hR h aM 28 = aCode ∧ hK h aCode = 100 ∧ hL h aCode = 1120 := hm.2 28 (by decide) (by decide)
theorem l_codeNumber {h : ev_H} (hm : MLay h) : hR h aM 29 = aCodeNumber ∧ hK h aCodeNumber = 100 ∧ hL h aCodeNumber = 1120 := hm.2 29 (by decide) (by decide)
theorem l_eWhat {h : ev_H} (hm : MLay h) : hR h aM 30 = aEWhat ∧ hK h aEWhat = 100 ∧ hL h aEWhat = 90 := hm.2 30 (by decide) (by decide)
theorem l_eSign {h : ev_H} (hm : MLay h) : hR h aM 31 = aESign ∧ hK h aESign = 100 ∧ hL h aESign = 90 := hm.2 31 (by decide) (by decide)
theorem l_pile {h : ev_H} (hm : MLay h) : hR h aM 32 = aPile ∧ hK h aPile = 100 ∧ hL h aPile = 60 := hm.2 32 (by decide) (by decide)
theorem l_all {h : ev_H} (hm : MLay h) : hR h aM 42 = aAll ∧ hK h aAll = 100 ∧ hL h aAll = 19 := hm.2 42 (by decide) (by decide)
theorem l_was {h : ev_H} (hm : MLay h) : hR h aM 45 = aWas ∧ hK h aWas = 100 ∧ hL h aWas = 779 := hm.2 45 (by decide) (by decide)
theorem l_kept {h : ev_H} (hm : MLay h) : hR h aM 48 = aKept ∧ hK h aKept = 100 ∧ hL h aKept = 19 := hm.2 48 (by decide) (by decide)
theorem l_laidRow {h : ev_H} (hm : MLay h) : hR h aM 49 = aLaidRow ∧ hK h aLaidRow = 100 ∧ hL h aLaidRow = 6 := hm.2 49 (by decide) (by decide)
theorem l_feasts {h : ev_H} (hm : MLay h) : hR h aM 51 = aFeasts ∧ hK h aFeasts = 100 ∧ hL h aFeasts = 8 := hm.2 51 (by decide) (by decide)
theorem l_manyBy {h : ev_H} (hm : MLay h) : hR h aM 52 = aManyBy ∧ hK h aManyBy = 100 ∧ hL h aManyBy = 180 := hm.2 52 (by decide) (by decide)
theorem l_sSack {h : ev_H} (hm : MLay h) : hR h aM 53 = aSSack ∧ hK h aSSack = 100 ∧ hL h aSSack = 30 := hm.2 53 (by decide) (by decide)
theorem l_sMany {h : ev_H} (hm : MLay h) : hR h aM 54 = aSMany ∧ hK h aSMany = 100 ∧ hL h aSMany = 30 := hm.2 54 (by decide) (by decide)
theorem l_sIs {h : ev_H} (hm : MLay h) : hR h aM 55 = aSIs ∧ hK h aSIs = 100 ∧ hL h aSIs = 30 := hm.2 55 (by decide) (by decide)
theorem l_sTold {h : ev_H} (hm : MLay h) : hR h aM 56 = aSTold ∧ hK h aSTold = 100 ∧ hL h aSTold = 30 := hm.2 56 (by decide) (by decide)
theorem l_sUntold {h : ev_H} (hm : MLay h) : hR h aM 57 = aSUntold ∧ hK h aSUntold = 100 ∧ hL h aSUntold = 30 := hm.2 57 (by decide) (by decide)
theorem l_parts {h : ev_H} (hm : MLay h) : hR h aM 58 = aParts ∧ hK h aParts = 100 ∧ hL h aParts = 12 := hm.2 58 (by decide) (by decide)
theorem l_byMany {h : ev_H} (hm : MLay h) : hR h aM 59 = aByMany ∧ hK h aByMany = 100 ∧ hL h aByMany = 11 := hm.2 59 (by decide) (by decide)
theorem l_boxAll {h : ev_H} (hm : MLay h) : hR h aM 63 = aBoxAll ∧ hK h aBoxAll = 100 ∧ hL h aBoxAll = 57 := hm.2 63 (by decide) (by decide)
theorem l_isBoxed {h : ev_H} (hm : MLay h) : hR h aM 64 = aIsBoxed ∧ hK h aIsBoxed = 102 ∧ hL h aIsBoxed = 3 := hm.2 64 (by decide) (by decide)
