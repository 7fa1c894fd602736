/-! WHAT A SPEC MAY THROW IS CAUGHT (printed by gen/codes.py) -/
set_option maxRecDepth 100000
theorem xcd_May (S : xS) (machine on : Int32) : xMayLook S machine on = 0 ∨ xMayLook S machine on = 4 ∨ xMayLook S machine on = 1 := by
  unfold xMayLook
  repeat' split
  all_goals simp
theorem xcd_Start (S : xS) (machine on minutes work : Int32) : xMayStart S machine on minutes work = 0 ∨ xMayStart S machine on minutes work = 4 ∨ xMayStart S machine on minutes work = 1 := by
  unfold xMayStart
  repeat' split
  all_goals first | simp | (have h9 := xcd_May S machine on; omega)
theorem xcd_Ask (S : xS) (member machine on start minutes work : Int32) : xMayAsk S member machine on start minutes work = 0 ∨ xMayAsk S member machine on start minutes work = 4 ∨ xMayAsk S member machine on start minutes work = 1 := by
  unfold xMayAsk
  repeat' split
  all_goals first | simp | (have h9 := xcd_Start S machine on minutes work; omega) | (have h9 := xcd_May S machine on; omega)
theorem xcd_Add (S : xS) (kind v mx : Int32) : xMayAdd S kind v mx = 0 ∨ xMayAdd S kind v mx = 1 ∨ xMayAdd S kind v mx = 2 := by
  unfold xMayAdd
  repeat' split
  all_goals simp
theorem xcd_addMachine (S : xS) (kind setup : Int32) : (xAddMachine S kind setup).1 = 0 ∨ (xAddMachine S kind setup).1 = 1 ∨ (xAddMachine S kind setup).1 = 2 := by
  unfold xAddMachine
  repeat' split
  all_goals first | (simp; done) | (simp_all; done) | (have h9 := xcd_May S machine on; omega) | (have h9 := xcd_Start S machine on minutes work; omega) | (have h9 := xcd_Ask S member machine on start minutes work; omega) | (have h9 := xcd_Add S kind v 999; omega) | (have h9 := xcd_Add S kind v 9999; omega) | (have h9 := xcd_Add S kind v 240; omega) | (have h9 := xcd_Add S kind v 100; omega) | skip
theorem xcd_addMember (S : xS)  : (xAddMember S).1 = 0 ∨ (xAddMember S).1 = 2 := by
  unfold xAddMember
  repeat' split
  all_goals first | (simp; done) | (simp_all; done) | (have h9 := xcd_May S machine on; omega) | (have h9 := xcd_Start S machine on minutes work; omega) | (have h9 := xcd_Ask S member machine on start minutes work; omega) | (have h9 := xcd_Add S kind v 999; omega) | (have h9 := xcd_Add S kind v 9999; omega) | (have h9 := xcd_Add S kind v 240; omega) | (have h9 := xcd_Add S kind v 100; omega) | skip
theorem xcd_addNeed (S : xS) (kind other : Int32) : (xAddNeed S kind other).1 = 0 ∨ (xAddNeed S kind other).1 = 1 ∨ (xAddNeed S kind other).1 = 2 := by
  unfold xAddNeed
  repeat' split
  all_goals first | (simp; done) | (simp_all; done) | (have h9 := xcd_May S machine on; omega) | (have h9 := xcd_Start S machine on minutes work; omega) | (have h9 := xcd_Ask S member machine on start minutes work; omega) | (have h9 := xcd_Add S kind v 999; omega) | (have h9 := xcd_Add S kind v 9999; omega) | (have h9 := xcd_Add S kind v 240; omega) | (have h9 := xcd_Add S kind v 100; omega) | skip
theorem xcd_induct (S : xS) (member kind : Int32) : (xInduct S member kind).1 = 0 ∨ (xInduct S member kind).1 = 4 ∨ (xInduct S member kind).1 = 1 ∨ (xInduct S member kind).1 = 5 := by
  unfold xInduct
  repeat' split
  all_goals first | (simp; done) | (simp_all; done) | (have h9 := xcd_May S machine on; omega) | (have h9 := xcd_Start S machine on minutes work; omega) | (have h9 := xcd_Ask S member machine on start minutes work; omega) | (have h9 := xcd_Add S kind v 999; omega) | (have h9 := xcd_Add S kind v 9999; omega) | (have h9 := xcd_Add S kind v 240; omega) | (have h9 := xcd_Add S kind v 100; omega) | skip
theorem xcd_isLive (S : xS) (member kind on : Int32) : (xIsLive S member kind on).1 = 0 ∨ (xIsLive S member kind on).1 = 4 ∨ (xIsLive S member kind on).1 = 1 := by
  unfold xIsLive
  repeat' split
  all_goals first | (simp; done) | (simp_all; done) | (have h9 := xcd_May S machine on; omega) | (have h9 := xcd_Start S machine on minutes work; omega) | (have h9 := xcd_Ask S member machine on start minutes work; omega) | (have h9 := xcd_Add S kind v 999; omega) | (have h9 := xcd_Add S kind v 9999; omega) | (have h9 := xcd_Add S kind v 240; omega) | (have h9 := xcd_Add S kind v 100; omega) | skip
theorem xcd_book (S : xS) (member machine on start minutes work : Int32) : (xBook S member machine on start minutes work).1 = 0 ∨ (xBook S member machine on start minutes work).1 = 4 ∨ (xBook S member machine on start minutes work).1 = 1 ∨ (xBook S member machine on start minutes work).1 = 5 ∨ (xBook S member machine on start minutes work).1 = 6 ∨ (xBook S member machine on start minutes work).1 = 3 ∨ (xBook S member machine on start minutes work).1 = 2 := by
  unfold xBook
  repeat' split
  all_goals first | (simp; done) | (simp_all; done) | (have h9 := xcd_May S machine on; omega) | (have h9 := xcd_Start S machine on minutes work; omega) | (have h9 := xcd_Ask S member machine on start minutes work; omega) | (have h9 := xcd_Add S kind v 999; omega) | (have h9 := xcd_Add S kind v 9999; omega) | (have h9 := xcd_Add S kind v 240; omega) | (have h9 := xcd_Add S kind v 100; omega) | skip
theorem xcd_await (S : xS) (member machine on start minutes work : Int32) : (xAwait S member machine on start minutes work).1 = 0 ∨ (xAwait S member machine on start minutes work).1 = 4 ∨ (xAwait S member machine on start minutes work).1 = 1 ∨ (xAwait S member machine on start minutes work).1 = 5 ∨ (xAwait S member machine on start minutes work).1 = 2 := by
  unfold xAwait
  repeat' split
  all_goals first | (simp; done) | (simp_all; done) | (have h9 := xcd_May S machine on; omega) | (have h9 := xcd_Start S machine on minutes work; omega) | (have h9 := xcd_Ask S member machine on start minutes work; omega) | (have h9 := xcd_Add S kind v 999; omega) | (have h9 := xcd_Add S kind v 9999; omega) | (have h9 := xcd_Add S kind v 240; omega) | (have h9 := xcd_Add S kind v 100; omega) | skip
theorem xcd_check (S : xS) (member machine on start minutes work : Int32) : (xCheck S member machine on start minutes work).1 = 0 ∨ (xCheck S member machine on start minutes work).1 = 4 ∨ (xCheck S member machine on start minutes work).1 = 1 := by
  unfold xCheck
  repeat' split
  all_goals first | (simp; done) | (simp_all; done) | (have h9 := xcd_May S machine on; omega) | (have h9 := xcd_Start S machine on minutes work; omega) | (have h9 := xcd_Ask S member machine on start minutes work; omega) | (have h9 := xcd_Add S kind v 999; omega) | (have h9 := xcd_Add S kind v 9999; omega) | (have h9 := xcd_Add S kind v 240; omega) | (have h9 := xcd_Add S kind v 100; omega) | skip
theorem xcd_cancel (S : xS) (entry : Int32) : (xCancel S entry).1 = 0 ∨ (xCancel S entry).1 = 3 ∨ (xCancel S entry).1 = 2 := by
  unfold xCancel
  repeat' split
  all_goals first | (simp; done) | (simp_all; done) | (have h9 := xcd_May S machine on; omega) | (have h9 := xcd_Start S machine on minutes work; omega) | (have h9 := xcd_Ask S member machine on start minutes work; omega) | (have h9 := xcd_Add S kind v 999; omega) | (have h9 := xcd_Add S kind v 9999; omega) | (have h9 := xcd_Add S kind v 240; omega) | (have h9 := xcd_Add S kind v 100; omega) | skip
theorem xcd_stateOf (S : xS) (entry : Int32) : (xStateOf S entry).1 = 0 ∨ (xStateOf S entry).1 = 3 := by
  unfold xStateOf
  repeat' split
  all_goals first | (simp; done) | (simp_all; done) | (have h9 := xcd_May S machine on; omega) | (have h9 := xcd_Start S machine on minutes work; omega) | (have h9 := xcd_Ask S member machine on start minutes work; omega) | (have h9 := xcd_Add S kind v 999; omega) | (have h9 := xcd_Add S kind v 9999; omega) | (have h9 := xcd_Add S kind v 240; omega) | (have h9 := xcd_Add S kind v 100; omega) | skip
theorem xcd_endDay (S : xS)  : (xEndDay S).1 = 0 ∨ (xEndDay S).1 = 2 := by
  unfold xEndDay
  repeat' split
  all_goals first | (simp; done) | (simp_all; done) | (have h9 := xcd_May S machine on; omega) | (have h9 := xcd_Start S machine on minutes work; omega) | (have h9 := xcd_Ask S member machine on start minutes work; omega) | (have h9 := xcd_Add S kind v 999; omega) | (have h9 := xcd_Add S kind v 9999; omega) | (have h9 := xcd_Add S kind v 240; omega) | (have h9 := xcd_Add S kind v 100; omega) | skip
theorem xcd_minuteAt (S : xS) (machine on minute : Int32) : (xMinuteAt S machine on minute).1 = 0 ∨ (xMinuteAt S machine on minute).1 = 4 ∨ (xMinuteAt S machine on minute).1 = 1 := by
  unfold xMinuteAt
  repeat' split
  all_goals first | (simp; done) | (simp_all; done) | (have h9 := xcd_May S machine on; omega) | (have h9 := xcd_Start S machine on minutes work; omega) | (have h9 := xcd_Ask S member machine on start minutes work; omega) | (have h9 := xcd_Add S kind v 999; omega) | (have h9 := xcd_Add S kind v 9999; omega) | (have h9 := xcd_Add S kind v 240; omega) | (have h9 := xcd_Add S kind v 100; omega) | skip
theorem xcd_usedMinutes (S : xS) (machine on : Int32) : (xUsedMinutes S machine on).1 = 0 ∨ (xUsedMinutes S machine on).1 = 4 ∨ (xUsedMinutes S machine on).1 = 1 := by
  unfold xUsedMinutes
  repeat' split
  all_goals first | (simp; done) | (simp_all; done) | (have h9 := xcd_May S machine on; omega) | (have h9 := xcd_Start S machine on minutes work; omega) | (have h9 := xcd_Ask S member machine on start minutes work; omega) | (have h9 := xcd_Add S kind v 999; omega) | (have h9 := xcd_Add S kind v 9999; omega) | (have h9 := xcd_Add S kind v 240; omega) | (have h9 := xcd_Add S kind v 100; omega) | skip
theorem xcd_usedByMinutes (S : xS) (machine on : Int32) : (xUsedByMinutes S machine on).1 = 0 ∨ (xUsedByMinutes S machine on).1 = 4 ∨ (xUsedByMinutes S machine on).1 = 1 := by
  unfold xUsedByMinutes
  repeat' split
  all_goals first | (simp; done) | (simp_all; done) | (have h9 := xcd_May S machine on; omega) | (have h9 := xcd_Start S machine on minutes work; omega) | (have h9 := xcd_Ask S member machine on start minutes work; omega) | (have h9 := xcd_Add S kind v 999; omega) | (have h9 := xcd_Add S kind v 9999; omega) | (have h9 := xcd_Add S kind v 240; omega) | (have h9 := xcd_Add S kind v 100; omega) | skip
theorem xcd_setupMinutes (S : xS) (machine on : Int32) : (xSetupMinutes S machine on).1 = 0 ∨ (xSetupMinutes S machine on).1 = 4 ∨ (xSetupMinutes S machine on).1 = 1 := by
  unfold xSetupMinutes
  repeat' split
  all_goals first | (simp; done) | (simp_all; done) | (have h9 := xcd_May S machine on; omega) | (have h9 := xcd_Start S machine on minutes work; omega) | (have h9 := xcd_Ask S member machine on start minutes work; omega) | (have h9 := xcd_Add S kind v 999; omega) | (have h9 := xcd_Add S kind v 9999; omega) | (have h9 := xcd_Add S kind v 240; omega) | (have h9 := xcd_Add S kind v 100; omega) | skip
theorem xcd_firstStart (S : xS) (machine on minutes work : Int32) : (xFirstStart S machine on minutes work).1 = 0 ∨ (xFirstStart S machine on minutes work).1 = 4 ∨ (xFirstStart S machine on minutes work).1 = 1 ∨ (xFirstStart S machine on minutes work).1 = 3 := by
  unfold xFirstStart
  repeat' split
  all_goals first | (simp; done) | (simp_all; done) | (have h9 := xcd_May S machine on; omega) | (have h9 := xcd_Start S machine on minutes work; omega) | (have h9 := xcd_Ask S member machine on start minutes work; omega) | (have h9 := xcd_Add S kind v 999; omega) | (have h9 := xcd_Add S kind v 9999; omega) | (have h9 := xcd_Add S kind v 240; omega) | (have h9 := xcd_Add S kind v 100; omega) | skip
theorem xcd_firstByMinutes (S : xS) (machine on minutes work : Int32) : (xFirstBy S machine on minutes work).1 = 0 ∨ (xFirstBy S machine on minutes work).1 = 4 ∨ (xFirstBy S machine on minutes work).1 = 1 ∨ (xFirstBy S machine on minutes work).1 = 3 := by
  unfold xFirstBy
  repeat' split
  all_goals first | (simp; done) | (simp_all; done) | (have h9 := xcd_May S machine on; omega) | (have h9 := xcd_Start S machine on minutes work; omega) | (have h9 := xcd_Ask S member machine on start minutes work; omega) | (have h9 := xcd_Add S kind v 999; omega) | (have h9 := xcd_Add S kind v 9999; omega) | (have h9 := xcd_Add S kind v 240; omega) | (have h9 := xcd_Add S kind v 100; omega) | skip
theorem xcd_waiting (S : xS) (machine on : Int32) : (xWaiting S machine on).1 = 0 ∨ (xWaiting S machine on).1 = 4 ∨ (xWaiting S machine on).1 = 1 := by
  unfold xWaiting
  repeat' split
  all_goals first | (simp; done) | (simp_all; done) | (have h9 := xcd_May S machine on; omega) | (have h9 := xcd_Start S machine on minutes work; omega) | (have h9 := xcd_Ask S member machine on start minutes work; omega) | (have h9 := xcd_Add S kind v 999; omega) | (have h9 := xcd_Add S kind v 9999; omega) | (have h9 := xcd_Add S kind v 240; omega) | (have h9 := xcd_Add S kind v 100; omega) | skip
theorem xcd_cut (S : xS) (entry material length : Int32) : (xCut S entry material length).1 = 0 ∨ (xCut S entry material length).1 = 3 ∨ (xCut S entry material length).1 = 1 ∨ (xCut S entry material length).1 = 2 ∨ (xCut S entry material length).1 = 5 := by
  unfold xCut
  repeat' split
  all_goals first | (simp; done) | (simp_all; done) | (have h9 := xcd_May S machine on; omega) | (have h9 := xcd_Start S machine on minutes work; omega) | (have h9 := xcd_Ask S member machine on start minutes work; omega) | (have h9 := xcd_Add S kind v 999; omega) | (have h9 := xcd_Add S kind v 9999; omega) | (have h9 := xcd_Add S kind v 240; omega) | (have h9 := xcd_Add S kind v 100; omega) | skip
theorem xcd_freeOf (S : xS) (bar : Int32) : (xFreeOf S bar).1 = 0 ∨ (xFreeOf S bar).1 = 3 := by
  unfold xFreeOf
  repeat' split
  all_goals first | (simp; done) | (simp_all; done) | (have h9 := xcd_May S machine on; omega) | (have h9 := xcd_Start S machine on minutes work; omega) | (have h9 := xcd_Ask S member machine on start minutes work; omega) | (have h9 := xcd_Add S kind v 999; omega) | (have h9 := xcd_Add S kind v 9999; omega) | (have h9 := xcd_Add S kind v 240; omega) | (have h9 := xcd_Add S kind v 100; omega) | skip
theorem xcd_freeByCuts (S : xS) (bar : Int32) : (xFreeCuts S bar).1 = 0 ∨ (xFreeCuts S bar).1 = 3 := by
  unfold xFreeCuts
  repeat' split
  all_goals first | (simp; done) | (simp_all; done) | (have h9 := xcd_May S machine on; omega) | (have h9 := xcd_Start S machine on minutes work; omega) | (have h9 := xcd_Ask S member machine on start minutes work; omega) | (have h9 := xcd_Add S kind v 999; omega) | (have h9 := xcd_Add S kind v 9999; omega) | (have h9 := xcd_Add S kind v 240; omega) | (have h9 := xcd_Add S kind v 100; omega) | skip
theorem xcd_setPrice (S : xS) (material price : Int32) : (xSetPrice S material price).1 = 0 ∨ (xSetPrice S material price).1 = 1 := by
  unfold xSetPrice
  repeat' split
  all_goals first | (simp; done) | (simp_all; done) | (have h9 := xcd_May S machine on; omega) | (have h9 := xcd_Start S machine on minutes work; omega) | (have h9 := xcd_Ask S member machine on start minutes work; omega) | (have h9 := xcd_Add S kind v 999; omega) | (have h9 := xcd_Add S kind v 9999; omega) | (have h9 := xcd_Add S kind v 240; omega) | (have h9 := xcd_Add S kind v 100; omega) | skip
theorem xcd_setRate (S : xS) (kind rate : Int32) : (xSetRate S kind rate).1 = 0 ∨ (xSetRate S kind rate).1 = 1 := by
  unfold xSetRate
  repeat' split
  all_goals first | (simp; done) | (simp_all; done) | (have h9 := xcd_May S machine on; omega) | (have h9 := xcd_Start S machine on minutes work; omega) | (have h9 := xcd_Ask S member machine on start minutes work; omega) | (have h9 := xcd_Add S kind v 999; omega) | (have h9 := xcd_Add S kind v 9999; omega) | (have h9 := xcd_Add S kind v 240; omega) | (have h9 := xcd_Add S kind v 100; omega) | skip
theorem xcd_addFee (S : xS) (kind v : Int32) : (xAddT 1 999 S kind v).1 = 0 ∨ (xAddT 1 999 S kind v).1 = 1 ∨ (xAddT 1 999 S kind v).1 = 2 := by
  unfold xAddT
  repeat' split
  all_goals first | (simp; done) | (simp_all; done) | (have h9 := xcd_May S machine on; omega) | (have h9 := xcd_Start S machine on minutes work; omega) | (have h9 := xcd_Ask S member machine on start minutes work; omega) | (have h9 := xcd_Add S kind v 999; omega) | (have h9 := xcd_Add S kind v 9999; omega) | (have h9 := xcd_Add S kind v 240; omega) | (have h9 := xcd_Add S kind v 100; omega) | skip
theorem xcd_addCap (S : xS) (kind v : Int32) : (xAddT 2 9999 S kind v).1 = 0 ∨ (xAddT 2 9999 S kind v).1 = 1 ∨ (xAddT 2 9999 S kind v).1 = 2 := by
  unfold xAddT
  repeat' split
  all_goals first | (simp; done) | (simp_all; done) | (have h9 := xcd_May S machine on; omega) | (have h9 := xcd_Start S machine on minutes work; omega) | (have h9 := xcd_Ask S member machine on start minutes work; omega) | (have h9 := xcd_Add S kind v 999; omega) | (have h9 := xcd_Add S kind v 9999; omega) | (have h9 := xcd_Add S kind v 240; omega) | (have h9 := xcd_Add S kind v 100; omega) | skip
theorem xcd_addDouble (S : xS) (kind v : Int32) : (xAddT 3 240 S kind v).1 = 0 ∨ (xAddT 3 240 S kind v).1 = 1 ∨ (xAddT 3 240 S kind v).1 = 2 := by
  unfold xAddT
  repeat' split
  all_goals first | (simp; done) | (simp_all; done) | (have h9 := xcd_May S machine on; omega) | (have h9 := xcd_Start S machine on minutes work; omega) | (have h9 := xcd_Ask S member machine on start minutes work; omega) | (have h9 := xcd_Add S kind v 999; omega) | (have h9 := xcd_Add S kind v 9999; omega) | (have h9 := xcd_Add S kind v 240; omega) | (have h9 := xcd_Add S kind v 100; omega) | skip
theorem xcd_addDiscount (S : xS) (kind v : Int32) : (xAddT 4 100 S kind v).1 = 0 ∨ (xAddT 4 100 S kind v).1 = 1 ∨ (xAddT 4 100 S kind v).1 = 2 := by
  unfold xAddT
  repeat' split
  all_goals first | (simp; done) | (simp_all; done) | (have h9 := xcd_May S machine on; omega) | (have h9 := xcd_Start S machine on minutes work; omega) | (have h9 := xcd_Ask S member machine on start minutes work; omega) | (have h9 := xcd_Add S kind v 999; omega) | (have h9 := xcd_Add S kind v 9999; omega) | (have h9 := xcd_Add S kind v 240; omega) | (have h9 := xcd_Add S kind v 100; omega) | skip
theorem xcd_costOf (S : xS) (kind minutes : Int32) : (xCostOf S kind minutes).1 = 0 ∨ (xCostOf S kind minutes).1 = 1 := by
  unfold xCostOf
  repeat' split
  all_goals first | (simp; done) | (simp_all; done) | (have h9 := xcd_May S machine on; omega) | (have h9 := xcd_Start S machine on minutes work; omega) | (have h9 := xcd_Ask S member machine on start minutes work; omega) | (have h9 := xcd_Add S kind v 999; omega) | (have h9 := xcd_Add S kind v 9999; omega) | (have h9 := xcd_Add S kind v 240; omega) | (have h9 := xcd_Add S kind v 100; omega) | skip
theorem xcd_breakDown (S : xS) (machine cost : Int32) : (xBreak S machine cost).1 = 0 ∨ (xBreak S machine cost).1 = 4 ∨ (xBreak S machine cost).1 = 1 ∨ (xBreak S machine cost).1 = 2 := by
  unfold xBreak
  repeat' split
  all_goals first | (simp; done) | (simp_all; done) | (have h9 := xcd_May S machine on; omega) | (have h9 := xcd_Start S machine on minutes work; omega) | (have h9 := xcd_Ask S member machine on start minutes work; omega) | (have h9 := xcd_Add S kind v 999; omega) | (have h9 := xcd_Add S kind v 9999; omega) | (have h9 := xcd_Add S kind v 240; omega) | (have h9 := xcd_Add S kind v 100; omega) | skip
theorem xcd_shareOf (S : xS) (breakage member : Int32) : (xShareOf S breakage member).1 = 0 ∨ (xShareOf S breakage member).1 = 3 ∨ (xShareOf S breakage member).1 = 4 := by
  unfold xShareOf
  repeat' split
  all_goals first | (simp; done) | (simp_all; done) | (have h9 := xcd_May S machine on; omega) | (have h9 := xcd_Start S machine on minutes work; omega) | (have h9 := xcd_Ask S member machine on start minutes work; omega) | (have h9 := xcd_Add S kind v 999; omega) | (have h9 := xcd_Add S kind v 9999; omega) | (have h9 := xcd_Add S kind v 240; omega) | (have h9 := xcd_Add S kind v 100; omega) | skip
theorem xcd_pay (S : xS) (member amount : Int32) : (xPay S member amount).1 = 0 ∨ (xPay S member amount).1 = 4 ∨ (xPay S member amount).1 = 1 ∨ (xPay S member amount).1 = 2 := by
  unfold xPay
  repeat' split
  all_goals first | (simp; done) | (simp_all; done) | (have h9 := xcd_May S machine on; omega) | (have h9 := xcd_Start S machine on minutes work; omega) | (have h9 := xcd_Ask S member machine on start minutes work; omega) | (have h9 := xcd_Add S kind v 999; omega) | (have h9 := xcd_Add S kind v 9999; omega) | (have h9 := xcd_Add S kind v 240; omega) | (have h9 := xcd_Add S kind v 100; omega) | skip
theorem xcd_owes (S : xS) (member : Int32) : (xOwes S member).1 = 0 ∨ (xOwes S member).1 = 4 := by
  unfold xOwes
  repeat' split
  all_goals first | (simp; done) | (simp_all; done) | (have h9 := xcd_May S machine on; omega) | (have h9 := xcd_Start S machine on minutes work; omega) | (have h9 := xcd_Ask S member machine on start minutes work; omega) | (have h9 := xcd_Add S kind v 999; omega) | (have h9 := xcd_Add S kind v 9999; omega) | (have h9 := xcd_Add S kind v 240; omega) | (have h9 := xcd_Add S kind v 100; omega) | skip
theorem xcd_owesByEntries (S : xS) (member : Int32) : (xOwesE S member).1 = 0 ∨ (xOwesE S member).1 = 4 := by
  unfold xOwesE
  repeat' split
  all_goals first | (simp; done) | (simp_all; done) | (have h9 := xcd_May S machine on; omega) | (have h9 := xcd_Start S machine on minutes work; omega) | (have h9 := xcd_Ask S member machine on start minutes work; omega) | (have h9 := xcd_Add S kind v 999; omega) | (have h9 := xcd_Add S kind v 9999; omega) | (have h9 := xcd_Add S kind v 240; omega) | (have h9 := xcd_Add S kind v 100; omega) | skip
theorem xcd_dueOf (S : xS) (entry : Int32) : (xDueOf S entry).1 = 0 ∨ (xDueOf S entry).1 = 3 := by
  unfold xDueOf
  repeat' split
  all_goals first | (simp; done) | (simp_all; done) | (have h9 := xcd_May S machine on; omega) | (have h9 := xcd_Start S machine on minutes work; omega) | (have h9 := xcd_Ask S member machine on start minutes work; omega) | (have h9 := xcd_Add S kind v 999; omega) | (have h9 := xcd_Add S kind v 9999; omega) | (have h9 := xcd_Add S kind v 240; omega) | (have h9 := xcd_Add S kind v 100; omega) | skip
theorem xcd_meanMinutes (S : xS)  : (xMean S).1 = 0 ∨ (xMean S).1 = 6 := by
  unfold xMean
  repeat' split
  all_goals first | (simp; done) | (simp_all; done) | (have h9 := xcd_May S machine on; omega) | (have h9 := xcd_Start S machine on minutes work; omega) | (have h9 := xcd_Ask S member machine on start minutes work; omega) | (have h9 := xcd_Add S kind v 999; omega) | (have h9 := xcd_Add S kind v 9999; omega) | (have h9 := xcd_Add S kind v 240; omega) | (have h9 := xcd_Add S kind v 100; omega) | skip
