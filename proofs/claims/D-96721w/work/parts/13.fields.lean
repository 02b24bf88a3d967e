/-! the fields of the worlds (printed by prog/extract.py) -/
theorem gk_0 : gck [21] 0 100 "LeftIsAgreedOn$Island" "ponds" "[I" true = true := by decide +kernel
theorem gk_0f : fck [21] 0 true = true := by decide +kernel
theorem gk_1 : gck [21] 1 101 "LeftIsAgreedOn$Island" "voter" "[LLeftIsAgreedOn$Voter;" true = true := by decide +kernel
theorem gk_1f : fck [21] 1 true = true := by decide +kernel
theorem gk_2 : gck [21] 2 102 "LeftIsAgreedOn$Island" "cell" "[I" true = true := by decide +kernel
theorem gk_2f : fck [21] 2 true = true := by decide +kernel
theorem gk_3 : gck [21] 3 103 "LeftIsAgreedOn$Island" "faces" "[I" true = true := by decide +kernel
theorem gk_3f : fck [21] 3 true = true := by decide +kernel
theorem gk_4 : gck [21] 4 104 "LeftIsAgreedOn$Island" "wants" "[I" true = true := by decide +kernel
theorem gk_4f : fck [21] 4 true = true := by decide +kernel
theorem gk_5 : gck [21] 5 105 "LeftIsAgreedOn$Island" "told" "[I" true = true := by decide +kernel
theorem gk_5f : fck [21] 5 true = true := by decide +kernel
theorem gk_6 : gck [21] 6 106 "LeftIsAgreedOn$Island" "side" "I" false = true := by decide +kernel
theorem gk_6f : fck [21] 6 false = true := by decide +kernel
theorem gk_7 : gck [21] 10 110 "LeftIsAgreedOn$Island" "seed" "I" false = true := by decide +kernel
theorem gk_7f : fck [21] 10 false = true := by decide +kernel
theorem gk_8 : gck [20] 0 0 "LeftIsAgreedOn" "now" "LLeftIsAgreedOn$Island;" true = true := by decide +kernel
theorem gk_8f : fck [20] 0 false = true := by decide +kernel
theorem gk_9 : gck [20] 2 2 "LeftIsAgreedOn" "walk" "LLeftIsAgreedOn$Walk;" true = true := by decide +kernel
theorem gk_9f : fck [20] 2 true = true := by decide +kernel
theorem gk_10 : gck [20] 3 3 "LeftIsAgreedOn" "also" "LLeftIsAgreedOn$Walk;" true = true := by decide +kernel
theorem gk_10f : fck [20] 3 true = true := by decide +kernel
theorem gk_11 : gck [20] 4 4 "LeftIsAgreedOn" "one" "[LLeftIsAgreedOn$Walk;" true = true := by decide +kernel
theorem gk_11f : fck [20] 4 true = true := by decide +kernel
theorem gk_12 : gck [20] 5 5 "LeftIsAgreedOn" "two" "[LLeftIsAgreedOn$Walk;" true = true := by decide +kernel
theorem gk_12f : fck [20] 5 true = true := by decide +kernel
theorem gk_13 : gck [20] 6 6 "LeftIsAgreedOn" "row" "[I" true = true := by decide +kernel
theorem gk_13f : fck [20] 6 true = true := by decide +kernel
theorem gk_14 : gck [20] 7 7 "LeftIsAgreedOn" "many" "[I" true = true := by decide +kernel
theorem gk_14f : fck [20] 7 true = true := by decide +kernel
theorem gk_15 : gck [20] 8 8 "LeftIsAgreedOn" "shelves" "[LLeftIsAgreedOn$Sheet;" true = true := by decide +kernel
theorem gk_15f : fck [20] 8 true = true := by decide +kernel
theorem gk_16 : gck [20] 9 9 "LeftIsAgreedOn" "tape" "[I" true = true := by decide +kernel
theorem gk_16f : fck [20] 9 true = true := by decide +kernel
theorem gk_17 : gck [20] 11 11 "LeftIsAgreedOn" "refused" "[I" true = true := by decide +kernel
theorem gk_17f : fck [20] 11 true = true := by decide +kernel
theorem gk_18 : gck [23] 0 300 "LeftIsAgreedOn$Sheet" "held" "Ljava/lang/Object;" true = true := by decide +kernel
theorem gk_18f : fck [23] 0 false = true := by decide +kernel
theorem gk_19 : gck [25, 33] 0 500 "java/lang/Throwable" "cause" "Ljava/lang/Throwable;" true = true := by decide +kernel
theorem gk_19f : fck [25, 33] 0 false = true := by decide +kernel
theorem gk_20 : gck [25, 33] 1 501 "java/lang/Throwable" "stackTrace" "[Ljava/lang/StackTraceElement;" true = true := by decide +kernel
theorem gk_20f : fck [25, 33] 1 false = true := by decide +kernel
theorem gk_21 : gck [25, 33] 2 502 "java/lang/Throwable" "suppressedExceptions" "Ljava/util/List;" true = true := by decide +kernel
theorem gk_21f : fck [25, 33] 2 false = true := by decide +kernel
theorem gk_22 : gck [25, 33] 3 503 "java/lang/Throwable" "detailMessage" "Ljava/lang/String;" true = true := by decide +kernel
theorem gk_22f : fck [25, 33] 3 false = true := by decide +kernel
theorem gk_23 : gck [25] 6 506 "LeftIsAgreedOn$Refused" "by" "I" false = true := by decide +kernel
theorem gk_23f : fck [25] 6 true = true := by decide +kernel
theorem gk_24 : gck [26, 27, 28, 29, 30, 31] 0 600 "LeftIsAgreedOn$Voter" "number" "I" false = true := by decide +kernel
theorem gk_24f : fck [26, 27, 28, 29, 30, 31] 0 true = true := by decide +kernel
theorem gk_25 : gck [21] 7 107 "LeftIsAgreedOn$Island" "people" "I" false = true := by decide +kernel
theorem gk_25f : fck [21] 7 false = true := by decide +kernel
theorem gk_26 : gck [22] 0 200 "LeftIsAgreedOn$Walk" "cell" "I" false = true := by decide +kernel
theorem gk_26f : fck [22] 0 false = true := by decide +kernel
theorem gk_27 : gck [22] 7 207 "LeftIsAgreedOn$Walk" "was" "I" false = true := by decide +kernel
theorem gk_27f : fck [22] 7 false = true := by decide +kernel
theorem gk_28 : gck [22] 1 201 "LeftIsAgreedOn$Walk" "faces" "I" false = true := by decide +kernel
theorem gk_28f : fck [22] 1 false = true := by decide +kernel
theorem gk_29 : gck [22] 2 202 "LeftIsAgreedOn$Walk" "turns" "I" false = true := by decide +kernel
theorem gk_29f : fck [22] 2 false = true := by decide +kernel
theorem gk_30 : gck [22] 3 203 "LeftIsAgreedOn$Walk" "latest" "I" false = true := by decide +kernel
theorem gk_30f : fck [22] 3 false = true := by decide +kernel
theorem gk_31 : gck [22] 4 204 "LeftIsAgreedOn$Walk" "by" "I" false = true := by decide +kernel
theorem gk_31f : fck [22] 4 false = true := by decide +kernel
theorem gk_32 : gck [22] 5 205 "LeftIsAgreedOn$Walk" "signs" "I" false = true := by decide +kernel
theorem gk_32f : fck [22] 5 false = true := by decide +kernel
theorem gk_33 : gck [22] 6 206 "LeftIsAgreedOn$Walk" "fell" "I" false = true := by decide +kernel
theorem gk_33f : fck [22] 6 false = true := by decide +kernel
theorem gk_34 : gck [29] 0 600 "LeftIsAgreedOn$Voter" "number" "I" false = true := by decide +kernel
theorem gk_34f : fck [29] 0 true = true := by decide +kernel
theorem gk_35 : gck [26, 27, 28, 29, 30, 31] 1 601 "LeftIsAgreedOn$Voter" "a" "I" false = true := by decide +kernel
theorem gk_35f : fck [26, 27, 28, 29, 30, 31] 1 true = true := by decide +kernel
theorem gk_36 : gck [20] 10 10 "LeftIsAgreedOn" "size" "I" false = true := by decide +kernel
theorem gk_36f : fck [20] 10 false = true := by decide +kernel
theorem gk_37 : gck [21] 8 108 "LeftIsAgreedOn$Island" "years" "I" false = true := by decide +kernel
theorem gk_37f : fck [21] 8 false = true := by decide +kernel
theorem gk_38 : gck [21] 9 109 "LeftIsAgreedOn$Island" "fallen" "I" false = true := by decide +kernel
theorem gk_38f : fck [21] 9 false = true := by decide +kernel
theorem gk_39 : gck [32] 0 1200 "LeftIsAgreedOn$Reader" "tape" "[I" true = true := by decide +kernel
theorem gk_39f : fck [32] 0 true = true := by decide +kernel
theorem gk_40 : gck [32] 1 1201 "LeftIsAgreedOn$Reader" "size" "I" false = true := by decide +kernel
theorem gk_40f : fck [32] 1 true = true := by decide +kernel
theorem gk_41 : gck [32] 2 1202 "LeftIsAgreedOn$Reader" "island" "LLeftIsAgreedOn$Island;" true = true := by decide +kernel
theorem gk_41f : fck [32] 2 true = true := by decide +kernel
theorem gk_42 : gck [32] 3 1203 "LeftIsAgreedOn$Reader" "at" "I" false = true := by decide +kernel
theorem gk_42f : fck [32] 3 false = true := by decide +kernel
theorem gk_43 : gck [32] 4 1204 "LeftIsAgreedOn$Reader" "from" "I" false = true := by decide +kernel
theorem gk_43f : fck [32] 4 false = true := by decide +kernel
theorem gk_44 : gck [32] 5 1205 "LeftIsAgreedOn$Reader" "word" "Ljava/lang/String;" true = true := by decide +kernel
theorem gk_44f : fck [32] 5 false = true := by decide +kernel
theorem gk_45 : gck [32] 6 1206 "LeftIsAgreedOn$Reader" "number" "I" false = true := by decide +kernel
theorem gk_45f : fck [32] 6 false = true := by decide +kernel
theorem gk_46 : gck [35] 0 1500 "java/lang/AbstractStringBuilder" "value" "[B" true = true := by decide +kernel
theorem gk_46f : fck [35] 0 false = true := by decide +kernel
theorem gk_47 : gck [35] 1 1501 "java/lang/AbstractStringBuilder" "coder" "B" false = true := by decide +kernel
theorem gk_47f : fck [35] 1 false = true := by decide +kernel
theorem gk_48 : gck [35] 3 1503 "java/lang/AbstractStringBuilder" "count" "I" false = true := by decide +kernel
theorem gk_48f : fck [35] 3 false = true := by decide +kernel
theorem gk_49 : gck [34] 1 1401 "java/lang/String" "coder" "B" false = true := by decide +kernel
theorem gk_49f : fck [34] 1 true = true := by decide +kernel
theorem gk_50 : gck [34] 0 1400 "java/lang/String" "value" "[B" true = true := by decide +kernel
theorem gk_50f : fck [34] 0 true = true := by decide +kernel
theorem gk_51 : gck [34] 2 1402 "java/lang/String" "hash" "I" false = true := by decide +kernel
theorem gk_51f : fck [34] 2 false = true := by decide +kernel
theorem gk_52 : gck [34] 3 1403 "java/lang/String" "hashIsZero" "Z" false = true := by decide +kernel
theorem gk_52f : fck [34] 3 false = true := by decide +kernel
theorem gk_53 : gck [33] 6 506 "LeftIsAgreedOn$Fault" "place" "I" false = true := by decide +kernel
theorem gk_53f : fck [33] 6 true = true := by decide +kernel
theorem gk_54 : gck [20] 1 1 "LeftIsAgreedOn" "image" "LLeftIsAgreedOn$Island;" true = true := by decide +kernel
theorem gk_54f : fck [20] 1 false = true := by decide +kernel
theorem gk_55 : gck [24] 0 400 "LeftIsAgreedOnModel" "refused" "[I" true = true := by decide +kernel
theorem gk_55f : fck [24] 0 true = true := by decide +kernel
theorem gk_56 : gck [24] 1 401 "LeftIsAgreedOnModel" "now" "[I" true = true := by decide +kernel
theorem gk_56f : fck [24] 1 true = true := by decide +kernel
theorem gk_57 : gck [24] 2 402 "LeftIsAgreedOnModel" "kept" "[I" true = true := by decide +kernel
theorem gk_57f : fck [24] 2 true = true := by decide +kernel
theorem gk_58 : gck [24] 3 403 "LeftIsAgreedOnModel" "mind" "[I" true = true := by decide +kernel
theorem gk_58f : fck [24] 3 true = true := by decide +kernel
theorem gk_59 : gck [24] 5 405 "LeftIsAgreedOnModel" "tape" "[I" true = true := by decide +kernel
theorem gk_59f : fck [24] 5 true = true := by decide +kernel
theorem gk_60 : gck [24] 10 410 "LeftIsAgreedOnModel" "words" "[C" true = true := by decide +kernel
theorem gk_60f : fck [24] 10 true = true := by decide +kernel
theorem gk_61 : gck [24] 11 411 "LeftIsAgreedOnModel" "wCell" "[I" true = true := by decide +kernel
theorem gk_61f : fck [24] 11 true = true := by decide +kernel
theorem gk_62 : gck [24] 12 412 "LeftIsAgreedOnModel" "wFaces" "[I" true = true := by decide +kernel
theorem gk_62f : fck [24] 12 true = true := by decide +kernel
theorem gk_63 : gck [24] 13 413 "LeftIsAgreedOnModel" "wTurns" "[I" true = true := by decide +kernel
theorem gk_63f : fck [24] 13 true = true := by decide +kernel
theorem gk_64 : gck [24] 14 414 "LeftIsAgreedOnModel" "wSign" "[I" true = true := by decide +kernel
theorem gk_64f : fck [24] 14 true = true := by decide +kernel
theorem gk_65 : gck [24] 15 415 "LeftIsAgreedOnModel" "wBy" "[I" true = true := by decide +kernel
theorem gk_65f : fck [24] 15 true = true := by decide +kernel
theorem gk_66 : gck [24] 16 416 "LeftIsAgreedOnModel" "wFell" "[I" true = true := by decide +kernel
theorem gk_66f : fck [24] 16 true = true := by decide +kernel
theorem gk_67 : gck [24] 18 418 "LeftIsAgreedOnModel" "telling" "[I" true = true := by decide +kernel
theorem gk_67f : fck [24] 18 true = true := by decide +kernel
theorem gk_68 : gck [24] 19 419 "LeftIsAgreedOnModel" "holds" "[I" true = true := by decide +kernel
theorem gk_68f : fck [24] 19 true = true := by decide +kernel
theorem gk_69 : gck [24] 20 420 "LeftIsAgreedOnModel" "sizes" "[I" true = true := by decide +kernel
theorem gk_69f : fck [24] 20 true = true := by decide +kernel
theorem gk_70 : gck [24] 21 421 "LeftIsAgreedOnModel" "elements" "[J" true = true := by decide +kernel
theorem gk_70f : fck [24] 21 true = true := by decide +kernel
theorem gk_71 : gck [24] 22 422 "LeftIsAgreedOnModel" "moved" "[J" true = true := by decide +kernel
theorem gk_71f : fck [24] 22 true = true := by decide +kernel
theorem gk_72 : gck [24] 23 423 "LeftIsAgreedOnModel" "above" "[I" true = true := by decide +kernel
theorem gk_72f : fck [24] 23 true = true := by decide +kernel
theorem gk_73 : gck [24] 24 424 "LeftIsAgreedOnModel" "out" "[I" true = true := by decide +kernel
theorem gk_73f : fck [24] 24 true = true := by decide +kernel
theorem gk_74 : gck [24] 25 425 "LeftIsAgreedOnModel" "first" "[I" true = true := by decide +kernel
theorem gk_74f : fck [24] 25 true = true := by decide +kernel
theorem gk_75 : gck [24] 6 406 "LeftIsAgreedOnModel" "size" "I" false = true := by decide +kernel
theorem gk_75f : fck [24] 6 false = true := by decide +kernel
theorem gk_76 : gck [24] 7 407 "LeftIsAgreedOnModel" "at" "I" false = true := by decide +kernel
theorem gk_76f : fck [24] 7 false = true := by decide +kernel
theorem gk_77 : gck [24] 8 408 "LeftIsAgreedOnModel" "from" "I" false = true := by decide +kernel
theorem gk_77f : fck [24] 8 false = true := by decide +kernel
theorem gk_78 : gck [24] 9 409 "LeftIsAgreedOnModel" "sort" "I" false = true := by decide +kernel
theorem gk_78f : fck [24] 9 false = true := by decide +kernel
theorem gk_79 : gck [24] 17 417 "LeftIsAgreedOnModel" "dry" "I" false = true := by decide +kernel
theorem gk_79f : fck [24] 17 false = true := by decide +kernel
theorem gk_80 : gck [24] 4 404 "LeftIsAgreedOnModel" "isKept" "Z" false = true := by decide +kernel
theorem gk_80f : fck [24] 4 false = true := by decide +kernel
