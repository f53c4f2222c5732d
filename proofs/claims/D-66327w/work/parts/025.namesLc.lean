set_option maxRecDepth 100000
theorem dL_law_440 : decode cL_law 440 = .ok (.iload 4, 2) := by decide +kernel
theorem dL_law_442 : decode cL_law 442 = .ok (.iconst 2, 1) := by decide +kernel
theorem dL_law_443 : decode cL_law 443 = .ok (.iadd, 1) := by decide +kernel
theorem dL_law_444 : decode cL_law 444 = .ok (.iaload, 1) := by decide +kernel
theorem dL_law_445 : decode cL_law 445 = .ok (.aload_n 3, 1) := by decide +kernel
theorem dL_law_446 : decode cL_law 446 = .ok (.invokestatic 102, 3) := by decide +kernel
theorem dL_law_449 : decode cL_law 449 = .ok (.istore 5, 2) := by decide +kernel
theorem dL_law_451 : decode cL_law 451 = .ok (.aload_n 2, 1) := by decide +kernel
theorem dL_law_452 : decode cL_law 452 = .ok (.aload_n 0, 1) := by decide +kernel
theorem dL_law_453 : decode cL_law 453 = .ok (.iload 4, 2) := by decide +kernel
theorem dL_law_455 : decode cL_law 455 = .ok (.iconst 1, 1) := by decide +kernel
theorem dL_law_456 : decode cL_law 456 = .ok (.iadd, 1) := by decide +kernel
theorem dL_law_457 : decode cL_law 457 = .ok (.iaload, 1) := by decide +kernel
theorem dL_law_458 : decode cL_law 458 = .ok (.aload_n 0, 1) := by decide +kernel
theorem dL_law_459 : decode cL_law 459 = .ok (.iload 4, 2) := by decide +kernel
theorem dL_law_461 : decode cL_law 461 = .ok (.iconst 2, 1) := by decide +kernel
theorem dL_law_462 : decode cL_law 462 = .ok (.iadd, 1) := by decide +kernel
theorem dL_law_463 : decode cL_law 463 = .ok (.iaload, 1) := by decide +kernel
theorem dL_law_464 : decode cL_law 464 = .ok (.invokevirtual 105, 3) := by decide +kernel
theorem dL_law_467 : decode cL_law 467 = .ok (.istore 6, 2) := by decide +kernel
theorem dL_law_469 : decode cL_law 469 = .ok (.aload_n 2, 1) := by decide +kernel
theorem dL_law_470 : decode cL_law 470 = .ok (.invokevirtual 87, 3) := by decide +kernel
theorem dL_law_473 : decode cL_law 473 = .ok (.iload 5, 2) := by decide +kernel
theorem dL_law_475 : decode cL_law 475 = .ok (.if_icmp .eq 5, 3) := by decide +kernel
theorem dL_law_478 : decode cL_law 478 = .ok (.iconst 0, 1) := by decide +kernel
theorem dL_law_479 : decode cL_law 479 = .ok (.ireturn, 1) := by decide +kernel
theorem dL_law_480 : decode cL_law 480 = .ok (.iload 5, 2) := by decide +kernel
theorem dL_law_482 : decode cL_law 482 = .ok (.ifCond .ne 15, 3) := by decide +kernel
theorem dL_law_485 : decode cL_law 485 = .ok (.aload_n 3, 1) := by decide +kernel
theorem dL_law_486 : decode cL_law 486 = .ok (.iconst 0, 1) := by decide +kernel
theorem dL_law_487 : decode cL_law 487 = .ok (.laload, 1) := by decide +kernel
theorem dL_law_488 : decode cL_law 488 = .ok (.iload 6, 2) := by decide +kernel
theorem dL_law_490 : decode cL_law 490 = .ok (.i2l, 1) := by decide +kernel
theorem dL_law_491 : decode cL_law 491 = .ok (.lcmp, 1) := by decide +kernel
theorem dL_law_492 : decode cL_law 492 = .ok (.ifCond .eq 5, 3) := by decide +kernel
theorem dL_law_495 : decode cL_law 495 = .ok (.iconst 0, 1) := by decide +kernel
theorem dL_law_496 : decode cL_law 496 = .ok (.ireturn, 1) := by decide +kernel
theorem dL_law_497 : decode cL_law 497 = .ok (.goto 931, 3) := by decide +kernel
theorem dL_law_500 : decode cL_law 500 = .ok (.aload_n 1, 1) := by decide +kernel
theorem dL_law_501 : decode cL_law 501 = .ok (.aload_n 0, 1) := by decide +kernel
theorem dL_law_502 : decode cL_law 502 = .ok (.iload 4, 2) := by decide +kernel
theorem dL_law_504 : decode cL_law 504 = .ok (.iconst 1, 1) := by decide +kernel
theorem dL_law_505 : decode cL_law 505 = .ok (.iadd, 1) := by decide +kernel
theorem dL_law_506 : decode cL_law 506 = .ok (.iaload, 1) := by decide +kernel
theorem dL_law_507 : decode cL_law 507 = .ok (.aload_n 0, 1) := by decide +kernel
theorem dL_law_508 : decode cL_law 508 = .ok (.iload 4, 2) := by decide +kernel
theorem dL_law_510 : decode cL_law 510 = .ok (.iconst 2, 1) := by decide +kernel
theorem dL_law_511 : decode cL_law 511 = .ok (.iadd, 1) := by decide +kernel
theorem dL_law_512 : decode cL_law 512 = .ok (.iaload, 1) := by decide +kernel
theorem dL_law_513 : decode cL_law 513 = .ok (.aload_n 0, 1) := by decide +kernel
theorem dL_law_514 : decode cL_law 514 = .ok (.iload 4, 2) := by decide +kernel
theorem dL_law_516 : decode cL_law 516 = .ok (.iconst 3, 1) := by decide +kernel
theorem dL_law_517 : decode cL_law 517 = .ok (.iadd, 1) := by decide +kernel
theorem dL_law_518 : decode cL_law 518 = .ok (.iaload, 1) := by decide +kernel
theorem dL_law_519 : decode cL_law 519 = .ok (.aload_n 3, 1) := by decide +kernel
theorem dL_law_520 : decode cL_law 520 = .ok (.invokestatic 106, 3) := by decide +kernel
theorem dL_law_523 : decode cL_law 523 = .ok (.istore 5, 2) := by decide +kernel
theorem dL_law_525 : decode cL_law 525 = .ok (.aload_n 2, 1) := by decide +kernel
theorem dL_law_526 : decode cL_law 526 = .ok (.aload_n 0, 1) := by decide +kernel
theorem dL_law_527 : decode cL_law 527 = .ok (.iload 4, 2) := by decide +kernel
theorem dL_law_529 : decode cL_law 529 = .ok (.iconst 1, 1) := by decide +kernel
theorem dL_law_530 : decode cL_law 530 = .ok (.iadd, 1) := by decide +kernel
theorem dL_law_531 : decode cL_law 531 = .ok (.iaload, 1) := by decide +kernel
theorem dL_law_532 : decode cL_law 532 = .ok (.aload_n 0, 1) := by decide +kernel
theorem dL_law_533 : decode cL_law 533 = .ok (.iload 4, 2) := by decide +kernel
theorem dL_law_535 : decode cL_law 535 = .ok (.iconst 2, 1) := by decide +kernel
theorem dL_law_536 : decode cL_law 536 = .ok (.iadd, 1) := by decide +kernel
theorem dL_law_537 : decode cL_law 537 = .ok (.iaload, 1) := by decide +kernel
theorem dL_law_538 : decode cL_law 538 = .ok (.aload_n 0, 1) := by decide +kernel
theorem dL_law_539 : decode cL_law 539 = .ok (.iload 4, 2) := by decide +kernel
theorem dL_law_541 : decode cL_law 541 = .ok (.iconst 3, 1) := by decide +kernel
theorem dL_law_542 : decode cL_law 542 = .ok (.iadd, 1) := by decide +kernel
theorem dL_law_543 : decode cL_law 543 = .ok (.iaload, 1) := by decide +kernel
theorem dL_law_544 : decode cL_law 544 = .ok (.invokevirtual 109, 3) := by decide +kernel
theorem dL_law_547 : decode cL_law 547 = .ok (.istore 6, 2) := by decide +kernel
theorem dL_law_549 : decode cL_law 549 = .ok (.aload_n 2, 1) := by decide +kernel
theorem dL_law_550 : decode cL_law 550 = .ok (.invokevirtual 87, 3) := by decide +kernel
theorem dL_law_553 : decode cL_law 553 = .ok (.iload 5, 2) := by decide +kernel
theorem dL_law_555 : decode cL_law 555 = .ok (.if_icmp .eq 5, 3) := by decide +kernel
theorem dL_law_558 : decode cL_law 558 = .ok (.iconst 0, 1) := by decide +kernel
theorem dL_law_559 : decode cL_law 559 = .ok (.ireturn, 1) := by decide +kernel
theorem dL_law_560 : decode cL_law 560 = .ok (.iload 5, 2) := by decide +kernel
theorem dL_law_562 : decode cL_law 562 = .ok (.ifCond .ne 15, 3) := by decide +kernel
theorem dL_law_565 : decode cL_law 565 = .ok (.aload_n 3, 1) := by decide +kernel
theorem dL_law_566 : decode cL_law 566 = .ok (.iconst 0, 1) := by decide +kernel
theorem dL_law_567 : decode cL_law 567 = .ok (.laload, 1) := by decide +kernel
theorem dL_law_568 : decode cL_law 568 = .ok (.iload 6, 2) := by decide +kernel
theorem dL_law_570 : decode cL_law 570 = .ok (.i2l, 1) := by decide +kernel
theorem dL_law_571 : decode cL_law 571 = .ok (.lcmp, 1) := by decide +kernel
theorem dL_law_572 : decode cL_law 572 = .ok (.ifCond .eq 5, 3) := by decide +kernel
theorem dL_law_575 : decode cL_law 575 = .ok (.iconst 0, 1) := by decide +kernel
theorem dL_law_576 : decode cL_law 576 = .ok (.ireturn, 1) := by decide +kernel
theorem dL_law_577 : decode cL_law 577 = .ok (.goto 851, 3) := by decide +kernel
theorem dL_law_580 : decode cL_law 580 = .ok (.aload_n 1, 1) := by decide +kernel
theorem dL_law_581 : decode cL_law 581 = .ok (.aload_n 0, 1) := by decide +kernel
theorem dL_law_582 : decode cL_law 582 = .ok (.iload 4, 2) := by decide +kernel
theorem dL_law_584 : decode cL_law 584 = .ok (.iconst 1, 1) := by decide +kernel
theorem dL_law_585 : decode cL_law 585 = .ok (.iadd, 1) := by decide +kernel
theorem dL_law_586 : decode cL_law 586 = .ok (.iaload, 1) := by decide +kernel
theorem dL_law_587 : decode cL_law 587 = .ok (.aload_n 0, 1) := by decide +kernel
theorem dL_law_588 : decode cL_law 588 = .ok (.iload 4, 2) := by decide +kernel
theorem dL_law_590 : decode cL_law 590 = .ok (.iconst 2, 1) := by decide +kernel
theorem dL_law_591 : decode cL_law 591 = .ok (.iadd, 1) := by decide +kernel
theorem dL_law_592 : decode cL_law 592 = .ok (.iaload, 1) := by decide +kernel
theorem dL_law_593 : decode cL_law 593 = .ok (.aload_n 0, 1) := by decide +kernel
theorem dL_law_594 : decode cL_law 594 = .ok (.iload 4, 2) := by decide +kernel
theorem dL_law_596 : decode cL_law 596 = .ok (.iconst 3, 1) := by decide +kernel
theorem dL_law_597 : decode cL_law 597 = .ok (.iadd, 1) := by decide +kernel
theorem dL_law_598 : decode cL_law 598 = .ok (.iaload, 1) := by decide +kernel
theorem dL_law_599 : decode cL_law 599 = .ok (.aload_n 3, 1) := by decide +kernel
theorem dL_law_600 : decode cL_law 600 = .ok (.invokestatic 110, 3) := by decide +kernel
theorem dL_law_603 : decode cL_law 603 = .ok (.istore 5, 2) := by decide +kernel
theorem dL_law_605 : decode cL_law 605 = .ok (.aload_n 2, 1) := by decide +kernel
theorem dL_law_606 : decode cL_law 606 = .ok (.aload_n 0, 1) := by decide +kernel
theorem dL_law_607 : decode cL_law 607 = .ok (.iload 4, 2) := by decide +kernel
theorem dL_law_609 : decode cL_law 609 = .ok (.iconst 1, 1) := by decide +kernel
theorem dL_law_610 : decode cL_law 610 = .ok (.iadd, 1) := by decide +kernel
theorem dL_law_611 : decode cL_law 611 = .ok (.iaload, 1) := by decide +kernel
theorem dL_law_612 : decode cL_law 612 = .ok (.aload_n 0, 1) := by decide +kernel
theorem dL_law_613 : decode cL_law 613 = .ok (.iload 4, 2) := by decide +kernel
theorem dL_law_615 : decode cL_law 615 = .ok (.iconst 2, 1) := by decide +kernel
theorem dL_law_616 : decode cL_law 616 = .ok (.iadd, 1) := by decide +kernel
theorem dL_law_617 : decode cL_law 617 = .ok (.iaload, 1) := by decide +kernel
theorem dL_law_618 : decode cL_law 618 = .ok (.aload_n 0, 1) := by decide +kernel
theorem dL_law_619 : decode cL_law 619 = .ok (.iload 4, 2) := by decide +kernel
theorem dL_law_621 : decode cL_law 621 = .ok (.iconst 3, 1) := by decide +kernel
theorem dL_law_622 : decode cL_law 622 = .ok (.iadd, 1) := by decide +kernel
theorem dL_law_623 : decode cL_law 623 = .ok (.iaload, 1) := by decide +kernel
theorem dL_law_624 : decode cL_law 624 = .ok (.invokevirtual 112, 3) := by decide +kernel
theorem dL_law_627 : decode cL_law 627 = .ok (.istore 6, 2) := by decide +kernel
theorem dL_law_629 : decode cL_law 629 = .ok (.aload_n 2, 1) := by decide +kernel
theorem dL_law_630 : decode cL_law 630 = .ok (.invokevirtual 87, 3) := by decide +kernel
theorem dL_law_633 : decode cL_law 633 = .ok (.iload 5, 2) := by decide +kernel
theorem dL_law_635 : decode cL_law 635 = .ok (.if_icmp .eq 5, 3) := by decide +kernel
theorem dL_law_638 : decode cL_law 638 = .ok (.iconst 0, 1) := by decide +kernel
theorem dL_law_639 : decode cL_law 639 = .ok (.ireturn, 1) := by decide +kernel
theorem dL_law_640 : decode cL_law 640 = .ok (.iload 5, 2) := by decide +kernel
theorem dL_law_642 : decode cL_law 642 = .ok (.ifCond .ne 15, 3) := by decide +kernel
theorem dL_law_645 : decode cL_law 645 = .ok (.aload_n 3, 1) := by decide +kernel
theorem dL_law_646 : decode cL_law 646 = .ok (.iconst 0, 1) := by decide +kernel
theorem dL_law_647 : decode cL_law 647 = .ok (.laload, 1) := by decide +kernel
theorem dL_law_648 : decode cL_law 648 = .ok (.iload 6, 2) := by decide +kernel
theorem dL_law_650 : decode cL_law 650 = .ok (.i2l, 1) := by decide +kernel
theorem dL_law_651 : decode cL_law 651 = .ok (.lcmp, 1) := by decide +kernel
theorem dL_law_652 : decode cL_law 652 = .ok (.ifCond .eq 5, 3) := by decide +kernel
theorem dL_law_655 : decode cL_law 655 = .ok (.iconst 0, 1) := by decide +kernel
theorem dL_law_656 : decode cL_law 656 = .ok (.ireturn, 1) := by decide +kernel
theorem dL_law_657 : decode cL_law 657 = .ok (.goto 771, 3) := by decide +kernel
theorem dL_law_660 : decode cL_law 660 = .ok (.aload_n 1, 1) := by decide +kernel
theorem dL_law_661 : decode cL_law 661 = .ok (.aload_n 0, 1) := by decide +kernel
theorem dL_law_662 : decode cL_law 662 = .ok (.iload 4, 2) := by decide +kernel
theorem dL_law_664 : decode cL_law 664 = .ok (.iconst 1, 1) := by decide +kernel
theorem dL_law_665 : decode cL_law 665 = .ok (.iadd, 1) := by decide +kernel
theorem dL_law_666 : decode cL_law 666 = .ok (.iaload, 1) := by decide +kernel
theorem dL_law_667 : decode cL_law 667 = .ok (.aload_n 0, 1) := by decide +kernel
theorem dL_law_668 : decode cL_law 668 = .ok (.iload 4, 2) := by decide +kernel
theorem dL_law_670 : decode cL_law 670 = .ok (.iconst 2, 1) := by decide +kernel
theorem dL_law_671 : decode cL_law 671 = .ok (.iadd, 1) := by decide +kernel
theorem dL_law_672 : decode cL_law 672 = .ok (.iaload, 1) := by decide +kernel
theorem dL_law_673 : decode cL_law 673 = .ok (.aload_n 0, 1) := by decide +kernel
theorem dL_law_674 : decode cL_law 674 = .ok (.iload 4, 2) := by decide +kernel
theorem dL_law_676 : decode cL_law 676 = .ok (.iconst 3, 1) := by decide +kernel
theorem dL_law_677 : decode cL_law 677 = .ok (.iadd, 1) := by decide +kernel
theorem dL_law_678 : decode cL_law 678 = .ok (.iaload, 1) := by decide +kernel
theorem dL_law_679 : decode cL_law 679 = .ok (.aload_n 3, 1) := by decide +kernel
theorem dL_law_680 : decode cL_law 680 = .ok (.invokestatic 113, 3) := by decide +kernel
theorem dL_law_683 : decode cL_law 683 = .ok (.istore 5, 2) := by decide +kernel
theorem dL_law_685 : decode cL_law 685 = .ok (.aload_n 2, 1) := by decide +kernel
theorem dL_law_686 : decode cL_law 686 = .ok (.aload_n 0, 1) := by decide +kernel
theorem dL_law_687 : decode cL_law 687 = .ok (.iload 4, 2) := by decide +kernel
theorem dL_law_689 : decode cL_law 689 = .ok (.iconst 1, 1) := by decide +kernel
theorem dL_law_690 : decode cL_law 690 = .ok (.iadd, 1) := by decide +kernel
theorem dL_law_691 : decode cL_law 691 = .ok (.iaload, 1) := by decide +kernel
theorem dL_law_692 : decode cL_law 692 = .ok (.aload_n 0, 1) := by decide +kernel
theorem dL_law_693 : decode cL_law 693 = .ok (.iload 4, 2) := by decide +kernel
theorem dL_law_695 : decode cL_law 695 = .ok (.iconst 2, 1) := by decide +kernel
theorem dL_law_696 : decode cL_law 696 = .ok (.iadd, 1) := by decide +kernel
theorem dL_law_697 : decode cL_law 697 = .ok (.iaload, 1) := by decide +kernel
theorem dL_law_698 : decode cL_law 698 = .ok (.aload_n 0, 1) := by decide +kernel
theorem dL_law_699 : decode cL_law 699 = .ok (.iload 4, 2) := by decide +kernel
theorem dL_law_701 : decode cL_law 701 = .ok (.iconst 3, 1) := by decide +kernel
theorem dL_law_702 : decode cL_law 702 = .ok (.iadd, 1) := by decide +kernel
theorem dL_law_703 : decode cL_law 703 = .ok (.iaload, 1) := by decide +kernel
theorem dL_law_704 : decode cL_law 704 = .ok (.invokevirtual 115, 3) := by decide +kernel
theorem dL_law_707 : decode cL_law 707 = .ok (.istore 6, 2) := by decide +kernel
theorem dL_law_709 : decode cL_law 709 = .ok (.aload_n 2, 1) := by decide +kernel
theorem dL_law_710 : decode cL_law 710 = .ok (.invokevirtual 87, 3) := by decide +kernel
theorem dL_law_713 : decode cL_law 713 = .ok (.iload 5, 2) := by decide +kernel
theorem dL_law_715 : decode cL_law 715 = .ok (.if_icmp .eq 5, 3) := by decide +kernel
theorem dL_law_718 : decode cL_law 718 = .ok (.iconst 0, 1) := by decide +kernel
theorem dL_law_719 : decode cL_law 719 = .ok (.ireturn, 1) := by decide +kernel
theorem dL_law_720 : decode cL_law 720 = .ok (.iload 5, 2) := by decide +kernel
theorem dL_law_722 : decode cL_law 722 = .ok (.ifCond .ne 15, 3) := by decide +kernel
theorem dL_law_725 : decode cL_law 725 = .ok (.aload_n 3, 1) := by decide +kernel
theorem dL_law_726 : decode cL_law 726 = .ok (.iconst 0, 1) := by decide +kernel
theorem dL_law_727 : decode cL_law 727 = .ok (.laload, 1) := by decide +kernel
theorem dL_law_728 : decode cL_law 728 = .ok (.iload 6, 2) := by decide +kernel
theorem dL_law_730 : decode cL_law 730 = .ok (.i2l, 1) := by decide +kernel
theorem dL_law_731 : decode cL_law 731 = .ok (.lcmp, 1) := by decide +kernel
theorem dL_law_732 : decode cL_law 732 = .ok (.ifCond .eq 5, 3) := by decide +kernel
theorem dL_law_735 : decode cL_law 735 = .ok (.iconst 0, 1) := by decide +kernel
theorem dL_law_736 : decode cL_law 736 = .ok (.ireturn, 1) := by decide +kernel
theorem dL_law_737 : decode cL_law 737 = .ok (.goto 691, 3) := by decide +kernel
theorem dL_law_740 : decode cL_law 740 = .ok (.aload_n 1, 1) := by decide +kernel
theorem dL_law_741 : decode cL_law 741 = .ok (.invokevirtual 116, 3) := by decide +kernel
theorem dL_law_744 : decode cL_law 744 = .ok (.aload_n 2, 1) := by decide +kernel
theorem dL_law_745 : decode cL_law 745 = .ok (.invokevirtual 119, 3) := by decide +kernel
theorem dL_law_748 : decode cL_law 748 = .ok (.if_icmp .eq 680, 3) := by decide +kernel
theorem dL_law_751 : decode cL_law 751 = .ok (.iconst 0, 1) := by decide +kernel
theorem dL_law_752 : decode cL_law 752 = .ok (.ireturn, 1) := by decide +kernel
theorem dL_law_753 : decode cL_law 753 = .ok (.aload_n 1, 1) := by decide +kernel
theorem dL_law_754 : decode cL_law 754 = .ok (.aload_n 0, 1) := by decide +kernel
theorem dL_law_755 : decode cL_law 755 = .ok (.iload 4, 2) := by decide +kernel
theorem dL_law_757 : decode cL_law 757 = .ok (.iconst 1, 1) := by decide +kernel
theorem dL_law_758 : decode cL_law 758 = .ok (.iadd, 1) := by decide +kernel
theorem dL_law_759 : decode cL_law 759 = .ok (.iaload, 1) := by decide +kernel
theorem dL_law_760 : decode cL_law 760 = .ok (.aload_n 3, 1) := by decide +kernel
theorem dL_law_761 : decode cL_law 761 = .ok (.invokestatic 120, 3) := by decide +kernel
theorem dL_law_764 : decode cL_law 764 = .ok (.istore 5, 2) := by decide +kernel
theorem dL_law_766 : decode cL_law 766 = .ok (.aload_n 2, 1) := by decide +kernel
theorem dL_law_767 : decode cL_law 767 = .ok (.aload_n 0, 1) := by decide +kernel
theorem dL_law_768 : decode cL_law 768 = .ok (.iload 4, 2) := by decide +kernel
theorem dL_law_770 : decode cL_law 770 = .ok (.iconst 1, 1) := by decide +kernel
theorem dL_law_771 : decode cL_law 771 = .ok (.iadd, 1) := by decide +kernel
theorem dL_law_772 : decode cL_law 772 = .ok (.iaload, 1) := by decide +kernel
theorem dL_law_773 : decode cL_law 773 = .ok (.invokevirtual 123, 3) := by decide +kernel
theorem dL_law_776 : decode cL_law 776 = .ok (.istore 6, 2) := by decide +kernel
theorem dL_law_778 : decode cL_law 778 = .ok (.aload_n 2, 1) := by decide +kernel
theorem dL_law_779 : decode cL_law 779 = .ok (.invokevirtual 87, 3) := by decide +kernel
theorem dL_law_782 : decode cL_law 782 = .ok (.iload 5, 2) := by decide +kernel
theorem dL_law_784 : decode cL_law 784 = .ok (.if_icmp .eq 5, 3) := by decide +kernel
theorem dL_law_787 : decode cL_law 787 = .ok (.iconst 0, 1) := by decide +kernel
theorem dL_law_788 : decode cL_law 788 = .ok (.ireturn, 1) := by decide +kernel
theorem dL_law_789 : decode cL_law 789 = .ok (.iload 5, 2) := by decide +kernel
theorem dL_law_791 : decode cL_law 791 = .ok (.ifCond .ne 15, 3) := by decide +kernel
theorem dL_law_794 : decode cL_law 794 = .ok (.aload_n 3, 1) := by decide +kernel
theorem dL_law_795 : decode cL_law 795 = .ok (.iconst 0, 1) := by decide +kernel
theorem dL_law_796 : decode cL_law 796 = .ok (.laload, 1) := by decide +kernel
theorem dL_law_797 : decode cL_law 797 = .ok (.iload 6, 2) := by decide +kernel
theorem dL_law_799 : decode cL_law 799 = .ok (.i2l, 1) := by decide +kernel
theorem dL_law_800 : decode cL_law 800 = .ok (.lcmp, 1) := by decide +kernel
theorem dL_law_801 : decode cL_law 801 = .ok (.ifCond .eq 5, 3) := by decide +kernel
theorem dL_law_804 : decode cL_law 804 = .ok (.iconst 0, 1) := by decide +kernel
theorem dL_law_805 : decode cL_law 805 = .ok (.ireturn, 1) := by decide +kernel
theorem dL_law_806 : decode cL_law 806 = .ok (.goto 622, 3) := by decide +kernel
theorem dL_law_809 : decode cL_law 809 = .ok (.aload_n 1, 1) := by decide +kernel
theorem dL_law_810 : decode cL_law 810 = .ok (.aload_n 0, 1) := by decide +kernel
theorem dL_law_811 : decode cL_law 811 = .ok (.iload 4, 2) := by decide +kernel
theorem dL_law_813 : decode cL_law 813 = .ok (.iconst 1, 1) := by decide +kernel
theorem dL_law_814 : decode cL_law 814 = .ok (.iadd, 1) := by decide +kernel
